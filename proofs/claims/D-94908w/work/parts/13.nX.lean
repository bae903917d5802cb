set_option maxRecDepth 100000
/-! ThreadTown$Fault -/
abbrev cX1_init : ByteArray := prog_10_method_1_code
def yX1_init : MethodName := ⟨RX1, "<init>", "()V"⟩
def dkwX1_init_0 : List UInt8 := [42, 18, 1, 1, 3, 3, 183, 0, 3, 177]
abbrev dktX1_init_0 : List UInt8 := dkwX1_init_0 ++ []
theorem dksX1_init_0 : cX1_init.data.toList.drop 0 = dktX1_init_0 := by decide +kernel
theorem dX1_init_0 : decode cX1_init 0 = .ok (.aload_n 0, 1) := dk_42 (dk_at dksX1_init_0 0 rfl rfl)
theorem dX1_init_1 : decode cX1_init 1 = .ok (.ldc 1, 2) := dk_18 1 (dk_at dksX1_init_0 1 rfl rfl)
theorem dX1_init_3 : decode cX1_init 3 = .ok (.aconst_null, 1) := dk_1 (dk_at dksX1_init_0 3 rfl rfl)
theorem dX1_init_4 : decode cX1_init 4 = .ok (.iconst 0, 1) := dk_3 (dk_at dksX1_init_0 4 rfl rfl)
theorem dX1_init_5 : decode cX1_init 5 = .ok (.iconst 0, 1) := dk_3 (dk_at dksX1_init_0 5 rfl rfl)
theorem dX1_init_6 : decode cX1_init 6 = .ok (.invokespecial 3, 3) := dk_183 0 3 (dk_at dksX1_init_0 6 rfl rfl)
theorem dX1_init_9 : decode cX1_init 9 = .ok (.return_, 1) := dk_177 (dk_at dksX1_init_0 9 rfl rfl)
abbrev cX1_of : ByteArray := prog_10_method_2_code
def yX1_of : MethodName := ⟨RX1, "of", "(II)LThreadTown$Fault;"⟩
def dkwX1_of_0 : List UInt8 := [42, 27, 181, 0, 9, 42, 28, 181, 0, 15, 42, 176]
abbrev dktX1_of_0 : List UInt8 := dkwX1_of_0 ++ []
theorem dksX1_of_0 : cX1_of.data.toList.drop 0 = dktX1_of_0 := by decide +kernel
theorem dX1_of_0 : decode cX1_of 0 = .ok (.aload_n 0, 1) := dk_42 (dk_at dksX1_of_0 0 rfl rfl)
theorem dX1_of_1 : decode cX1_of 1 = .ok (.iload_n 1, 1) := dk_27 (dk_at dksX1_of_0 1 rfl rfl)
theorem dX1_of_2 : decode cX1_of 2 = .ok (.putfield 9, 3) := dk_181 0 9 (dk_at dksX1_of_0 2 rfl rfl)
theorem dX1_of_5 : decode cX1_of 5 = .ok (.aload_n 0, 1) := dk_42 (dk_at dksX1_of_0 5 rfl rfl)
theorem dX1_of_6 : decode cX1_of 6 = .ok (.iload_n 2, 1) := dk_28 (dk_at dksX1_of_0 6 rfl rfl)
theorem dX1_of_7 : decode cX1_of 7 = .ok (.putfield 15, 3) := dk_181 0 15 (dk_at dksX1_of_0 7 rfl rfl)
theorem dX1_of_10 : decode cX1_of 10 = .ok (.aload_n 0, 1) := dk_42 (dk_at dksX1_of_0 10 rfl rfl)
theorem dX1_of_11 : decode cX1_of 11 = .ok (.areturn, 1) := dk_176 (dk_at dksX1_of_0 11 rfl rfl)
def mX1_init : am_M := (yX1_init, cX1_init, 1, none, [])
theorem okX1_init : am_Ok mX1_init 0 := ⟨rfl, q201, q118, ⟨by decide +kernel, by decide +kernel, by decide +kernel⟩, by decide, by decide +kernel⟩
def mX1_of : am_M := (yX1_of, cX1_of, 3, (some (.object "ThreadTown$Fault")), [])
theorem okX1_of : am_Ok mX1_of 2 := ⟨rfl, q759, q118, ⟨by decide +kernel, by decide +kernel, by decide +kernel⟩, by decide, by decide +kernel⟩
/-! ThreadTown$Tokens -/
abbrev cX2_init : ByteArray := prog_18_method_1_code
def yX2_init : MethodName := ⟨RX2, "<init>", "()V"⟩
def dkwX2_init_6 : List UInt8 := [181, 0, 62, 42, 17, 7, 209, 188, 9, 181, 0, 65, 177]
abbrev dktX2_init_6 : List UInt8 := dkwX2_init_6 ++ []
def dkwX2_init_5 : List UInt8 := [17, 7, 209, 188, 8, 181, 0, 55, 42, 17, 7, 209, 188, 9, 181, 0, 58, 42, 17, 7, 209, 188, 9]
abbrev dktX2_init_5 : List UInt8 := dkwX2_init_5 ++ dktX2_init_6
def dkwX2_init_4 : List UInt8 := [16, 15, 18, 41, 83, 89, 16, 16, 18, 43, 83, 181, 0, 45, 42, 17, 7, 208, 188, 8, 181, 0, 51, 42]
abbrev dktX2_init_4 : List UInt8 := dkwX2_init_4 ++ dktX2_init_5
def dkwX2_init_3 : List UInt8 := [16, 11, 18, 33, 83, 89, 16, 12, 18, 35, 83, 89, 16, 13, 18, 37, 83, 89, 16, 14, 18, 39, 83, 89]
abbrev dktX2_init_3 : List UInt8 := dkwX2_init_3 ++ dktX2_init_4
def dkwX2_init_2 : List UInt8 := [16, 7, 18, 25, 83, 89, 16, 8, 18, 27, 83, 89, 16, 9, 18, 29, 83, 89, 16, 10, 18, 31, 83, 89]
abbrev dktX2_init_2 : List UInt8 := dkwX2_init_2 ++ dktX2_init_3
def dkwX2_init_1 : List UInt8 := [83, 89, 6, 18, 17, 83, 89, 7, 18, 19, 83, 89, 8, 18, 21, 83, 89, 16, 6, 18, 23, 83, 89]
abbrev dktX2_init_1 : List UInt8 := dkwX2_init_1 ++ dktX2_init_2
def dkwX2_init_0 : List UInt8 := [42, 183, 0, 3, 42, 16, 17, 189, 0, 9, 89, 3, 18, 11, 83, 89, 4, 18, 13, 83, 89, 5, 18, 15]
abbrev dktX2_init_0 : List UInt8 := dkwX2_init_0 ++ dktX2_init_1
theorem dksX2_init_0 : cX2_init.data.toList.drop 0 = dktX2_init_0 := by decide +kernel
theorem dksX2_init_1 : cX2_init.data.toList.drop 24 = dktX2_init_1 := dk_seg dksX2_init_0 24 rfl rfl
theorem dksX2_init_2 : cX2_init.data.toList.drop 47 = dktX2_init_2 := dk_seg dksX2_init_1 23 rfl rfl
theorem dksX2_init_3 : cX2_init.data.toList.drop 71 = dktX2_init_3 := dk_seg dksX2_init_2 24 rfl rfl
theorem dksX2_init_4 : cX2_init.data.toList.drop 95 = dktX2_init_4 := dk_seg dksX2_init_3 24 rfl rfl
theorem dksX2_init_5 : cX2_init.data.toList.drop 119 = dktX2_init_5 := dk_seg dksX2_init_4 24 rfl rfl
theorem dksX2_init_6 : cX2_init.data.toList.drop 142 = dktX2_init_6 := dk_seg dksX2_init_5 23 rfl rfl
theorem dX2_init_0 : decode cX2_init 0 = .ok (.aload_n 0, 1) := dk_42 (dk_at dksX2_init_0 0 rfl rfl)
theorem dX2_init_1 : decode cX2_init 1 = .ok (.invokespecial 3, 3) := dk_183 0 3 (dk_at dksX2_init_0 1 rfl rfl)
theorem dX2_init_4 : decode cX2_init 4 = .ok (.aload_n 0, 1) := dk_42 (dk_at dksX2_init_0 4 rfl rfl)
theorem dX2_init_5 : decode cX2_init 5 = .ok (.bipush 17, 2) := dk_16 17 (dk_at dksX2_init_0 5 rfl rfl)
theorem dX2_init_7 : decode cX2_init 7 = .ok (.anewarray 9, 3) := dk_189 0 9 (dk_at dksX2_init_0 7 rfl rfl)
theorem dX2_init_10 : decode cX2_init 10 = .ok (.dup, 1) := dk_89 (dk_at dksX2_init_0 10 rfl rfl)
theorem dX2_init_11 : decode cX2_init 11 = .ok (.iconst 0, 1) := dk_3 (dk_at dksX2_init_0 11 rfl rfl)
theorem dX2_init_12 : decode cX2_init 12 = .ok (.ldc 11, 2) := dk_18 11 (dk_at dksX2_init_0 12 rfl rfl)
theorem dX2_init_14 : decode cX2_init 14 = .ok (.aastore, 1) := dk_83 (dk_at dksX2_init_0 14 rfl rfl)
theorem dX2_init_15 : decode cX2_init 15 = .ok (.dup, 1) := dk_89 (dk_at dksX2_init_0 15 rfl rfl)
theorem dX2_init_16 : decode cX2_init 16 = .ok (.iconst 1, 1) := dk_4 (dk_at dksX2_init_0 16 rfl rfl)
theorem dX2_init_17 : decode cX2_init 17 = .ok (.ldc 13, 2) := dk_18 13 (dk_at dksX2_init_0 17 rfl rfl)
theorem dX2_init_19 : decode cX2_init 19 = .ok (.aastore, 1) := dk_83 (dk_at dksX2_init_0 19 rfl rfl)
theorem dX2_init_20 : decode cX2_init 20 = .ok (.dup, 1) := dk_89 (dk_at dksX2_init_0 20 rfl rfl)
theorem dX2_init_21 : decode cX2_init 21 = .ok (.iconst 2, 1) := dk_5 (dk_at dksX2_init_0 21 rfl rfl)
theorem dX2_init_22 : decode cX2_init 22 = .ok (.ldc 15, 2) := dk_18 15 (dk_at dksX2_init_0 22 rfl rfl)
theorem dX2_init_24 : decode cX2_init 24 = .ok (.aastore, 1) := dk_83 (dk_at dksX2_init_1 0 rfl rfl)
theorem dX2_init_25 : decode cX2_init 25 = .ok (.dup, 1) := dk_89 (dk_at dksX2_init_1 1 rfl rfl)
theorem dX2_init_26 : decode cX2_init 26 = .ok (.iconst 3, 1) := dk_6 (dk_at dksX2_init_1 2 rfl rfl)
theorem dX2_init_27 : decode cX2_init 27 = .ok (.ldc 17, 2) := dk_18 17 (dk_at dksX2_init_1 3 rfl rfl)
theorem dX2_init_29 : decode cX2_init 29 = .ok (.aastore, 1) := dk_83 (dk_at dksX2_init_1 5 rfl rfl)
theorem dX2_init_30 : decode cX2_init 30 = .ok (.dup, 1) := dk_89 (dk_at dksX2_init_1 6 rfl rfl)
theorem dX2_init_31 : decode cX2_init 31 = .ok (.iconst 4, 1) := dk_7 (dk_at dksX2_init_1 7 rfl rfl)
theorem dX2_init_32 : decode cX2_init 32 = .ok (.ldc 19, 2) := dk_18 19 (dk_at dksX2_init_1 8 rfl rfl)
theorem dX2_init_34 : decode cX2_init 34 = .ok (.aastore, 1) := dk_83 (dk_at dksX2_init_1 10 rfl rfl)
theorem dX2_init_35 : decode cX2_init 35 = .ok (.dup, 1) := dk_89 (dk_at dksX2_init_1 11 rfl rfl)
theorem dX2_init_36 : decode cX2_init 36 = .ok (.iconst 5, 1) := dk_8 (dk_at dksX2_init_1 12 rfl rfl)
theorem dX2_init_37 : decode cX2_init 37 = .ok (.ldc 21, 2) := dk_18 21 (dk_at dksX2_init_1 13 rfl rfl)
theorem dX2_init_39 : decode cX2_init 39 = .ok (.aastore, 1) := dk_83 (dk_at dksX2_init_1 15 rfl rfl)
theorem dX2_init_40 : decode cX2_init 40 = .ok (.dup, 1) := dk_89 (dk_at dksX2_init_1 16 rfl rfl)
theorem dX2_init_41 : decode cX2_init 41 = .ok (.bipush 6, 2) := dk_16 6 (dk_at dksX2_init_1 17 rfl rfl)
theorem dX2_init_43 : decode cX2_init 43 = .ok (.ldc 23, 2) := dk_18 23 (dk_at dksX2_init_1 19 rfl rfl)
theorem dX2_init_45 : decode cX2_init 45 = .ok (.aastore, 1) := dk_83 (dk_at dksX2_init_1 21 rfl rfl)
theorem dX2_init_46 : decode cX2_init 46 = .ok (.dup, 1) := dk_89 (dk_at dksX2_init_1 22 rfl rfl)
theorem dX2_init_47 : decode cX2_init 47 = .ok (.bipush 7, 2) := dk_16 7 (dk_at dksX2_init_2 0 rfl rfl)
theorem dX2_init_49 : decode cX2_init 49 = .ok (.ldc 25, 2) := dk_18 25 (dk_at dksX2_init_2 2 rfl rfl)
theorem dX2_init_51 : decode cX2_init 51 = .ok (.aastore, 1) := dk_83 (dk_at dksX2_init_2 4 rfl rfl)
theorem dX2_init_52 : decode cX2_init 52 = .ok (.dup, 1) := dk_89 (dk_at dksX2_init_2 5 rfl rfl)
theorem dX2_init_53 : decode cX2_init 53 = .ok (.bipush 8, 2) := dk_16 8 (dk_at dksX2_init_2 6 rfl rfl)
theorem dX2_init_55 : decode cX2_init 55 = .ok (.ldc 27, 2) := dk_18 27 (dk_at dksX2_init_2 8 rfl rfl)
theorem dX2_init_57 : decode cX2_init 57 = .ok (.aastore, 1) := dk_83 (dk_at dksX2_init_2 10 rfl rfl)
theorem dX2_init_58 : decode cX2_init 58 = .ok (.dup, 1) := dk_89 (dk_at dksX2_init_2 11 rfl rfl)
theorem dX2_init_59 : decode cX2_init 59 = .ok (.bipush 9, 2) := dk_16 9 (dk_at dksX2_init_2 12 rfl rfl)
theorem dX2_init_61 : decode cX2_init 61 = .ok (.ldc 29, 2) := dk_18 29 (dk_at dksX2_init_2 14 rfl rfl)
theorem dX2_init_63 : decode cX2_init 63 = .ok (.aastore, 1) := dk_83 (dk_at dksX2_init_2 16 rfl rfl)
theorem dX2_init_64 : decode cX2_init 64 = .ok (.dup, 1) := dk_89 (dk_at dksX2_init_2 17 rfl rfl)
theorem dX2_init_65 : decode cX2_init 65 = .ok (.bipush 10, 2) := dk_16 10 (dk_at dksX2_init_2 18 rfl rfl)
theorem dX2_init_67 : decode cX2_init 67 = .ok (.ldc 31, 2) := dk_18 31 (dk_at dksX2_init_2 20 rfl rfl)
theorem dX2_init_69 : decode cX2_init 69 = .ok (.aastore, 1) := dk_83 (dk_at dksX2_init_2 22 rfl rfl)
theorem dX2_init_70 : decode cX2_init 70 = .ok (.dup, 1) := dk_89 (dk_at dksX2_init_2 23 rfl rfl)
theorem dX2_init_71 : decode cX2_init 71 = .ok (.bipush 11, 2) := dk_16 11 (dk_at dksX2_init_3 0 rfl rfl)
theorem dX2_init_73 : decode cX2_init 73 = .ok (.ldc 33, 2) := dk_18 33 (dk_at dksX2_init_3 2 rfl rfl)
theorem dX2_init_75 : decode cX2_init 75 = .ok (.aastore, 1) := dk_83 (dk_at dksX2_init_3 4 rfl rfl)
theorem dX2_init_76 : decode cX2_init 76 = .ok (.dup, 1) := dk_89 (dk_at dksX2_init_3 5 rfl rfl)
theorem dX2_init_77 : decode cX2_init 77 = .ok (.bipush 12, 2) := dk_16 12 (dk_at dksX2_init_3 6 rfl rfl)
theorem dX2_init_79 : decode cX2_init 79 = .ok (.ldc 35, 2) := dk_18 35 (dk_at dksX2_init_3 8 rfl rfl)
theorem dX2_init_81 : decode cX2_init 81 = .ok (.aastore, 1) := dk_83 (dk_at dksX2_init_3 10 rfl rfl)
theorem dX2_init_82 : decode cX2_init 82 = .ok (.dup, 1) := dk_89 (dk_at dksX2_init_3 11 rfl rfl)
theorem dX2_init_83 : decode cX2_init 83 = .ok (.bipush 13, 2) := dk_16 13 (dk_at dksX2_init_3 12 rfl rfl)
theorem dX2_init_85 : decode cX2_init 85 = .ok (.ldc 37, 2) := dk_18 37 (dk_at dksX2_init_3 14 rfl rfl)
theorem dX2_init_87 : decode cX2_init 87 = .ok (.aastore, 1) := dk_83 (dk_at dksX2_init_3 16 rfl rfl)
theorem dX2_init_88 : decode cX2_init 88 = .ok (.dup, 1) := dk_89 (dk_at dksX2_init_3 17 rfl rfl)
theorem dX2_init_89 : decode cX2_init 89 = .ok (.bipush 14, 2) := dk_16 14 (dk_at dksX2_init_3 18 rfl rfl)
theorem dX2_init_91 : decode cX2_init 91 = .ok (.ldc 39, 2) := dk_18 39 (dk_at dksX2_init_3 20 rfl rfl)
theorem dX2_init_93 : decode cX2_init 93 = .ok (.aastore, 1) := dk_83 (dk_at dksX2_init_3 22 rfl rfl)
theorem dX2_init_94 : decode cX2_init 94 = .ok (.dup, 1) := dk_89 (dk_at dksX2_init_3 23 rfl rfl)
theorem dX2_init_95 : decode cX2_init 95 = .ok (.bipush 15, 2) := dk_16 15 (dk_at dksX2_init_4 0 rfl rfl)
theorem dX2_init_97 : decode cX2_init 97 = .ok (.ldc 41, 2) := dk_18 41 (dk_at dksX2_init_4 2 rfl rfl)
theorem dX2_init_99 : decode cX2_init 99 = .ok (.aastore, 1) := dk_83 (dk_at dksX2_init_4 4 rfl rfl)
theorem dX2_init_100 : decode cX2_init 100 = .ok (.dup, 1) := dk_89 (dk_at dksX2_init_4 5 rfl rfl)
theorem dX2_init_101 : decode cX2_init 101 = .ok (.bipush 16, 2) := dk_16 16 (dk_at dksX2_init_4 6 rfl rfl)
theorem dX2_init_103 : decode cX2_init 103 = .ok (.ldc 43, 2) := dk_18 43 (dk_at dksX2_init_4 8 rfl rfl)
theorem dX2_init_105 : decode cX2_init 105 = .ok (.aastore, 1) := dk_83 (dk_at dksX2_init_4 10 rfl rfl)
theorem dX2_init_106 : decode cX2_init 106 = .ok (.putfield 45, 3) := dk_181 0 45 (dk_at dksX2_init_4 11 rfl rfl)
theorem dX2_init_109 : decode cX2_init 109 = .ok (.aload_n 0, 1) := dk_42 (dk_at dksX2_init_4 14 rfl rfl)
theorem dX2_init_110 : decode cX2_init 110 = .ok (.sipush 2000, 3) := dk_17 7 208 (dk_at dksX2_init_4 15 rfl rfl)
theorem dX2_init_113 : decode cX2_init 113 = .ok (.newarray .byte, 2) := dk_188_8 (dk_at dksX2_init_4 18 rfl rfl)
theorem dX2_init_115 : decode cX2_init 115 = .ok (.putfield 51, 3) := dk_181 0 51 (dk_at dksX2_init_4 20 rfl rfl)
theorem dX2_init_118 : decode cX2_init 118 = .ok (.aload_n 0, 1) := dk_42 (dk_at dksX2_init_4 23 rfl rfl)
theorem dX2_init_119 : decode cX2_init 119 = .ok (.sipush 2001, 3) := dk_17 7 209 (dk_at dksX2_init_5 0 rfl rfl)
theorem dX2_init_122 : decode cX2_init 122 = .ok (.newarray .byte, 2) := dk_188_8 (dk_at dksX2_init_5 3 rfl rfl)
theorem dX2_init_124 : decode cX2_init 124 = .ok (.putfield 55, 3) := dk_181 0 55 (dk_at dksX2_init_5 5 rfl rfl)
theorem dX2_init_127 : decode cX2_init 127 = .ok (.aload_n 0, 1) := dk_42 (dk_at dksX2_init_5 8 rfl rfl)
theorem dX2_init_128 : decode cX2_init 128 = .ok (.sipush 2001, 3) := dk_17 7 209 (dk_at dksX2_init_5 9 rfl rfl)
theorem dX2_init_131 : decode cX2_init 131 = .ok (.newarray .short, 2) := dk_188_9 (dk_at dksX2_init_5 12 rfl rfl)
theorem dX2_init_133 : decode cX2_init 133 = .ok (.putfield 58, 3) := dk_181 0 58 (dk_at dksX2_init_5 14 rfl rfl)
theorem dX2_init_136 : decode cX2_init 136 = .ok (.aload_n 0, 1) := dk_42 (dk_at dksX2_init_5 17 rfl rfl)
theorem dX2_init_137 : decode cX2_init 137 = .ok (.sipush 2001, 3) := dk_17 7 209 (dk_at dksX2_init_5 18 rfl rfl)
theorem dX2_init_140 : decode cX2_init 140 = .ok (.newarray .short, 2) := dk_188_9 (dk_at dksX2_init_5 21 rfl rfl)
theorem dX2_init_142 : decode cX2_init 142 = .ok (.putfield 62, 3) := dk_181 0 62 (dk_at dksX2_init_6 0 rfl rfl)
theorem dX2_init_145 : decode cX2_init 145 = .ok (.aload_n 0, 1) := dk_42 (dk_at dksX2_init_6 3 rfl rfl)
theorem dX2_init_146 : decode cX2_init 146 = .ok (.sipush 2001, 3) := dk_17 7 209 (dk_at dksX2_init_6 4 rfl rfl)
theorem dX2_init_149 : decode cX2_init 149 = .ok (.newarray .short, 2) := dk_188_9 (dk_at dksX2_init_6 7 rfl rfl)
theorem dX2_init_151 : decode cX2_init 151 = .ok (.putfield 65, 3) := dk_181 0 65 (dk_at dksX2_init_6 9 rfl rfl)
theorem dX2_init_154 : decode cX2_init 154 = .ok (.return_, 1) := dk_177 (dk_at dksX2_init_6 12 rfl rfl)
abbrev cX2_read : ByteArray := prog_18_method_8_code
def yX2_read : MethodName := ⟨RX2, "read", "()V"⟩
def dkwX2_read_9 : List UInt8 := [61, 21, 4, 60, 167, 255, 53, 28, 153, 0, 11, 42, 7, 27, 27, 3, 182, 0, 101, 177]
abbrev dktX2_read_9 : List UInt8 := dkwX2_read_9 ++ []
def dkwX2_read_8 : List UInt8 := [54, 5, 42, 21, 5, 27, 21, 4, 21, 6, 182, 0, 101, 21, 5, 8, 159, 0, 7, 4, 167, 0, 4, 3]
abbrev dktX2_read_8 : List UInt8 := dkwX2_read_8 ++ dktX2_read_9
def dkwX2_read_7 : List UInt8 := [4, 54, 5, 167, 0, 22, 42, 27, 182, 0, 98, 54, 6, 21, 6, 154, 0, 7, 8, 167, 0, 4, 5]
abbrev dktX2_read_7 : List UInt8 := dkwX2_read_7 ++ dktX2_read_8
def dkwX2_read_6 : List UInt8 := [182, 0, 95, 153, 0, 9, 132, 4, 1, 167, 255, 244, 21, 4, 27, 100, 7, 164, 0, 7, 8, 167, 0, 4]
abbrev dktX2_read_6 : List UInt8 := dkwX2_read_6 ++ dktX2_read_7
def dkwX2_read_5 : List UInt8 := [164, 0, 7, 8, 167, 0, 4, 3, 54, 5, 167, 0, 63, 42, 27, 182, 0, 95, 153, 0, 36, 42, 21, 4]
abbrev dktX2_read_5 : List UInt8 := dkwX2_read_5 ++ dktX2_read_6
def dkwX2_read_4 : List UInt8 := [21, 4, 182, 0, 91, 54, 6, 21, 6, 155, 0, 7, 6, 167, 0, 17, 21, 4, 27, 100, 16, 8]
abbrev dktX2_read_4 : List UInt8 := dkwX2_read_4 ++ dktX2_read_5
def dkwX2_read_3 : List UInt8 := [182, 0, 87, 153, 0, 55, 42, 21, 4, 182, 0, 87, 153, 0, 9, 132, 4, 1, 167, 255, 244, 42, 27]
abbrev dktX2_read_3 : List UInt8 := dkwX2_read_3 ++ dktX2_read_4
def dkwX2_read_2 : List UInt8 := [16, 10, 159, 0, 9, 29, 16, 13, 160, 0, 9, 132, 1, 1, 167, 255, 205, 3, 54, 6, 42, 27]
abbrev dktX2_read_2 : List UInt8 := dkwX2_read_2 ++ dktX2_read_3
def dkwX2_read_1 : List UInt8 := [180, 0, 51, 27, 51, 62, 27, 4, 96, 54, 4, 29, 16, 32, 159, 0, 21, 29, 16, 9, 159, 0, 15, 29]
abbrev dktX2_read_1 : List UInt8 := dkwX2_read_1 ++ dktX2_read_2
def dkwX2_read_0 : List UInt8 := [42, 3, 181, 0, 76, 3, 60, 4, 61, 27, 42, 180, 0, 68, 162, 0, 201, 28, 153, 0, 197, 42]
abbrev dktX2_read_0 : List UInt8 := dkwX2_read_0 ++ dktX2_read_1
theorem dksX2_read_0 : cX2_read.data.toList.drop 0 = dktX2_read_0 := by decide +kernel
theorem dksX2_read_1 : cX2_read.data.toList.drop 22 = dktX2_read_1 := dk_seg dksX2_read_0 22 rfl rfl
theorem dksX2_read_2 : cX2_read.data.toList.drop 46 = dktX2_read_2 := dk_seg dksX2_read_1 24 rfl rfl
theorem dksX2_read_3 : cX2_read.data.toList.drop 68 = dktX2_read_3 := dk_seg dksX2_read_2 22 rfl rfl
theorem dksX2_read_4 : cX2_read.data.toList.drop 91 = dktX2_read_4 := dk_seg dksX2_read_3 23 rfl rfl
theorem dksX2_read_5 : cX2_read.data.toList.drop 113 = dktX2_read_5 := dk_seg dksX2_read_4 22 rfl rfl
theorem dksX2_read_6 : cX2_read.data.toList.drop 137 = dktX2_read_6 := dk_seg dksX2_read_5 24 rfl rfl
theorem dksX2_read_7 : cX2_read.data.toList.drop 161 = dktX2_read_7 := dk_seg dksX2_read_6 24 rfl rfl
theorem dksX2_read_8 : cX2_read.data.toList.drop 184 = dktX2_read_8 := dk_seg dksX2_read_7 23 rfl rfl
theorem dksX2_read_9 : cX2_read.data.toList.drop 208 = dktX2_read_9 := dk_seg dksX2_read_8 24 rfl rfl
theorem dX2_read_0 : decode cX2_read 0 = .ok (.aload_n 0, 1) := dk_42 (dk_at dksX2_read_0 0 rfl rfl)
theorem dX2_read_1 : decode cX2_read 1 = .ok (.iconst 0, 1) := dk_3 (dk_at dksX2_read_0 1 rfl rfl)
theorem dX2_read_2 : decode cX2_read 2 = .ok (.putfield 76, 3) := dk_181 0 76 (dk_at dksX2_read_0 2 rfl rfl)
theorem dX2_read_5 : decode cX2_read 5 = .ok (.iconst 0, 1) := dk_3 (dk_at dksX2_read_0 5 rfl rfl)
theorem dX2_read_6 : decode cX2_read 6 = .ok (.istore_n 1, 1) := dk_60 (dk_at dksX2_read_0 6 rfl rfl)
theorem dX2_read_7 : decode cX2_read 7 = .ok (.iconst 1, 1) := dk_4 (dk_at dksX2_read_0 7 rfl rfl)
theorem dX2_read_8 : decode cX2_read 8 = .ok (.istore_n 2, 1) := dk_61 (dk_at dksX2_read_0 8 rfl rfl)
theorem dX2_read_9 : decode cX2_read 9 = .ok (.iload_n 1, 1) := dk_27 (dk_at dksX2_read_0 9 rfl rfl)
theorem dX2_read_10 : decode cX2_read 10 = .ok (.aload_n 0, 1) := dk_42 (dk_at dksX2_read_0 10 rfl rfl)
theorem dX2_read_11 : decode cX2_read 11 = .ok (.getfield 68, 3) := dk_180 0 68 (dk_at dksX2_read_0 11 rfl rfl)
theorem dX2_read_14 : decode cX2_read 14 = .ok (.if_icmp .ge 201, 3) := dk_162 0 201 (dk_at dksX2_read_0 14 rfl rfl)
theorem dX2_read_17 : decode cX2_read 17 = .ok (.iload_n 2, 1) := dk_28 (dk_at dksX2_read_0 17 rfl rfl)
theorem dX2_read_18 : decode cX2_read 18 = .ok (.ifCond .eq 197, 3) := dk_153 0 197 (dk_at dksX2_read_0 18 rfl rfl)
theorem dX2_read_21 : decode cX2_read 21 = .ok (.aload_n 0, 1) := dk_42 (dk_at dksX2_read_0 21 rfl rfl)
theorem dX2_read_22 : decode cX2_read 22 = .ok (.getfield 51, 3) := dk_180 0 51 (dk_at dksX2_read_1 0 rfl rfl)
theorem dX2_read_25 : decode cX2_read 25 = .ok (.iload_n 1, 1) := dk_27 (dk_at dksX2_read_1 3 rfl rfl)
theorem dX2_read_26 : decode cX2_read 26 = .ok (.baload, 1) := dk_51 (dk_at dksX2_read_1 4 rfl rfl)
theorem dX2_read_27 : decode cX2_read 27 = .ok (.istore_n 3, 1) := dk_62 (dk_at dksX2_read_1 5 rfl rfl)
theorem dX2_read_28 : decode cX2_read 28 = .ok (.iload_n 1, 1) := dk_27 (dk_at dksX2_read_1 6 rfl rfl)
theorem dX2_read_29 : decode cX2_read 29 = .ok (.iconst 1, 1) := dk_4 (dk_at dksX2_read_1 7 rfl rfl)
theorem dX2_read_30 : decode cX2_read 30 = .ok (.iadd, 1) := dk_96 (dk_at dksX2_read_1 8 rfl rfl)
theorem dX2_read_31 : decode cX2_read 31 = .ok (.istore 4, 2) := dk_54 4 (dk_at dksX2_read_1 9 rfl rfl)
theorem dX2_read_33 : decode cX2_read 33 = .ok (.iload_n 3, 1) := dk_29 (dk_at dksX2_read_1 11 rfl rfl)
theorem dX2_read_34 : decode cX2_read 34 = .ok (.bipush 32, 2) := dk_16 32 (dk_at dksX2_read_1 12 rfl rfl)
theorem dX2_read_36 : decode cX2_read 36 = .ok (.if_icmp .eq 21, 3) := dk_159 0 21 (dk_at dksX2_read_1 14 rfl rfl)
theorem dX2_read_39 : decode cX2_read 39 = .ok (.iload_n 3, 1) := dk_29 (dk_at dksX2_read_1 17 rfl rfl)
theorem dX2_read_40 : decode cX2_read 40 = .ok (.bipush 9, 2) := dk_16 9 (dk_at dksX2_read_1 18 rfl rfl)
theorem dX2_read_42 : decode cX2_read 42 = .ok (.if_icmp .eq 15, 3) := dk_159 0 15 (dk_at dksX2_read_1 20 rfl rfl)
theorem dX2_read_45 : decode cX2_read 45 = .ok (.iload_n 3, 1) := dk_29 (dk_at dksX2_read_1 23 rfl rfl)
theorem dX2_read_46 : decode cX2_read 46 = .ok (.bipush 10, 2) := dk_16 10 (dk_at dksX2_read_2 0 rfl rfl)
theorem dX2_read_48 : decode cX2_read 48 = .ok (.if_icmp .eq 9, 3) := dk_159 0 9 (dk_at dksX2_read_2 2 rfl rfl)
theorem dX2_read_51 : decode cX2_read 51 = .ok (.iload_n 3, 1) := dk_29 (dk_at dksX2_read_2 5 rfl rfl)
theorem dX2_read_52 : decode cX2_read 52 = .ok (.bipush 13, 2) := dk_16 13 (dk_at dksX2_read_2 6 rfl rfl)
theorem dX2_read_54 : decode cX2_read 54 = .ok (.if_icmp .ne 9, 3) := dk_160 0 9 (dk_at dksX2_read_2 8 rfl rfl)
theorem dX2_read_57 : decode cX2_read 57 = .ok (.iinc 1 1, 3) := dk_132 1 1 (dk_at dksX2_read_2 11 rfl rfl)
theorem dX2_read_60 : decode cX2_read 60 = .ok (.goto (-51), 3) := dk_167 255 205 (dk_at dksX2_read_2 14 rfl rfl)
theorem dX2_read_63 : decode cX2_read 63 = .ok (.iconst 0, 1) := dk_3 (dk_at dksX2_read_2 17 rfl rfl)
theorem dX2_read_64 : decode cX2_read 64 = .ok (.istore 6, 2) := dk_54 6 (dk_at dksX2_read_2 18 rfl rfl)
theorem dX2_read_66 : decode cX2_read 66 = .ok (.aload_n 0, 1) := dk_42 (dk_at dksX2_read_2 20 rfl rfl)
theorem dX2_read_67 : decode cX2_read 67 = .ok (.iload_n 1, 1) := dk_27 (dk_at dksX2_read_2 21 rfl rfl)
theorem dX2_read_68 : decode cX2_read 68 = .ok (.invokevirtual 87, 3) := dk_182 0 87 (dk_at dksX2_read_3 0 rfl rfl)
theorem dX2_read_71 : decode cX2_read 71 = .ok (.ifCond .eq 55, 3) := dk_153 0 55 (dk_at dksX2_read_3 3 rfl rfl)
theorem dX2_read_74 : decode cX2_read 74 = .ok (.aload_n 0, 1) := dk_42 (dk_at dksX2_read_3 6 rfl rfl)
theorem dX2_read_75 : decode cX2_read 75 = .ok (.iload 4, 2) := dk_21 4 (dk_at dksX2_read_3 7 rfl rfl)
theorem dX2_read_77 : decode cX2_read 77 = .ok (.invokevirtual 87, 3) := dk_182 0 87 (dk_at dksX2_read_3 9 rfl rfl)
theorem dX2_read_80 : decode cX2_read 80 = .ok (.ifCond .eq 9, 3) := dk_153 0 9 (dk_at dksX2_read_3 12 rfl rfl)
theorem dX2_read_83 : decode cX2_read 83 = .ok (.iinc 4 1, 3) := dk_132 4 1 (dk_at dksX2_read_3 15 rfl rfl)
theorem dX2_read_86 : decode cX2_read 86 = .ok (.goto (-12), 3) := dk_167 255 244 (dk_at dksX2_read_3 18 rfl rfl)
theorem dX2_read_89 : decode cX2_read 89 = .ok (.aload_n 0, 1) := dk_42 (dk_at dksX2_read_3 21 rfl rfl)
theorem dX2_read_90 : decode cX2_read 90 = .ok (.iload_n 1, 1) := dk_27 (dk_at dksX2_read_3 22 rfl rfl)
theorem dX2_read_91 : decode cX2_read 91 = .ok (.iload 4, 2) := dk_21 4 (dk_at dksX2_read_4 0 rfl rfl)
theorem dX2_read_93 : decode cX2_read 93 = .ok (.invokevirtual 91, 3) := dk_182 0 91 (dk_at dksX2_read_4 2 rfl rfl)
theorem dX2_read_96 : decode cX2_read 96 = .ok (.istore 6, 2) := dk_54 6 (dk_at dksX2_read_4 5 rfl rfl)
theorem dX2_read_98 : decode cX2_read 98 = .ok (.iload 6, 2) := dk_21 6 (dk_at dksX2_read_4 7 rfl rfl)
theorem dX2_read_100 : decode cX2_read 100 = .ok (.ifCond .lt 7, 3) := dk_155 0 7 (dk_at dksX2_read_4 9 rfl rfl)
theorem dX2_read_103 : decode cX2_read 103 = .ok (.iconst 3, 1) := dk_6 (dk_at dksX2_read_4 12 rfl rfl)
theorem dX2_read_104 : decode cX2_read 104 = .ok (.goto 17, 3) := dk_167 0 17 (dk_at dksX2_read_4 13 rfl rfl)
theorem dX2_read_107 : decode cX2_read 107 = .ok (.iload 4, 2) := dk_21 4 (dk_at dksX2_read_4 16 rfl rfl)
theorem dX2_read_109 : decode cX2_read 109 = .ok (.iload_n 1, 1) := dk_27 (dk_at dksX2_read_4 18 rfl rfl)
theorem dX2_read_110 : decode cX2_read 110 = .ok (.isub, 1) := dk_100 (dk_at dksX2_read_4 19 rfl rfl)
theorem dX2_read_111 : decode cX2_read 111 = .ok (.bipush 8, 2) := dk_16 8 (dk_at dksX2_read_4 20 rfl rfl)
theorem dX2_read_113 : decode cX2_read 113 = .ok (.if_icmp .le 7, 3) := dk_164 0 7 (dk_at dksX2_read_5 0 rfl rfl)
theorem dX2_read_116 : decode cX2_read 116 = .ok (.iconst 5, 1) := dk_8 (dk_at dksX2_read_5 3 rfl rfl)
theorem dX2_read_117 : decode cX2_read 117 = .ok (.goto 4, 3) := dk_167 0 4 (dk_at dksX2_read_5 4 rfl rfl)
theorem dX2_read_120 : decode cX2_read 120 = .ok (.iconst 0, 1) := dk_3 (dk_at dksX2_read_5 7 rfl rfl)
theorem dX2_read_121 : decode cX2_read 121 = .ok (.istore 5, 2) := dk_54 5 (dk_at dksX2_read_5 8 rfl rfl)
theorem dX2_read_123 : decode cX2_read 123 = .ok (.goto 63, 3) := dk_167 0 63 (dk_at dksX2_read_5 10 rfl rfl)
theorem dX2_read_126 : decode cX2_read 126 = .ok (.aload_n 0, 1) := dk_42 (dk_at dksX2_read_5 13 rfl rfl)
theorem dX2_read_127 : decode cX2_read 127 = .ok (.iload_n 1, 1) := dk_27 (dk_at dksX2_read_5 14 rfl rfl)
theorem dX2_read_128 : decode cX2_read 128 = .ok (.invokevirtual 95, 3) := dk_182 0 95 (dk_at dksX2_read_5 15 rfl rfl)
theorem dX2_read_131 : decode cX2_read 131 = .ok (.ifCond .eq 36, 3) := dk_153 0 36 (dk_at dksX2_read_5 18 rfl rfl)
theorem dX2_read_134 : decode cX2_read 134 = .ok (.aload_n 0, 1) := dk_42 (dk_at dksX2_read_5 21 rfl rfl)
theorem dX2_read_135 : decode cX2_read 135 = .ok (.iload 4, 2) := dk_21 4 (dk_at dksX2_read_5 22 rfl rfl)
theorem dX2_read_137 : decode cX2_read 137 = .ok (.invokevirtual 95, 3) := dk_182 0 95 (dk_at dksX2_read_6 0 rfl rfl)
theorem dX2_read_140 : decode cX2_read 140 = .ok (.ifCond .eq 9, 3) := dk_153 0 9 (dk_at dksX2_read_6 3 rfl rfl)
theorem dX2_read_143 : decode cX2_read 143 = .ok (.iinc 4 1, 3) := dk_132 4 1 (dk_at dksX2_read_6 6 rfl rfl)
theorem dX2_read_146 : decode cX2_read 146 = .ok (.goto (-12), 3) := dk_167 255 244 (dk_at dksX2_read_6 9 rfl rfl)
theorem dX2_read_149 : decode cX2_read 149 = .ok (.iload 4, 2) := dk_21 4 (dk_at dksX2_read_6 12 rfl rfl)
theorem dX2_read_151 : decode cX2_read 151 = .ok (.iload_n 1, 1) := dk_27 (dk_at dksX2_read_6 14 rfl rfl)
theorem dX2_read_152 : decode cX2_read 152 = .ok (.isub, 1) := dk_100 (dk_at dksX2_read_6 15 rfl rfl)
theorem dX2_read_153 : decode cX2_read 153 = .ok (.iconst 4, 1) := dk_7 (dk_at dksX2_read_6 16 rfl rfl)
theorem dX2_read_154 : decode cX2_read 154 = .ok (.if_icmp .le 7, 3) := dk_164 0 7 (dk_at dksX2_read_6 17 rfl rfl)
theorem dX2_read_157 : decode cX2_read 157 = .ok (.iconst 5, 1) := dk_8 (dk_at dksX2_read_6 20 rfl rfl)
theorem dX2_read_158 : decode cX2_read 158 = .ok (.goto 4, 3) := dk_167 0 4 (dk_at dksX2_read_6 21 rfl rfl)
theorem dX2_read_161 : decode cX2_read 161 = .ok (.iconst 1, 1) := dk_4 (dk_at dksX2_read_7 0 rfl rfl)
theorem dX2_read_162 : decode cX2_read 162 = .ok (.istore 5, 2) := dk_54 5 (dk_at dksX2_read_7 1 rfl rfl)
theorem dX2_read_164 : decode cX2_read 164 = .ok (.goto 22, 3) := dk_167 0 22 (dk_at dksX2_read_7 3 rfl rfl)
theorem dX2_read_167 : decode cX2_read 167 = .ok (.aload_n 0, 1) := dk_42 (dk_at dksX2_read_7 6 rfl rfl)
theorem dX2_read_168 : decode cX2_read 168 = .ok (.iload_n 1, 1) := dk_27 (dk_at dksX2_read_7 7 rfl rfl)
theorem dX2_read_169 : decode cX2_read 169 = .ok (.invokevirtual 98, 3) := dk_182 0 98 (dk_at dksX2_read_7 8 rfl rfl)
theorem dX2_read_172 : decode cX2_read 172 = .ok (.istore 6, 2) := dk_54 6 (dk_at dksX2_read_7 11 rfl rfl)
theorem dX2_read_174 : decode cX2_read 174 = .ok (.iload 6, 2) := dk_21 6 (dk_at dksX2_read_7 13 rfl rfl)
theorem dX2_read_176 : decode cX2_read 176 = .ok (.ifCond .ne 7, 3) := dk_154 0 7 (dk_at dksX2_read_7 15 rfl rfl)
theorem dX2_read_179 : decode cX2_read 179 = .ok (.iconst 5, 1) := dk_8 (dk_at dksX2_read_7 18 rfl rfl)
theorem dX2_read_180 : decode cX2_read 180 = .ok (.goto 4, 3) := dk_167 0 4 (dk_at dksX2_read_7 19 rfl rfl)
theorem dX2_read_183 : decode cX2_read 183 = .ok (.iconst 2, 1) := dk_5 (dk_at dksX2_read_7 22 rfl rfl)
theorem dX2_read_184 : decode cX2_read 184 = .ok (.istore 5, 2) := dk_54 5 (dk_at dksX2_read_8 0 rfl rfl)
theorem dX2_read_186 : decode cX2_read 186 = .ok (.aload_n 0, 1) := dk_42 (dk_at dksX2_read_8 2 rfl rfl)
theorem dX2_read_187 : decode cX2_read 187 = .ok (.iload 5, 2) := dk_21 5 (dk_at dksX2_read_8 3 rfl rfl)
theorem dX2_read_189 : decode cX2_read 189 = .ok (.iload_n 1, 1) := dk_27 (dk_at dksX2_read_8 5 rfl rfl)
theorem dX2_read_190 : decode cX2_read 190 = .ok (.iload 4, 2) := dk_21 4 (dk_at dksX2_read_8 6 rfl rfl)
theorem dX2_read_192 : decode cX2_read 192 = .ok (.iload 6, 2) := dk_21 6 (dk_at dksX2_read_8 8 rfl rfl)
theorem dX2_read_194 : decode cX2_read 194 = .ok (.invokevirtual 101, 3) := dk_182 0 101 (dk_at dksX2_read_8 10 rfl rfl)
theorem dX2_read_197 : decode cX2_read 197 = .ok (.iload 5, 2) := dk_21 5 (dk_at dksX2_read_8 13 rfl rfl)
theorem dX2_read_199 : decode cX2_read 199 = .ok (.iconst 5, 1) := dk_8 (dk_at dksX2_read_8 15 rfl rfl)
theorem dX2_read_200 : decode cX2_read 200 = .ok (.if_icmp .eq 7, 3) := dk_159 0 7 (dk_at dksX2_read_8 16 rfl rfl)
theorem dX2_read_203 : decode cX2_read 203 = .ok (.iconst 1, 1) := dk_4 (dk_at dksX2_read_8 19 rfl rfl)
theorem dX2_read_204 : decode cX2_read 204 = .ok (.goto 4, 3) := dk_167 0 4 (dk_at dksX2_read_8 20 rfl rfl)
theorem dX2_read_207 : decode cX2_read 207 = .ok (.iconst 0, 1) := dk_3 (dk_at dksX2_read_8 23 rfl rfl)
theorem dX2_read_208 : decode cX2_read 208 = .ok (.istore_n 2, 1) := dk_61 (dk_at dksX2_read_9 0 rfl rfl)
theorem dX2_read_209 : decode cX2_read 209 = .ok (.iload 4, 2) := dk_21 4 (dk_at dksX2_read_9 1 rfl rfl)
theorem dX2_read_211 : decode cX2_read 211 = .ok (.istore_n 1, 1) := dk_60 (dk_at dksX2_read_9 3 rfl rfl)
theorem dX2_read_212 : decode cX2_read 212 = .ok (.goto (-203), 3) := dk_167 255 53 (dk_at dksX2_read_9 4 rfl rfl)
theorem dX2_read_215 : decode cX2_read 215 = .ok (.iload_n 2, 1) := dk_28 (dk_at dksX2_read_9 7 rfl rfl)
theorem dX2_read_216 : decode cX2_read 216 = .ok (.ifCond .eq 11, 3) := dk_153 0 11 (dk_at dksX2_read_9 8 rfl rfl)
theorem dX2_read_219 : decode cX2_read 219 = .ok (.aload_n 0, 1) := dk_42 (dk_at dksX2_read_9 11 rfl rfl)
theorem dX2_read_220 : decode cX2_read 220 = .ok (.iconst 4, 1) := dk_7 (dk_at dksX2_read_9 12 rfl rfl)
theorem dX2_read_221 : decode cX2_read 221 = .ok (.iload_n 1, 1) := dk_27 (dk_at dksX2_read_9 13 rfl rfl)
theorem dX2_read_222 : decode cX2_read 222 = .ok (.iload_n 1, 1) := dk_27 (dk_at dksX2_read_9 14 rfl rfl)
theorem dX2_read_223 : decode cX2_read 223 = .ok (.iconst 0, 1) := dk_3 (dk_at dksX2_read_9 15 rfl rfl)
theorem dX2_read_224 : decode cX2_read 224 = .ok (.invokevirtual 101, 3) := dk_182 0 101 (dk_at dksX2_read_9 16 rfl rfl)
theorem dX2_read_227 : decode cX2_read 227 = .ok (.return_, 1) := dk_177 (dk_at dksX2_read_9 19 rfl rfl)
abbrev cX2_isLetter : ByteArray := prog_18_method_4_code
def yX2_isLetter : MethodName := ⟨RX2, "isLetter", "(I)Z"⟩
def dkwX2_isLetter_1 : List UInt8 := [3, 172]
abbrev dktX2_isLetter_1 : List UInt8 := dkwX2_isLetter_1 ++ []
def dkwX2_isLetter_0 : List UInt8 := [42, 27, 182, 0, 72, 16, 97, 161, 0, 17, 42, 27, 182, 0, 72, 16, 122, 163, 0, 7, 4, 167, 0, 4]
abbrev dktX2_isLetter_0 : List UInt8 := dkwX2_isLetter_0 ++ dktX2_isLetter_1
theorem dksX2_isLetter_0 : cX2_isLetter.data.toList.drop 0 = dktX2_isLetter_0 := by decide +kernel
theorem dksX2_isLetter_1 : cX2_isLetter.data.toList.drop 24 = dktX2_isLetter_1 := dk_seg dksX2_isLetter_0 24 rfl rfl
theorem dX2_isLetter_0 : decode cX2_isLetter 0 = .ok (.aload_n 0, 1) := dk_42 (dk_at dksX2_isLetter_0 0 rfl rfl)
theorem dX2_isLetter_1 : decode cX2_isLetter 1 = .ok (.iload_n 1, 1) := dk_27 (dk_at dksX2_isLetter_0 1 rfl rfl)
theorem dX2_isLetter_2 : decode cX2_isLetter 2 = .ok (.invokevirtual 72, 3) := dk_182 0 72 (dk_at dksX2_isLetter_0 2 rfl rfl)
theorem dX2_isLetter_5 : decode cX2_isLetter 5 = .ok (.bipush 97, 2) := dk_16 97 (dk_at dksX2_isLetter_0 5 rfl rfl)
theorem dX2_isLetter_7 : decode cX2_isLetter 7 = .ok (.if_icmp .lt 17, 3) := dk_161 0 17 (dk_at dksX2_isLetter_0 7 rfl rfl)
theorem dX2_isLetter_10 : decode cX2_isLetter 10 = .ok (.aload_n 0, 1) := dk_42 (dk_at dksX2_isLetter_0 10 rfl rfl)
theorem dX2_isLetter_11 : decode cX2_isLetter 11 = .ok (.iload_n 1, 1) := dk_27 (dk_at dksX2_isLetter_0 11 rfl rfl)
theorem dX2_isLetter_12 : decode cX2_isLetter 12 = .ok (.invokevirtual 72, 3) := dk_182 0 72 (dk_at dksX2_isLetter_0 12 rfl rfl)
theorem dX2_isLetter_15 : decode cX2_isLetter 15 = .ok (.bipush 122, 2) := dk_16 122 (dk_at dksX2_isLetter_0 15 rfl rfl)
theorem dX2_isLetter_17 : decode cX2_isLetter 17 = .ok (.if_icmp .gt 7, 3) := dk_163 0 7 (dk_at dksX2_isLetter_0 17 rfl rfl)
theorem dX2_isLetter_20 : decode cX2_isLetter 20 = .ok (.iconst 1, 1) := dk_4 (dk_at dksX2_isLetter_0 20 rfl rfl)
theorem dX2_isLetter_21 : decode cX2_isLetter 21 = .ok (.goto 4, 3) := dk_167 0 4 (dk_at dksX2_isLetter_0 21 rfl rfl)
theorem dX2_isLetter_24 : decode cX2_isLetter 24 = .ok (.iconst 0, 1) := dk_3 (dk_at dksX2_isLetter_1 0 rfl rfl)
theorem dX2_isLetter_25 : decode cX2_isLetter 25 = .ok (.ireturn, 1) := dk_172 (dk_at dksX2_isLetter_1 1 rfl rfl)
abbrev cX2_at : ByteArray := prog_18_method_2_code
def yX2_at : MethodName := ⟨RX2, "at", "(I)I"⟩
def dkwX2_at_0 : List UInt8 := [27, 42, 180, 0, 68, 162, 0, 12, 42, 180, 0, 51, 27, 51, 167, 0, 4, 3, 172]
abbrev dktX2_at_0 : List UInt8 := dkwX2_at_0 ++ []
theorem dksX2_at_0 : cX2_at.data.toList.drop 0 = dktX2_at_0 := by decide +kernel
theorem dX2_at_0 : decode cX2_at 0 = .ok (.iload_n 1, 1) := dk_27 (dk_at dksX2_at_0 0 rfl rfl)
theorem dX2_at_1 : decode cX2_at 1 = .ok (.aload_n 0, 1) := dk_42 (dk_at dksX2_at_0 1 rfl rfl)
theorem dX2_at_2 : decode cX2_at 2 = .ok (.getfield 68, 3) := dk_180 0 68 (dk_at dksX2_at_0 2 rfl rfl)
theorem dX2_at_5 : decode cX2_at 5 = .ok (.if_icmp .ge 12, 3) := dk_162 0 12 (dk_at dksX2_at_0 5 rfl rfl)
theorem dX2_at_8 : decode cX2_at 8 = .ok (.aload_n 0, 1) := dk_42 (dk_at dksX2_at_0 8 rfl rfl)
theorem dX2_at_9 : decode cX2_at 9 = .ok (.getfield 51, 3) := dk_180 0 51 (dk_at dksX2_at_0 9 rfl rfl)
theorem dX2_at_12 : decode cX2_at 12 = .ok (.iload_n 1, 1) := dk_27 (dk_at dksX2_at_0 12 rfl rfl)
theorem dX2_at_13 : decode cX2_at 13 = .ok (.baload, 1) := dk_51 (dk_at dksX2_at_0 13 rfl rfl)
theorem dX2_at_14 : decode cX2_at 14 = .ok (.goto 4, 3) := dk_167 0 4 (dk_at dksX2_at_0 14 rfl rfl)
theorem dX2_at_17 : decode cX2_at 17 = .ok (.iconst 0, 1) := dk_3 (dk_at dksX2_at_0 17 rfl rfl)
theorem dX2_at_18 : decode cX2_at 18 = .ok (.ireturn, 1) := dk_172 (dk_at dksX2_at_0 18 rfl rfl)
abbrev cX2_word : ByteArray := prog_18_method_6_code
def yX2_word : MethodName := ⟨RX2, "word", "(II)I"⟩
def dkwX2_word_4 : List UInt8 := [167, 255, 165, 2, 172]
abbrev dktX2_word_4 : List UInt8 := dkwX2_word_4 ++ []
def dkwX2_word_3 : List UInt8 := [167, 0, 4, 3, 54, 4, 132, 5, 1, 167, 255, 212, 21, 4, 153, 0, 5, 29, 172, 132, 3, 1]
abbrev dktX2_word_3 : List UInt8 := dkwX2_word_3 ++ dktX2_word_4
def dkwX2_word_2 : List UInt8 := [42, 180, 0, 45, 29, 50, 21, 5, 27, 100, 182, 0, 83, 42, 180, 0, 51, 21, 5, 51, 160, 0, 7, 4]
abbrev dktX2_word_2 : List UInt8 := dkwX2_word_2 ++ dktX2_word_3
def dkwX2_word_1 : List UInt8 := [160, 0, 7, 4, 167, 0, 4, 3, 54, 4, 27, 54, 5, 21, 5, 28, 162, 0, 44, 21, 4, 153, 0, 39]
abbrev dktX2_word_1 : List UInt8 := dkwX2_word_1 ++ dktX2_word_2
def dkwX2_word_0 : List UInt8 := [3, 62, 29, 42, 180, 0, 45, 190, 162, 0, 88, 42, 180, 0, 45, 29, 50, 182, 0, 79, 28, 27, 100]
abbrev dktX2_word_0 : List UInt8 := dkwX2_word_0 ++ dktX2_word_1
theorem dksX2_word_0 : cX2_word.data.toList.drop 0 = dktX2_word_0 := by decide +kernel
theorem dksX2_word_1 : cX2_word.data.toList.drop 23 = dktX2_word_1 := dk_seg dksX2_word_0 23 rfl rfl
theorem dksX2_word_2 : cX2_word.data.toList.drop 47 = dktX2_word_2 := dk_seg dksX2_word_1 24 rfl rfl
theorem dksX2_word_3 : cX2_word.data.toList.drop 71 = dktX2_word_3 := dk_seg dksX2_word_2 24 rfl rfl
theorem dksX2_word_4 : cX2_word.data.toList.drop 93 = dktX2_word_4 := dk_seg dksX2_word_3 22 rfl rfl
theorem dX2_word_0 : decode cX2_word 0 = .ok (.iconst 0, 1) := dk_3 (dk_at dksX2_word_0 0 rfl rfl)
theorem dX2_word_1 : decode cX2_word 1 = .ok (.istore_n 3, 1) := dk_62 (dk_at dksX2_word_0 1 rfl rfl)
theorem dX2_word_2 : decode cX2_word 2 = .ok (.iload_n 3, 1) := dk_29 (dk_at dksX2_word_0 2 rfl rfl)
theorem dX2_word_3 : decode cX2_word 3 = .ok (.aload_n 0, 1) := dk_42 (dk_at dksX2_word_0 3 rfl rfl)
theorem dX2_word_4 : decode cX2_word 4 = .ok (.getfield 45, 3) := dk_180 0 45 (dk_at dksX2_word_0 4 rfl rfl)
theorem dX2_word_7 : decode cX2_word 7 = .ok (.arraylength, 1) := dk_190 (dk_at dksX2_word_0 7 rfl rfl)
theorem dX2_word_8 : decode cX2_word 8 = .ok (.if_icmp .ge 88, 3) := dk_162 0 88 (dk_at dksX2_word_0 8 rfl rfl)
theorem dX2_word_11 : decode cX2_word 11 = .ok (.aload_n 0, 1) := dk_42 (dk_at dksX2_word_0 11 rfl rfl)
theorem dX2_word_12 : decode cX2_word 12 = .ok (.getfield 45, 3) := dk_180 0 45 (dk_at dksX2_word_0 12 rfl rfl)
theorem dX2_word_15 : decode cX2_word 15 = .ok (.iload_n 3, 1) := dk_29 (dk_at dksX2_word_0 15 rfl rfl)
theorem dX2_word_16 : decode cX2_word 16 = .ok (.aaload, 1) := dk_50 (dk_at dksX2_word_0 16 rfl rfl)
theorem dX2_word_17 : decode cX2_word 17 = .ok (.invokevirtual 79, 3) := dk_182 0 79 (dk_at dksX2_word_0 17 rfl rfl)
theorem dX2_word_20 : decode cX2_word 20 = .ok (.iload_n 2, 1) := dk_28 (dk_at dksX2_word_0 20 rfl rfl)
theorem dX2_word_21 : decode cX2_word 21 = .ok (.iload_n 1, 1) := dk_27 (dk_at dksX2_word_0 21 rfl rfl)
theorem dX2_word_22 : decode cX2_word 22 = .ok (.isub, 1) := dk_100 (dk_at dksX2_word_0 22 rfl rfl)
theorem dX2_word_23 : decode cX2_word 23 = .ok (.if_icmp .ne 7, 3) := dk_160 0 7 (dk_at dksX2_word_1 0 rfl rfl)
theorem dX2_word_26 : decode cX2_word 26 = .ok (.iconst 1, 1) := dk_4 (dk_at dksX2_word_1 3 rfl rfl)
theorem dX2_word_27 : decode cX2_word 27 = .ok (.goto 4, 3) := dk_167 0 4 (dk_at dksX2_word_1 4 rfl rfl)
theorem dX2_word_30 : decode cX2_word 30 = .ok (.iconst 0, 1) := dk_3 (dk_at dksX2_word_1 7 rfl rfl)
theorem dX2_word_31 : decode cX2_word 31 = .ok (.istore 4, 2) := dk_54 4 (dk_at dksX2_word_1 8 rfl rfl)
theorem dX2_word_33 : decode cX2_word 33 = .ok (.iload_n 1, 1) := dk_27 (dk_at dksX2_word_1 10 rfl rfl)
theorem dX2_word_34 : decode cX2_word 34 = .ok (.istore 5, 2) := dk_54 5 (dk_at dksX2_word_1 11 rfl rfl)
theorem dX2_word_36 : decode cX2_word 36 = .ok (.iload 5, 2) := dk_21 5 (dk_at dksX2_word_1 13 rfl rfl)
theorem dX2_word_38 : decode cX2_word 38 = .ok (.iload_n 2, 1) := dk_28 (dk_at dksX2_word_1 15 rfl rfl)
theorem dX2_word_39 : decode cX2_word 39 = .ok (.if_icmp .ge 44, 3) := dk_162 0 44 (dk_at dksX2_word_1 16 rfl rfl)
theorem dX2_word_42 : decode cX2_word 42 = .ok (.iload 4, 2) := dk_21 4 (dk_at dksX2_word_1 19 rfl rfl)
theorem dX2_word_44 : decode cX2_word 44 = .ok (.ifCond .eq 39, 3) := dk_153 0 39 (dk_at dksX2_word_1 21 rfl rfl)
theorem dX2_word_47 : decode cX2_word 47 = .ok (.aload_n 0, 1) := dk_42 (dk_at dksX2_word_2 0 rfl rfl)
theorem dX2_word_48 : decode cX2_word 48 = .ok (.getfield 45, 3) := dk_180 0 45 (dk_at dksX2_word_2 1 rfl rfl)
theorem dX2_word_51 : decode cX2_word 51 = .ok (.iload_n 3, 1) := dk_29 (dk_at dksX2_word_2 4 rfl rfl)
theorem dX2_word_52 : decode cX2_word 52 = .ok (.aaload, 1) := dk_50 (dk_at dksX2_word_2 5 rfl rfl)
theorem dX2_word_53 : decode cX2_word 53 = .ok (.iload 5, 2) := dk_21 5 (dk_at dksX2_word_2 6 rfl rfl)
theorem dX2_word_55 : decode cX2_word 55 = .ok (.iload_n 1, 1) := dk_27 (dk_at dksX2_word_2 8 rfl rfl)
theorem dX2_word_56 : decode cX2_word 56 = .ok (.isub, 1) := dk_100 (dk_at dksX2_word_2 9 rfl rfl)
theorem dX2_word_57 : decode cX2_word 57 = .ok (.invokevirtual 83, 3) := dk_182 0 83 (dk_at dksX2_word_2 10 rfl rfl)
theorem dX2_word_60 : decode cX2_word 60 = .ok (.aload_n 0, 1) := dk_42 (dk_at dksX2_word_2 13 rfl rfl)
theorem dX2_word_61 : decode cX2_word 61 = .ok (.getfield 51, 3) := dk_180 0 51 (dk_at dksX2_word_2 14 rfl rfl)
theorem dX2_word_64 : decode cX2_word 64 = .ok (.iload 5, 2) := dk_21 5 (dk_at dksX2_word_2 17 rfl rfl)
theorem dX2_word_66 : decode cX2_word 66 = .ok (.baload, 1) := dk_51 (dk_at dksX2_word_2 19 rfl rfl)
theorem dX2_word_67 : decode cX2_word 67 = .ok (.if_icmp .ne 7, 3) := dk_160 0 7 (dk_at dksX2_word_2 20 rfl rfl)
theorem dX2_word_70 : decode cX2_word 70 = .ok (.iconst 1, 1) := dk_4 (dk_at dksX2_word_2 23 rfl rfl)
theorem dX2_word_71 : decode cX2_word 71 = .ok (.goto 4, 3) := dk_167 0 4 (dk_at dksX2_word_3 0 rfl rfl)
theorem dX2_word_74 : decode cX2_word 74 = .ok (.iconst 0, 1) := dk_3 (dk_at dksX2_word_3 3 rfl rfl)
theorem dX2_word_75 : decode cX2_word 75 = .ok (.istore 4, 2) := dk_54 4 (dk_at dksX2_word_3 4 rfl rfl)
theorem dX2_word_77 : decode cX2_word 77 = .ok (.iinc 5 1, 3) := dk_132 5 1 (dk_at dksX2_word_3 6 rfl rfl)
theorem dX2_word_80 : decode cX2_word 80 = .ok (.goto (-44), 3) := dk_167 255 212 (dk_at dksX2_word_3 9 rfl rfl)
theorem dX2_word_83 : decode cX2_word 83 = .ok (.iload 4, 2) := dk_21 4 (dk_at dksX2_word_3 12 rfl rfl)
theorem dX2_word_85 : decode cX2_word 85 = .ok (.ifCond .eq 5, 3) := dk_153 0 5 (dk_at dksX2_word_3 14 rfl rfl)
theorem dX2_word_88 : decode cX2_word 88 = .ok (.iload_n 3, 1) := dk_29 (dk_at dksX2_word_3 17 rfl rfl)
theorem dX2_word_89 : decode cX2_word 89 = .ok (.ireturn, 1) := dk_172 (dk_at dksX2_word_3 18 rfl rfl)
theorem dX2_word_90 : decode cX2_word 90 = .ok (.iinc 3 1, 3) := dk_132 3 1 (dk_at dksX2_word_3 19 rfl rfl)
theorem dX2_word_93 : decode cX2_word 93 = .ok (.goto (-91), 3) := dk_167 255 165 (dk_at dksX2_word_4 0 rfl rfl)
theorem dX2_word_96 : decode cX2_word 96 = .ok (.iconst (-1), 1) := dk_2 (dk_at dksX2_word_4 3 rfl rfl)
theorem dX2_word_97 : decode cX2_word 97 = .ok (.ireturn, 1) := dk_172 (dk_at dksX2_word_4 4 rfl rfl)
abbrev cX2_isDigit : ByteArray := prog_18_method_3_code
def yX2_isDigit : MethodName := ⟨RX2, "isDigit", "(I)Z"⟩
def dkwX2_isDigit_1 : List UInt8 := [3, 172]
abbrev dktX2_isDigit_1 : List UInt8 := dkwX2_isDigit_1 ++ []
def dkwX2_isDigit_0 : List UInt8 := [42, 27, 182, 0, 72, 16, 48, 161, 0, 17, 42, 27, 182, 0, 72, 16, 57, 163, 0, 7, 4, 167, 0, 4]
abbrev dktX2_isDigit_0 : List UInt8 := dkwX2_isDigit_0 ++ dktX2_isDigit_1
theorem dksX2_isDigit_0 : cX2_isDigit.data.toList.drop 0 = dktX2_isDigit_0 := by decide +kernel
theorem dksX2_isDigit_1 : cX2_isDigit.data.toList.drop 24 = dktX2_isDigit_1 := dk_seg dksX2_isDigit_0 24 rfl rfl
theorem dX2_isDigit_0 : decode cX2_isDigit 0 = .ok (.aload_n 0, 1) := dk_42 (dk_at dksX2_isDigit_0 0 rfl rfl)
theorem dX2_isDigit_1 : decode cX2_isDigit 1 = .ok (.iload_n 1, 1) := dk_27 (dk_at dksX2_isDigit_0 1 rfl rfl)
theorem dX2_isDigit_2 : decode cX2_isDigit 2 = .ok (.invokevirtual 72, 3) := dk_182 0 72 (dk_at dksX2_isDigit_0 2 rfl rfl)
theorem dX2_isDigit_5 : decode cX2_isDigit 5 = .ok (.bipush 48, 2) := dk_16 48 (dk_at dksX2_isDigit_0 5 rfl rfl)
theorem dX2_isDigit_7 : decode cX2_isDigit 7 = .ok (.if_icmp .lt 17, 3) := dk_161 0 17 (dk_at dksX2_isDigit_0 7 rfl rfl)
theorem dX2_isDigit_10 : decode cX2_isDigit 10 = .ok (.aload_n 0, 1) := dk_42 (dk_at dksX2_isDigit_0 10 rfl rfl)
theorem dX2_isDigit_11 : decode cX2_isDigit 11 = .ok (.iload_n 1, 1) := dk_27 (dk_at dksX2_isDigit_0 11 rfl rfl)
theorem dX2_isDigit_12 : decode cX2_isDigit 12 = .ok (.invokevirtual 72, 3) := dk_182 0 72 (dk_at dksX2_isDigit_0 12 rfl rfl)
theorem dX2_isDigit_15 : decode cX2_isDigit 15 = .ok (.bipush 57, 2) := dk_16 57 (dk_at dksX2_isDigit_0 15 rfl rfl)
theorem dX2_isDigit_17 : decode cX2_isDigit 17 = .ok (.if_icmp .gt 7, 3) := dk_163 0 7 (dk_at dksX2_isDigit_0 17 rfl rfl)
theorem dX2_isDigit_20 : decode cX2_isDigit 20 = .ok (.iconst 1, 1) := dk_4 (dk_at dksX2_isDigit_0 20 rfl rfl)
theorem dX2_isDigit_21 : decode cX2_isDigit 21 = .ok (.goto 4, 3) := dk_167 0 4 (dk_at dksX2_isDigit_0 21 rfl rfl)
theorem dX2_isDigit_24 : decode cX2_isDigit 24 = .ok (.iconst 0, 1) := dk_3 (dk_at dksX2_isDigit_1 0 rfl rfl)
theorem dX2_isDigit_25 : decode cX2_isDigit 25 = .ok (.ireturn, 1) := dk_172 (dk_at dksX2_isDigit_1 1 rfl rfl)
abbrev cX2_sign : ByteArray := prog_18_method_7_code
def yX2_sign : MethodName := ⟨RX2, "sign", "(I)I"⟩
def dkwX2_sign_2 : List UInt8 := [28, 172, 3, 172]
abbrev dktX2_sign_2 : List UInt8 := dkwX2_sign_2 ++ []
def dkwX2_sign_1 : List UInt8 := [170, 0, 0, 0, 103, 0, 0, 0, 40, 0, 0, 0, 61, 0, 0, 0, 101, 0, 0, 0, 101, 0, 0, 0, 101, 0, 0, 0, 101, 0, 0, 0, 103, 0, 0, 0, 101, 0, 0, 0, 103, 0, 0, 0, 101, 0, 0, 0, 103, 0, 0, 0, 103, 0, 0, 0, 103, 0, 0, 0, 103, 0, 0, 0, 103, 0, 0, 0, 103, 0, 0, 0, 103, 0, 0, 0, 103, 0, 0, 0, 103, 0, 0, 0, 103, 0, 0, 0, 103, 0, 0, 0, 101, 0, 0, 0, 101, 0, 0, 0, 101]
abbrev dktX2_sign_1 : List UInt8 := dkwX2_sign_1 ++ dktX2_sign_2
def dkwX2_sign_0 : List UInt8 := [42, 27, 182, 0, 72, 61, 28]
abbrev dktX2_sign_0 : List UInt8 := dkwX2_sign_0 ++ dktX2_sign_1
theorem dksX2_sign_0 : cX2_sign.data.toList.drop 0 = dktX2_sign_0 := by decide +kernel
theorem dksX2_sign_1 : cX2_sign.data.toList.drop 7 = dktX2_sign_1 := dk_seg dksX2_sign_0 7 rfl rfl
theorem dksX2_sign_2 : cX2_sign.data.toList.drop 108 = dktX2_sign_2 := dk_seg dksX2_sign_1 101 rfl rfl
theorem dX2_sign_0 : decode cX2_sign 0 = .ok (.aload_n 0, 1) := dk_42 (dk_at dksX2_sign_0 0 rfl rfl)
theorem dX2_sign_1 : decode cX2_sign 1 = .ok (.iload_n 1, 1) := dk_27 (dk_at dksX2_sign_0 1 rfl rfl)
theorem dX2_sign_2 : decode cX2_sign 2 = .ok (.invokevirtual 72, 3) := dk_182 0 72 (dk_at dksX2_sign_0 2 rfl rfl)
theorem dX2_sign_5 : decode cX2_sign 5 = .ok (.istore_n 2, 1) := dk_61 (dk_at dksX2_sign_0 5 rfl rfl)
theorem dX2_sign_6 : decode cX2_sign 6 = .ok (.iload_n 2, 1) := dk_28 (dk_at dksX2_sign_0 6 rfl rfl)
theorem dX2_sign_7 : decode cX2_sign 7 = .ok (.tableswitch 103 40 61 #[101, 101, 101, 101, 103, 101, 103, 101, 103, 103, 103, 103, 103, 103, 103, 103, 103, 103, 103, 101, 101, 101], 101) := by decide +kernel
theorem dX2_sign_108 : decode cX2_sign 108 = .ok (.iload_n 2, 1) := dk_28 (dk_at dksX2_sign_2 0 rfl rfl)
theorem dX2_sign_109 : decode cX2_sign 109 = .ok (.ireturn, 1) := dk_172 (dk_at dksX2_sign_2 1 rfl rfl)
theorem dX2_sign_110 : decode cX2_sign 110 = .ok (.iconst 0, 1) := dk_3 (dk_at dksX2_sign_2 2 rfl rfl)
theorem dX2_sign_111 : decode cX2_sign 111 = .ok (.ireturn, 1) := dk_172 (dk_at dksX2_sign_2 3 rfl rfl)
abbrev cX2_add : ByteArray := prog_18_method_5_code
def yX2_add : MethodName := ⟨RX2, "add", "(IIII)V"⟩
def dkwX2_add_2 : List UInt8 := [180, 0, 76, 4, 96, 181, 0, 76, 177]
abbrev dktX2_add_2 : List UInt8 := dkwX2_add_2 ++ []
def dkwX2_add_1 : List UInt8 := [180, 0, 62, 42, 180, 0, 76, 29, 147, 86, 42, 180, 0, 65, 42, 180, 0, 76, 21, 4, 147, 86, 42, 89]
abbrev dktX2_add_1 : List UInt8 := dkwX2_add_1 ++ dktX2_add_2
def dkwX2_add_0 : List UInt8 := [42, 180, 0, 55, 42, 180, 0, 76, 27, 145, 84, 42, 180, 0, 58, 42, 180, 0, 76, 28, 147, 86, 42]
abbrev dktX2_add_0 : List UInt8 := dkwX2_add_0 ++ dktX2_add_1
theorem dksX2_add_0 : cX2_add.data.toList.drop 0 = dktX2_add_0 := by decide +kernel
theorem dksX2_add_1 : cX2_add.data.toList.drop 23 = dktX2_add_1 := dk_seg dksX2_add_0 23 rfl rfl
theorem dksX2_add_2 : cX2_add.data.toList.drop 47 = dktX2_add_2 := dk_seg dksX2_add_1 24 rfl rfl
theorem dX2_add_0 : decode cX2_add 0 = .ok (.aload_n 0, 1) := dk_42 (dk_at dksX2_add_0 0 rfl rfl)
theorem dX2_add_1 : decode cX2_add 1 = .ok (.getfield 55, 3) := dk_180 0 55 (dk_at dksX2_add_0 1 rfl rfl)
theorem dX2_add_4 : decode cX2_add 4 = .ok (.aload_n 0, 1) := dk_42 (dk_at dksX2_add_0 4 rfl rfl)
theorem dX2_add_5 : decode cX2_add 5 = .ok (.getfield 76, 3) := dk_180 0 76 (dk_at dksX2_add_0 5 rfl rfl)
theorem dX2_add_8 : decode cX2_add 8 = .ok (.iload_n 1, 1) := dk_27 (dk_at dksX2_add_0 8 rfl rfl)
theorem dX2_add_9 : decode cX2_add 9 = .ok (.i2b, 1) := dk_145 (dk_at dksX2_add_0 9 rfl rfl)
theorem dX2_add_10 : decode cX2_add 10 = .ok (.bastore, 1) := dk_84 (dk_at dksX2_add_0 10 rfl rfl)
theorem dX2_add_11 : decode cX2_add 11 = .ok (.aload_n 0, 1) := dk_42 (dk_at dksX2_add_0 11 rfl rfl)
theorem dX2_add_12 : decode cX2_add 12 = .ok (.getfield 58, 3) := dk_180 0 58 (dk_at dksX2_add_0 12 rfl rfl)
theorem dX2_add_15 : decode cX2_add 15 = .ok (.aload_n 0, 1) := dk_42 (dk_at dksX2_add_0 15 rfl rfl)
theorem dX2_add_16 : decode cX2_add 16 = .ok (.getfield 76, 3) := dk_180 0 76 (dk_at dksX2_add_0 16 rfl rfl)
theorem dX2_add_19 : decode cX2_add 19 = .ok (.iload_n 2, 1) := dk_28 (dk_at dksX2_add_0 19 rfl rfl)
theorem dX2_add_20 : decode cX2_add 20 = .ok (.i2s, 1) := dk_147 (dk_at dksX2_add_0 20 rfl rfl)
theorem dX2_add_21 : decode cX2_add 21 = .ok (.sastore, 1) := dk_86 (dk_at dksX2_add_0 21 rfl rfl)
theorem dX2_add_22 : decode cX2_add 22 = .ok (.aload_n 0, 1) := dk_42 (dk_at dksX2_add_0 22 rfl rfl)
theorem dX2_add_23 : decode cX2_add 23 = .ok (.getfield 62, 3) := dk_180 0 62 (dk_at dksX2_add_1 0 rfl rfl)
theorem dX2_add_26 : decode cX2_add 26 = .ok (.aload_n 0, 1) := dk_42 (dk_at dksX2_add_1 3 rfl rfl)
theorem dX2_add_27 : decode cX2_add 27 = .ok (.getfield 76, 3) := dk_180 0 76 (dk_at dksX2_add_1 4 rfl rfl)
theorem dX2_add_30 : decode cX2_add 30 = .ok (.iload_n 3, 1) := dk_29 (dk_at dksX2_add_1 7 rfl rfl)
theorem dX2_add_31 : decode cX2_add 31 = .ok (.i2s, 1) := dk_147 (dk_at dksX2_add_1 8 rfl rfl)
theorem dX2_add_32 : decode cX2_add 32 = .ok (.sastore, 1) := dk_86 (dk_at dksX2_add_1 9 rfl rfl)
theorem dX2_add_33 : decode cX2_add 33 = .ok (.aload_n 0, 1) := dk_42 (dk_at dksX2_add_1 10 rfl rfl)
theorem dX2_add_34 : decode cX2_add 34 = .ok (.getfield 65, 3) := dk_180 0 65 (dk_at dksX2_add_1 11 rfl rfl)
theorem dX2_add_37 : decode cX2_add 37 = .ok (.aload_n 0, 1) := dk_42 (dk_at dksX2_add_1 14 rfl rfl)
theorem dX2_add_38 : decode cX2_add 38 = .ok (.getfield 76, 3) := dk_180 0 76 (dk_at dksX2_add_1 15 rfl rfl)
theorem dX2_add_41 : decode cX2_add 41 = .ok (.iload 4, 2) := dk_21 4 (dk_at dksX2_add_1 18 rfl rfl)
theorem dX2_add_43 : decode cX2_add 43 = .ok (.i2s, 1) := dk_147 (dk_at dksX2_add_1 20 rfl rfl)
theorem dX2_add_44 : decode cX2_add 44 = .ok (.sastore, 1) := dk_86 (dk_at dksX2_add_1 21 rfl rfl)
theorem dX2_add_45 : decode cX2_add 45 = .ok (.aload_n 0, 1) := dk_42 (dk_at dksX2_add_1 22 rfl rfl)
theorem dX2_add_46 : decode cX2_add 46 = .ok (.dup, 1) := dk_89 (dk_at dksX2_add_1 23 rfl rfl)
theorem dX2_add_47 : decode cX2_add 47 = .ok (.getfield 76, 3) := dk_180 0 76 (dk_at dksX2_add_2 0 rfl rfl)
theorem dX2_add_50 : decode cX2_add 50 = .ok (.iconst 1, 1) := dk_4 (dk_at dksX2_add_2 3 rfl rfl)
theorem dX2_add_51 : decode cX2_add 51 = .ok (.iadd, 1) := dk_96 (dk_at dksX2_add_2 4 rfl rfl)
theorem dX2_add_52 : decode cX2_add 52 = .ok (.putfield 76, 3) := dk_181 0 76 (dk_at dksX2_add_2 5 rfl rfl)
theorem dX2_add_55 : decode cX2_add 55 = .ok (.return_, 1) := dk_177 (dk_at dksX2_add_2 8 rfl rfl)
abbrev cX2_number : ByteArray := prog_18_method_10_code
def yX2_number : MethodName := ⟨RX2, "number", "(I)I"⟩
def dkwX2_number_1 : List UInt8 := [180, 0, 51, 29, 51, 96, 16, 48, 100, 61, 132, 3, 1, 167, 255, 228, 28, 172]
abbrev dktX2_number_1 : List UInt8 := dkwX2_number_1 ++ []
def dkwX2_number_0 : List UInt8 := [3, 61, 42, 180, 0, 58, 27, 53, 62, 29, 42, 180, 0, 62, 27, 53, 162, 0, 24, 16, 10, 28, 104, 42]
abbrev dktX2_number_0 : List UInt8 := dkwX2_number_0 ++ dktX2_number_1
theorem dksX2_number_0 : cX2_number.data.toList.drop 0 = dktX2_number_0 := by decide +kernel
theorem dksX2_number_1 : cX2_number.data.toList.drop 24 = dktX2_number_1 := dk_seg dksX2_number_0 24 rfl rfl
theorem dX2_number_0 : decode cX2_number 0 = .ok (.iconst 0, 1) := dk_3 (dk_at dksX2_number_0 0 rfl rfl)
theorem dX2_number_1 : decode cX2_number 1 = .ok (.istore_n 2, 1) := dk_61 (dk_at dksX2_number_0 1 rfl rfl)
theorem dX2_number_2 : decode cX2_number 2 = .ok (.aload_n 0, 1) := dk_42 (dk_at dksX2_number_0 2 rfl rfl)
theorem dX2_number_3 : decode cX2_number 3 = .ok (.getfield 58, 3) := dk_180 0 58 (dk_at dksX2_number_0 3 rfl rfl)
theorem dX2_number_6 : decode cX2_number 6 = .ok (.iload_n 1, 1) := dk_27 (dk_at dksX2_number_0 6 rfl rfl)
theorem dX2_number_7 : decode cX2_number 7 = .ok (.saload, 1) := dk_53 (dk_at dksX2_number_0 7 rfl rfl)
theorem dX2_number_8 : decode cX2_number 8 = .ok (.istore_n 3, 1) := dk_62 (dk_at dksX2_number_0 8 rfl rfl)
theorem dX2_number_9 : decode cX2_number 9 = .ok (.iload_n 3, 1) := dk_29 (dk_at dksX2_number_0 9 rfl rfl)
theorem dX2_number_10 : decode cX2_number 10 = .ok (.aload_n 0, 1) := dk_42 (dk_at dksX2_number_0 10 rfl rfl)
theorem dX2_number_11 : decode cX2_number 11 = .ok (.getfield 62, 3) := dk_180 0 62 (dk_at dksX2_number_0 11 rfl rfl)
theorem dX2_number_14 : decode cX2_number 14 = .ok (.iload_n 1, 1) := dk_27 (dk_at dksX2_number_0 14 rfl rfl)
theorem dX2_number_15 : decode cX2_number 15 = .ok (.saload, 1) := dk_53 (dk_at dksX2_number_0 15 rfl rfl)
theorem dX2_number_16 : decode cX2_number 16 = .ok (.if_icmp .ge 24, 3) := dk_162 0 24 (dk_at dksX2_number_0 16 rfl rfl)
theorem dX2_number_19 : decode cX2_number 19 = .ok (.bipush 10, 2) := dk_16 10 (dk_at dksX2_number_0 19 rfl rfl)
theorem dX2_number_21 : decode cX2_number 21 = .ok (.iload_n 2, 1) := dk_28 (dk_at dksX2_number_0 21 rfl rfl)
theorem dX2_number_22 : decode cX2_number 22 = .ok (.imul, 1) := dk_104 (dk_at dksX2_number_0 22 rfl rfl)
theorem dX2_number_23 : decode cX2_number 23 = .ok (.aload_n 0, 1) := dk_42 (dk_at dksX2_number_0 23 rfl rfl)
theorem dX2_number_24 : decode cX2_number 24 = .ok (.getfield 51, 3) := dk_180 0 51 (dk_at dksX2_number_1 0 rfl rfl)
theorem dX2_number_27 : decode cX2_number 27 = .ok (.iload_n 3, 1) := dk_29 (dk_at dksX2_number_1 3 rfl rfl)
theorem dX2_number_28 : decode cX2_number 28 = .ok (.baload, 1) := dk_51 (dk_at dksX2_number_1 4 rfl rfl)
theorem dX2_number_29 : decode cX2_number 29 = .ok (.iadd, 1) := dk_96 (dk_at dksX2_number_1 5 rfl rfl)
theorem dX2_number_30 : decode cX2_number 30 = .ok (.bipush 48, 2) := dk_16 48 (dk_at dksX2_number_1 6 rfl rfl)
theorem dX2_number_32 : decode cX2_number 32 = .ok (.isub, 1) := dk_100 (dk_at dksX2_number_1 8 rfl rfl)
theorem dX2_number_33 : decode cX2_number 33 = .ok (.istore_n 2, 1) := dk_61 (dk_at dksX2_number_1 9 rfl rfl)
theorem dX2_number_34 : decode cX2_number 34 = .ok (.iinc 3 1, 3) := dk_132 3 1 (dk_at dksX2_number_1 10 rfl rfl)
theorem dX2_number_37 : decode cX2_number 37 = .ok (.goto (-28), 3) := dk_167 255 228 (dk_at dksX2_number_1 13 rfl rfl)
theorem dX2_number_40 : decode cX2_number 40 = .ok (.iload_n 2, 1) := dk_28 (dk_at dksX2_number_1 16 rfl rfl)
theorem dX2_number_41 : decode cX2_number 41 = .ok (.ireturn, 1) := dk_172 (dk_at dksX2_number_1 17 rfl rfl)
abbrev cX2_text : ByteArray := prog_18_method_9_code
def yX2_text : MethodName := ⟨RX2, "text", "(I)Ljava/lang/String;"⟩
def dkwX2_text_2 : List UInt8 := [182, 0, 112, 176]
abbrev dktX2_text_2 : List UInt8 := dkwX2_text_2 ++ []
def dkwX2_text_1 : List UInt8 := [162, 0, 21, 44, 42, 180, 0, 51, 29, 51, 146, 182, 0, 108, 87, 132, 3, 1, 167, 255, 231, 44]
abbrev dktX2_text_1 : List UInt8 := dkwX2_text_1 ++ dktX2_text_2
def dkwX2_text_0 : List UInt8 := [187, 0, 105, 89, 183, 0, 107, 77, 42, 180, 0, 58, 27, 53, 62, 29, 42, 180, 0, 62, 27, 53]
abbrev dktX2_text_0 : List UInt8 := dkwX2_text_0 ++ dktX2_text_1
theorem dksX2_text_0 : cX2_text.data.toList.drop 0 = dktX2_text_0 := by decide +kernel
theorem dksX2_text_1 : cX2_text.data.toList.drop 22 = dktX2_text_1 := dk_seg dksX2_text_0 22 rfl rfl
theorem dksX2_text_2 : cX2_text.data.toList.drop 44 = dktX2_text_2 := dk_seg dksX2_text_1 22 rfl rfl
theorem dX2_text_0 : decode cX2_text 0 = .ok (.new 105, 3) := dk_187 0 105 (dk_at dksX2_text_0 0 rfl rfl)
theorem dX2_text_3 : decode cX2_text 3 = .ok (.dup, 1) := dk_89 (dk_at dksX2_text_0 3 rfl rfl)
theorem dX2_text_4 : decode cX2_text 4 = .ok (.invokespecial 107, 3) := dk_183 0 107 (dk_at dksX2_text_0 4 rfl rfl)
theorem dX2_text_7 : decode cX2_text 7 = .ok (.astore_n 2, 1) := dk_77 (dk_at dksX2_text_0 7 rfl rfl)
theorem dX2_text_8 : decode cX2_text 8 = .ok (.aload_n 0, 1) := dk_42 (dk_at dksX2_text_0 8 rfl rfl)
theorem dX2_text_9 : decode cX2_text 9 = .ok (.getfield 58, 3) := dk_180 0 58 (dk_at dksX2_text_0 9 rfl rfl)
theorem dX2_text_12 : decode cX2_text 12 = .ok (.iload_n 1, 1) := dk_27 (dk_at dksX2_text_0 12 rfl rfl)
theorem dX2_text_13 : decode cX2_text 13 = .ok (.saload, 1) := dk_53 (dk_at dksX2_text_0 13 rfl rfl)
theorem dX2_text_14 : decode cX2_text 14 = .ok (.istore_n 3, 1) := dk_62 (dk_at dksX2_text_0 14 rfl rfl)
theorem dX2_text_15 : decode cX2_text 15 = .ok (.iload_n 3, 1) := dk_29 (dk_at dksX2_text_0 15 rfl rfl)
theorem dX2_text_16 : decode cX2_text 16 = .ok (.aload_n 0, 1) := dk_42 (dk_at dksX2_text_0 16 rfl rfl)
theorem dX2_text_17 : decode cX2_text 17 = .ok (.getfield 62, 3) := dk_180 0 62 (dk_at dksX2_text_0 17 rfl rfl)
theorem dX2_text_20 : decode cX2_text 20 = .ok (.iload_n 1, 1) := dk_27 (dk_at dksX2_text_0 20 rfl rfl)
theorem dX2_text_21 : decode cX2_text 21 = .ok (.saload, 1) := dk_53 (dk_at dksX2_text_0 21 rfl rfl)
theorem dX2_text_22 : decode cX2_text 22 = .ok (.if_icmp .ge 21, 3) := dk_162 0 21 (dk_at dksX2_text_1 0 rfl rfl)
theorem dX2_text_25 : decode cX2_text 25 = .ok (.aload_n 2, 1) := dk_44 (dk_at dksX2_text_1 3 rfl rfl)
theorem dX2_text_26 : decode cX2_text 26 = .ok (.aload_n 0, 1) := dk_42 (dk_at dksX2_text_1 4 rfl rfl)
theorem dX2_text_27 : decode cX2_text 27 = .ok (.getfield 51, 3) := dk_180 0 51 (dk_at dksX2_text_1 5 rfl rfl)
theorem dX2_text_30 : decode cX2_text 30 = .ok (.iload_n 3, 1) := dk_29 (dk_at dksX2_text_1 8 rfl rfl)
theorem dX2_text_31 : decode cX2_text 31 = .ok (.baload, 1) := dk_51 (dk_at dksX2_text_1 9 rfl rfl)
theorem dX2_text_32 : decode cX2_text 32 = .ok (.i2c, 1) := dk_146 (dk_at dksX2_text_1 10 rfl rfl)
theorem dX2_text_33 : decode cX2_text 33 = .ok (.invokevirtual 108, 3) := dk_182 0 108 (dk_at dksX2_text_1 11 rfl rfl)
theorem dX2_text_36 : decode cX2_text 36 = .ok (.pop, 1) := dk_87 (dk_at dksX2_text_1 14 rfl rfl)
theorem dX2_text_37 : decode cX2_text 37 = .ok (.iinc 3 1, 3) := dk_132 3 1 (dk_at dksX2_text_1 15 rfl rfl)
theorem dX2_text_40 : decode cX2_text 40 = .ok (.goto (-25), 3) := dk_167 255 231 (dk_at dksX2_text_1 18 rfl rfl)
theorem dX2_text_43 : decode cX2_text 43 = .ok (.aload_n 2, 1) := dk_44 (dk_at dksX2_text_1 21 rfl rfl)
theorem dX2_text_44 : decode cX2_text 44 = .ok (.invokevirtual 112, 3) := dk_182 0 112 (dk_at dksX2_text_2 0 rfl rfl)
theorem dX2_text_47 : decode cX2_text 47 = .ok (.areturn, 1) := dk_176 (dk_at dksX2_text_2 3 rfl rfl)
def mX2_init : am_M := (yX2_init, cX2_init, 1, none, [])
theorem okX2_init : am_Ok mX2_init 0 := ⟨rfl, q238, q119, ⟨by decide +kernel, by decide +kernel, by decide +kernel⟩, by decide, by decide +kernel⟩
def mX2_read : am_M := (yX2_read, cX2_read, 7, none, [])
theorem okX2_read : am_Ok mX2_read 0 := ⟨rfl, q671, q119, ⟨by decide +kernel, by decide +kernel, by decide +kernel⟩, by decide, by decide +kernel⟩
def mX2_isLetter : am_M := (yX2_isLetter, cX2_isLetter, 2, (some .boolean), [])
theorem okX2_isLetter : am_Ok mX2_isLetter 1 := ⟨rfl, q675, q119, ⟨by decide +kernel, by decide +kernel, by decide +kernel⟩, by decide, by decide +kernel⟩
def mX2_at : am_M := (yX2_at, cX2_at, 2, (some .int), [])
theorem okX2_at : am_Ok mX2_at 1 := ⟨rfl, q679, q119, ⟨by decide +kernel, by decide +kernel, by decide +kernel⟩, by decide, by decide +kernel⟩
def mX2_word : am_M := (yX2_word, cX2_word, 6, (some .int), [])
theorem okX2_word : am_Ok mX2_word 2 := ⟨rfl, q683, q119, ⟨by decide +kernel, by decide +kernel, by decide +kernel⟩, by decide, by decide +kernel⟩
def mX2_isDigit : am_M := (yX2_isDigit, cX2_isDigit, 2, (some .boolean), [])
theorem okX2_isDigit : am_Ok mX2_isDigit 1 := ⟨rfl, q733, q119, ⟨by decide +kernel, by decide +kernel, by decide +kernel⟩, by decide, by decide +kernel⟩
def mX2_sign : am_M := (yX2_sign, cX2_sign, 3, (some .int), [])
theorem okX2_sign : am_Ok mX2_sign 1 := ⟨rfl, q737, q119, ⟨by decide +kernel, by decide +kernel, by decide +kernel⟩, by decide, by decide +kernel⟩
def mX2_add : am_M := (yX2_add, cX2_add, 5, none, [])
theorem okX2_add : am_Ok mX2_add 4 := ⟨rfl, q741, q119, ⟨by decide +kernel, by decide +kernel, by decide +kernel⟩, by decide, by decide +kernel⟩
def mX2_number : am_M := (yX2_number, cX2_number, 4, (some .int), [])
theorem okX2_number : am_Ok mX2_number 1 := ⟨rfl, q779, q119, ⟨by decide +kernel, by decide +kernel, by decide +kernel⟩, by decide, by decide +kernel⟩
def mX2_text : am_M := (yX2_text, cX2_text, 4, (some (.object "java/lang/String")), [])
theorem okX2_text : am_Ok mX2_text 1 := ⟨rfl, q798, q119, ⟨by decide +kernel, by decide +kernel, by decide +kernel⟩, by decide, by decide +kernel⟩
/-! ThreadTown$Parser -/
abbrev cX3_init : ByteArray := prog_15_method_1_code
def yX3_init : MethodName := ⟨RX3, "<init>", "(LThreadTown$Tokens;LThreadTown$Fault;)V"⟩
def dkwX3_init_0 : List UInt8 := [42, 183, 0, 3, 42, 43, 181, 0, 9, 42, 44, 181, 0, 15, 177]
abbrev dktX3_init_0 : List UInt8 := dkwX3_init_0 ++ []
theorem dksX3_init_0 : cX3_init.data.toList.drop 0 = dktX3_init_0 := by decide +kernel
theorem dX3_init_0 : decode cX3_init 0 = .ok (.aload_n 0, 1) := dk_42 (dk_at dksX3_init_0 0 rfl rfl)
theorem dX3_init_1 : decode cX3_init 1 = .ok (.invokespecial 3, 3) := dk_183 0 3 (dk_at dksX3_init_0 1 rfl rfl)
theorem dX3_init_4 : decode cX3_init 4 = .ok (.aload_n 0, 1) := dk_42 (dk_at dksX3_init_0 4 rfl rfl)
theorem dX3_init_5 : decode cX3_init 5 = .ok (.aload_n 1, 1) := dk_43 (dk_at dksX3_init_0 5 rfl rfl)
theorem dX3_init_6 : decode cX3_init 6 = .ok (.putfield 9, 3) := dk_181 0 9 (dk_at dksX3_init_0 6 rfl rfl)
theorem dX3_init_9 : decode cX3_init 9 = .ok (.aload_n 0, 1) := dk_42 (dk_at dksX3_init_0 9 rfl rfl)
theorem dX3_init_10 : decode cX3_init 10 = .ok (.aload_n 2, 1) := dk_44 (dk_at dksX3_init_0 10 rfl rfl)
theorem dX3_init_11 : decode cX3_init 11 = .ok (.putfield 15, 3) := dk_181 0 15 (dk_at dksX3_init_0 11 rfl rfl)
theorem dX3_init_14 : decode cX3_init 14 = .ok (.return_, 1) := dk_177 (dk_at dksX3_init_0 14 rfl rfl)
abbrev cX3_read : ByteArray := prog_15_method_15_code
def yX3_read : MethodName := ⟨RX3, "read", "()LThreadTown$Text;"⟩
def dkwX3_read_6 : List UInt8 := [180, 0, 83, 176]
abbrev dktX3_read_6 : List UInt8 := dkwX3_read_6 ++ []
def dkwX3_read_5 : List UInt8 := [16, 6, 42, 180, 0, 83, 180, 0, 120, 27, 46, 182, 0, 35, 191, 132, 1, 1, 167, 255, 198, 42]
abbrev dktX3_read_5 : List UInt8 := dkwX3_read_5 ++ dktX3_read_6
def dkwX3_read_4 : List UInt8 := [180, 0, 83, 180, 0, 109, 27, 46, 42, 180, 0, 83, 180, 0, 113, 27, 46, 182, 0, 116, 154, 0, 19, 42]
abbrev dktX3_read_4 : List UInt8 := dkwX3_read_4 ++ dktX3_read_5
def dkwX3_read_3 : List UInt8 := [182, 0, 35, 191, 3, 60, 27, 42, 180, 0, 83, 180, 0, 106, 162, 0, 53, 42, 180, 0, 83, 42]
abbrev dktX3_read_3 : List UInt8 := dkwX3_read_3 ++ dktX3_read_4
def dkwX3_read_2 : List UInt8 := [182, 0, 102, 167, 255, 238, 42, 180, 0, 38, 153, 0, 16, 42, 42, 180, 0, 38, 42, 180, 0, 41]
abbrev dktX3_read_2 : List UInt8 := dkwX3_read_2 ++ dktX3_read_3
def dkwX3_read_1 : List UInt8 := [3, 181, 0, 96, 42, 3, 181, 0, 38, 42, 182, 0, 65, 7, 159, 0, 16, 42, 182, 0, 99, 42, 16, 59]
abbrev dktX3_read_1 : List UInt8 := dkwX3_read_1 ++ dktX3_read_2
def dkwX3_read_0 : List UInt8 := [42, 180, 0, 9, 182, 0, 92, 42, 187, 0, 87, 89, 183, 0, 95, 181, 0, 83, 42, 3, 181, 0, 31, 42]
abbrev dktX3_read_0 : List UInt8 := dkwX3_read_0 ++ dktX3_read_1
theorem dksX3_read_0 : cX3_read.data.toList.drop 0 = dktX3_read_0 := by decide +kernel
theorem dksX3_read_1 : cX3_read.data.toList.drop 24 = dktX3_read_1 := dk_seg dksX3_read_0 24 rfl rfl
theorem dksX3_read_2 : cX3_read.data.toList.drop 48 = dktX3_read_2 := dk_seg dksX3_read_1 24 rfl rfl
theorem dksX3_read_3 : cX3_read.data.toList.drop 70 = dktX3_read_3 := dk_seg dksX3_read_2 22 rfl rfl
theorem dksX3_read_4 : cX3_read.data.toList.drop 92 = dktX3_read_4 := dk_seg dksX3_read_3 22 rfl rfl
theorem dksX3_read_5 : cX3_read.data.toList.drop 116 = dktX3_read_5 := dk_seg dksX3_read_4 24 rfl rfl
theorem dksX3_read_6 : cX3_read.data.toList.drop 138 = dktX3_read_6 := dk_seg dksX3_read_5 22 rfl rfl
theorem dX3_read_0 : decode cX3_read 0 = .ok (.aload_n 0, 1) := dk_42 (dk_at dksX3_read_0 0 rfl rfl)
theorem dX3_read_1 : decode cX3_read 1 = .ok (.getfield 9, 3) := dk_180 0 9 (dk_at dksX3_read_0 1 rfl rfl)
theorem dX3_read_4 : decode cX3_read 4 = .ok (.invokevirtual 92, 3) := dk_182 0 92 (dk_at dksX3_read_0 4 rfl rfl)
theorem dX3_read_7 : decode cX3_read 7 = .ok (.aload_n 0, 1) := dk_42 (dk_at dksX3_read_0 7 rfl rfl)
theorem dX3_read_8 : decode cX3_read 8 = .ok (.new 87, 3) := dk_187 0 87 (dk_at dksX3_read_0 8 rfl rfl)
theorem dX3_read_11 : decode cX3_read 11 = .ok (.dup, 1) := dk_89 (dk_at dksX3_read_0 11 rfl rfl)
theorem dX3_read_12 : decode cX3_read 12 = .ok (.invokespecial 95, 3) := dk_183 0 95 (dk_at dksX3_read_0 12 rfl rfl)
theorem dX3_read_15 : decode cX3_read 15 = .ok (.putfield 83, 3) := dk_181 0 83 (dk_at dksX3_read_0 15 rfl rfl)
theorem dX3_read_18 : decode cX3_read 18 = .ok (.aload_n 0, 1) := dk_42 (dk_at dksX3_read_0 18 rfl rfl)
theorem dX3_read_19 : decode cX3_read 19 = .ok (.iconst 0, 1) := dk_3 (dk_at dksX3_read_0 19 rfl rfl)
theorem dX3_read_20 : decode cX3_read 20 = .ok (.putfield 31, 3) := dk_181 0 31 (dk_at dksX3_read_0 20 rfl rfl)
theorem dX3_read_23 : decode cX3_read 23 = .ok (.aload_n 0, 1) := dk_42 (dk_at dksX3_read_0 23 rfl rfl)
theorem dX3_read_24 : decode cX3_read 24 = .ok (.iconst 0, 1) := dk_3 (dk_at dksX3_read_1 0 rfl rfl)
theorem dX3_read_25 : decode cX3_read 25 = .ok (.putfield 96, 3) := dk_181 0 96 (dk_at dksX3_read_1 1 rfl rfl)
theorem dX3_read_28 : decode cX3_read 28 = .ok (.aload_n 0, 1) := dk_42 (dk_at dksX3_read_1 4 rfl rfl)
theorem dX3_read_29 : decode cX3_read 29 = .ok (.iconst 0, 1) := dk_3 (dk_at dksX3_read_1 5 rfl rfl)
theorem dX3_read_30 : decode cX3_read 30 = .ok (.putfield 38, 3) := dk_181 0 38 (dk_at dksX3_read_1 6 rfl rfl)
theorem dX3_read_33 : decode cX3_read 33 = .ok (.aload_n 0, 1) := dk_42 (dk_at dksX3_read_1 9 rfl rfl)
theorem dX3_read_34 : decode cX3_read 34 = .ok (.invokevirtual 65, 3) := dk_182 0 65 (dk_at dksX3_read_1 10 rfl rfl)
theorem dX3_read_37 : decode cX3_read 37 = .ok (.iconst 4, 1) := dk_7 (dk_at dksX3_read_1 13 rfl rfl)
theorem dX3_read_38 : decode cX3_read 38 = .ok (.if_icmp .eq 16, 3) := dk_159 0 16 (dk_at dksX3_read_1 14 rfl rfl)
theorem dX3_read_41 : decode cX3_read 41 = .ok (.aload_n 0, 1) := dk_42 (dk_at dksX3_read_1 17 rfl rfl)
theorem dX3_read_42 : decode cX3_read 42 = .ok (.invokevirtual 99, 3) := dk_182 0 99 (dk_at dksX3_read_1 18 rfl rfl)
theorem dX3_read_45 : decode cX3_read 45 = .ok (.aload_n 0, 1) := dk_42 (dk_at dksX3_read_1 21 rfl rfl)
theorem dX3_read_46 : decode cX3_read 46 = .ok (.bipush 59, 2) := dk_16 59 (dk_at dksX3_read_1 22 rfl rfl)
theorem dX3_read_48 : decode cX3_read 48 = .ok (.invokevirtual 102, 3) := dk_182 0 102 (dk_at dksX3_read_2 0 rfl rfl)
theorem dX3_read_51 : decode cX3_read 51 = .ok (.goto (-18), 3) := dk_167 255 238 (dk_at dksX3_read_2 3 rfl rfl)
theorem dX3_read_54 : decode cX3_read 54 = .ok (.aload_n 0, 1) := dk_42 (dk_at dksX3_read_2 6 rfl rfl)
theorem dX3_read_55 : decode cX3_read 55 = .ok (.getfield 38, 3) := dk_180 0 38 (dk_at dksX3_read_2 7 rfl rfl)
theorem dX3_read_58 : decode cX3_read 58 = .ok (.ifCond .eq 16, 3) := dk_153 0 16 (dk_at dksX3_read_2 10 rfl rfl)
theorem dX3_read_61 : decode cX3_read 61 = .ok (.aload_n 0, 1) := dk_42 (dk_at dksX3_read_2 13 rfl rfl)
theorem dX3_read_62 : decode cX3_read 62 = .ok (.aload_n 0, 1) := dk_42 (dk_at dksX3_read_2 14 rfl rfl)
theorem dX3_read_63 : decode cX3_read 63 = .ok (.getfield 38, 3) := dk_180 0 38 (dk_at dksX3_read_2 15 rfl rfl)
theorem dX3_read_66 : decode cX3_read 66 = .ok (.aload_n 0, 1) := dk_42 (dk_at dksX3_read_2 18 rfl rfl)
theorem dX3_read_67 : decode cX3_read 67 = .ok (.getfield 41, 3) := dk_180 0 41 (dk_at dksX3_read_2 19 rfl rfl)
theorem dX3_read_70 : decode cX3_read 70 = .ok (.invokevirtual 35, 3) := dk_182 0 35 (dk_at dksX3_read_3 0 rfl rfl)
theorem dX3_read_73 : decode cX3_read 73 = .ok (.athrow, 1) := dk_191 (dk_at dksX3_read_3 3 rfl rfl)
theorem dX3_read_74 : decode cX3_read 74 = .ok (.iconst 0, 1) := dk_3 (dk_at dksX3_read_3 4 rfl rfl)
theorem dX3_read_75 : decode cX3_read 75 = .ok (.istore_n 1, 1) := dk_60 (dk_at dksX3_read_3 5 rfl rfl)
theorem dX3_read_76 : decode cX3_read 76 = .ok (.iload_n 1, 1) := dk_27 (dk_at dksX3_read_3 6 rfl rfl)
theorem dX3_read_77 : decode cX3_read 77 = .ok (.aload_n 0, 1) := dk_42 (dk_at dksX3_read_3 7 rfl rfl)
theorem dX3_read_78 : decode cX3_read 78 = .ok (.getfield 83, 3) := dk_180 0 83 (dk_at dksX3_read_3 8 rfl rfl)
theorem dX3_read_81 : decode cX3_read 81 = .ok (.getfield 106, 3) := dk_180 0 106 (dk_at dksX3_read_3 11 rfl rfl)
theorem dX3_read_84 : decode cX3_read 84 = .ok (.if_icmp .ge 53, 3) := dk_162 0 53 (dk_at dksX3_read_3 14 rfl rfl)
theorem dX3_read_87 : decode cX3_read 87 = .ok (.aload_n 0, 1) := dk_42 (dk_at dksX3_read_3 17 rfl rfl)
theorem dX3_read_88 : decode cX3_read 88 = .ok (.getfield 83, 3) := dk_180 0 83 (dk_at dksX3_read_3 18 rfl rfl)
theorem dX3_read_91 : decode cX3_read 91 = .ok (.aload_n 0, 1) := dk_42 (dk_at dksX3_read_3 21 rfl rfl)
theorem dX3_read_92 : decode cX3_read 92 = .ok (.getfield 83, 3) := dk_180 0 83 (dk_at dksX3_read_4 0 rfl rfl)
theorem dX3_read_95 : decode cX3_read 95 = .ok (.getfield 109, 3) := dk_180 0 109 (dk_at dksX3_read_4 3 rfl rfl)
theorem dX3_read_98 : decode cX3_read 98 = .ok (.iload_n 1, 1) := dk_27 (dk_at dksX3_read_4 6 rfl rfl)
theorem dX3_read_99 : decode cX3_read 99 = .ok (.iaload, 1) := dk_46 (dk_at dksX3_read_4 7 rfl rfl)
theorem dX3_read_100 : decode cX3_read 100 = .ok (.aload_n 0, 1) := dk_42 (dk_at dksX3_read_4 8 rfl rfl)
theorem dX3_read_101 : decode cX3_read 101 = .ok (.getfield 83, 3) := dk_180 0 83 (dk_at dksX3_read_4 9 rfl rfl)
theorem dX3_read_104 : decode cX3_read 104 = .ok (.getfield 113, 3) := dk_180 0 113 (dk_at dksX3_read_4 12 rfl rfl)
theorem dX3_read_107 : decode cX3_read 107 = .ok (.iload_n 1, 1) := dk_27 (dk_at dksX3_read_4 15 rfl rfl)
theorem dX3_read_108 : decode cX3_read 108 = .ok (.iaload, 1) := dk_46 (dk_at dksX3_read_4 16 rfl rfl)
theorem dX3_read_109 : decode cX3_read 109 = .ok (.invokevirtual 116, 3) := dk_182 0 116 (dk_at dksX3_read_4 17 rfl rfl)
theorem dX3_read_112 : decode cX3_read 112 = .ok (.ifCond .ne 19, 3) := dk_154 0 19 (dk_at dksX3_read_4 20 rfl rfl)
theorem dX3_read_115 : decode cX3_read 115 = .ok (.aload_n 0, 1) := dk_42 (dk_at dksX3_read_4 23 rfl rfl)
theorem dX3_read_116 : decode cX3_read 116 = .ok (.bipush 6, 2) := dk_16 6 (dk_at dksX3_read_5 0 rfl rfl)
theorem dX3_read_118 : decode cX3_read 118 = .ok (.aload_n 0, 1) := dk_42 (dk_at dksX3_read_5 2 rfl rfl)
theorem dX3_read_119 : decode cX3_read 119 = .ok (.getfield 83, 3) := dk_180 0 83 (dk_at dksX3_read_5 3 rfl rfl)
theorem dX3_read_122 : decode cX3_read 122 = .ok (.getfield 120, 3) := dk_180 0 120 (dk_at dksX3_read_5 6 rfl rfl)
theorem dX3_read_125 : decode cX3_read 125 = .ok (.iload_n 1, 1) := dk_27 (dk_at dksX3_read_5 9 rfl rfl)
theorem dX3_read_126 : decode cX3_read 126 = .ok (.iaload, 1) := dk_46 (dk_at dksX3_read_5 10 rfl rfl)
theorem dX3_read_127 : decode cX3_read 127 = .ok (.invokevirtual 35, 3) := dk_182 0 35 (dk_at dksX3_read_5 11 rfl rfl)
theorem dX3_read_130 : decode cX3_read 130 = .ok (.athrow, 1) := dk_191 (dk_at dksX3_read_5 14 rfl rfl)
theorem dX3_read_131 : decode cX3_read 131 = .ok (.iinc 1 1, 3) := dk_132 1 1 (dk_at dksX3_read_5 15 rfl rfl)
theorem dX3_read_134 : decode cX3_read 134 = .ok (.goto (-58), 3) := dk_167 255 198 (dk_at dksX3_read_5 18 rfl rfl)
theorem dX3_read_137 : decode cX3_read 137 = .ok (.aload_n 0, 1) := dk_42 (dk_at dksX3_read_5 21 rfl rfl)
theorem dX3_read_138 : decode cX3_read 138 = .ok (.getfield 83, 3) := dk_180 0 83 (dk_at dksX3_read_6 0 rfl rfl)
theorem dX3_read_141 : decode cX3_read 141 = .ok (.areturn, 1) := dk_176 (dk_at dksX3_read_6 3 rfl rfl)
abbrev cX3_sort : ByteArray := prog_15_method_5_code
def yX3_sort : MethodName := ⟨RX3, "sort", "()I"⟩
def dkwX3_sort_1 : List UInt8 := [180, 0, 9, 180, 0, 44, 42, 180, 0, 31, 51, 172]
abbrev dktX3_sort_1 : List UInt8 := dkwX3_sort_1 ++ []
def dkwX3_sort_0 : List UInt8 := [42, 180, 0, 9, 180, 0, 44, 42, 180, 0, 31, 51, 8, 160, 0, 9, 42, 4, 182, 0, 48, 191, 42]
abbrev dktX3_sort_0 : List UInt8 := dkwX3_sort_0 ++ dktX3_sort_1
theorem dksX3_sort_0 : cX3_sort.data.toList.drop 0 = dktX3_sort_0 := by decide +kernel
theorem dksX3_sort_1 : cX3_sort.data.toList.drop 23 = dktX3_sort_1 := dk_seg dksX3_sort_0 23 rfl rfl
theorem dX3_sort_0 : decode cX3_sort 0 = .ok (.aload_n 0, 1) := dk_42 (dk_at dksX3_sort_0 0 rfl rfl)
theorem dX3_sort_1 : decode cX3_sort 1 = .ok (.getfield 9, 3) := dk_180 0 9 (dk_at dksX3_sort_0 1 rfl rfl)
theorem dX3_sort_4 : decode cX3_sort 4 = .ok (.getfield 44, 3) := dk_180 0 44 (dk_at dksX3_sort_0 4 rfl rfl)
theorem dX3_sort_7 : decode cX3_sort 7 = .ok (.aload_n 0, 1) := dk_42 (dk_at dksX3_sort_0 7 rfl rfl)
theorem dX3_sort_8 : decode cX3_sort 8 = .ok (.getfield 31, 3) := dk_180 0 31 (dk_at dksX3_sort_0 8 rfl rfl)
theorem dX3_sort_11 : decode cX3_sort 11 = .ok (.baload, 1) := dk_51 (dk_at dksX3_sort_0 11 rfl rfl)
theorem dX3_sort_12 : decode cX3_sort 12 = .ok (.iconst 5, 1) := dk_8 (dk_at dksX3_sort_0 12 rfl rfl)
theorem dX3_sort_13 : decode cX3_sort 13 = .ok (.if_icmp .ne 9, 3) := dk_160 0 9 (dk_at dksX3_sort_0 13 rfl rfl)
theorem dX3_sort_16 : decode cX3_sort 16 = .ok (.aload_n 0, 1) := dk_42 (dk_at dksX3_sort_0 16 rfl rfl)
theorem dX3_sort_17 : decode cX3_sort 17 = .ok (.iconst 1, 1) := dk_4 (dk_at dksX3_sort_0 17 rfl rfl)
theorem dX3_sort_18 : decode cX3_sort 18 = .ok (.invokevirtual 48, 3) := dk_182 0 48 (dk_at dksX3_sort_0 18 rfl rfl)
theorem dX3_sort_21 : decode cX3_sort 21 = .ok (.athrow, 1) := dk_191 (dk_at dksX3_sort_0 21 rfl rfl)
theorem dX3_sort_22 : decode cX3_sort 22 = .ok (.aload_n 0, 1) := dk_42 (dk_at dksX3_sort_0 22 rfl rfl)
theorem dX3_sort_23 : decode cX3_sort 23 = .ok (.getfield 9, 3) := dk_180 0 9 (dk_at dksX3_sort_1 0 rfl rfl)
theorem dX3_sort_26 : decode cX3_sort 26 = .ok (.getfield 44, 3) := dk_180 0 44 (dk_at dksX3_sort_1 3 rfl rfl)
theorem dX3_sort_29 : decode cX3_sort 29 = .ok (.aload_n 0, 1) := dk_42 (dk_at dksX3_sort_1 6 rfl rfl)
theorem dX3_sort_30 : decode cX3_sort 30 = .ok (.getfield 31, 3) := dk_180 0 31 (dk_at dksX3_sort_1 7 rfl rfl)
theorem dX3_sort_33 : decode cX3_sort 33 = .ok (.baload, 1) := dk_51 (dk_at dksX3_sort_1 10 rfl rfl)
theorem dX3_sort_34 : decode cX3_sort 34 = .ok (.ireturn, 1) := dk_172 (dk_at dksX3_sort_1 11 rfl rfl)
abbrev cX3_wrong : ByteArray := prog_15_method_3_code
def yX3_wrong : MethodName := ⟨RX3, "wrong", "(I)LThreadTown$Fault;"⟩
def dkwX3_wrong_0 : List UInt8 := [42, 27, 42, 180, 0, 31, 182, 0, 35, 176]
abbrev dktX3_wrong_0 : List UInt8 := dkwX3_wrong_0 ++ []
theorem dksX3_wrong_0 : cX3_wrong.data.toList.drop 0 = dktX3_wrong_0 := by decide +kernel
theorem dX3_wrong_0 : decode cX3_wrong 0 = .ok (.aload_n 0, 1) := dk_42 (dk_at dksX3_wrong_0 0 rfl rfl)
theorem dX3_wrong_1 : decode cX3_wrong 1 = .ok (.iload_n 1, 1) := dk_27 (dk_at dksX3_wrong_0 1 rfl rfl)
theorem dX3_wrong_2 : decode cX3_wrong 2 = .ok (.aload_n 0, 1) := dk_42 (dk_at dksX3_wrong_0 2 rfl rfl)
theorem dX3_wrong_3 : decode cX3_wrong 3 = .ok (.getfield 31, 3) := dk_180 0 31 (dk_at dksX3_wrong_0 3 rfl rfl)
theorem dX3_wrong_6 : decode cX3_wrong 6 = .ok (.invokevirtual 35, 3) := dk_182 0 35 (dk_at dksX3_wrong_0 6 rfl rfl)
theorem dX3_wrong_9 : decode cX3_wrong 9 = .ok (.areturn, 1) := dk_176 (dk_at dksX3_wrong_0 9 rfl rfl)
abbrev cX3_wrongAt : ByteArray := prog_15_method_2_code
def yX3_wrongAt : MethodName := ⟨RX3, "wrongAt", "(II)LThreadTown$Fault;"⟩
def dkwX3_wrongAt_0 : List UInt8 := [42, 180, 0, 15, 27, 42, 180, 0, 9, 180, 0, 19, 28, 53, 182, 0, 25, 176]
abbrev dktX3_wrongAt_0 : List UInt8 := dkwX3_wrongAt_0 ++ []
theorem dksX3_wrongAt_0 : cX3_wrongAt.data.toList.drop 0 = dktX3_wrongAt_0 := by decide +kernel
theorem dX3_wrongAt_0 : decode cX3_wrongAt 0 = .ok (.aload_n 0, 1) := dk_42 (dk_at dksX3_wrongAt_0 0 rfl rfl)
theorem dX3_wrongAt_1 : decode cX3_wrongAt 1 = .ok (.getfield 15, 3) := dk_180 0 15 (dk_at dksX3_wrongAt_0 1 rfl rfl)
theorem dX3_wrongAt_4 : decode cX3_wrongAt 4 = .ok (.iload_n 1, 1) := dk_27 (dk_at dksX3_wrongAt_0 4 rfl rfl)
theorem dX3_wrongAt_5 : decode cX3_wrongAt 5 = .ok (.aload_n 0, 1) := dk_42 (dk_at dksX3_wrongAt_0 5 rfl rfl)
theorem dX3_wrongAt_6 : decode cX3_wrongAt 6 = .ok (.getfield 9, 3) := dk_180 0 9 (dk_at dksX3_wrongAt_0 6 rfl rfl)
theorem dX3_wrongAt_9 : decode cX3_wrongAt 9 = .ok (.getfield 19, 3) := dk_180 0 19 (dk_at dksX3_wrongAt_0 9 rfl rfl)
theorem dX3_wrongAt_12 : decode cX3_wrongAt 12 = .ok (.iload_n 2, 1) := dk_28 (dk_at dksX3_wrongAt_0 12 rfl rfl)
theorem dX3_wrongAt_13 : decode cX3_wrongAt 13 = .ok (.saload, 1) := dk_53 (dk_at dksX3_wrongAt_0 13 rfl rfl)
theorem dX3_wrongAt_14 : decode cX3_wrongAt 14 = .ok (.invokevirtual 25, 3) := dk_182 0 25 (dk_at dksX3_wrongAt_0 14 rfl rfl)
theorem dX3_wrongAt_17 : decode cX3_wrongAt 17 = .ok (.areturn, 1) := dk_176 (dk_at dksX3_wrongAt_0 17 rfl rfl)
abbrev cX3_told : ByteArray := prog_15_method_16_code
def yX3_told : MethodName := ⟨RX3, "told", "()V"⟩
def dkwX3_told_17 : List UInt8 := [182, 0, 48, 191, 177]
abbrev dktX3_told_17 : List UInt8 := dkwX3_told_17 ++ []
def dkwX3_told_16 : List UInt8 := [182, 0, 59, 42, 180, 0, 83, 42, 3, 17, 39, 15, 182, 0, 123, 181, 0, 200, 167, 0, 9, 42, 4]
abbrev dktX3_told_16 : List UInt8 := dkwX3_told_16 ++ dktX3_told_17
def dkwX3_told_15 : List UInt8 := [42, 180, 0, 83, 180, 0, 132, 28, 182, 0, 174, 192, 0, 144, 29, 181, 0, 197, 167, 0, 31, 42]
abbrev dktX3_told_15 : List UInt8 := dkwX3_told_15 ++ dktX3_told_16
def dkwX3_told_14 : List UInt8 := [167, 0, 73, 42, 182, 0, 59, 42, 182, 0, 167, 61, 42, 3, 16, 9, 182, 0, 123, 62, 28, 155, 0, 52]
abbrev dktX3_told_14 : List UInt8 := dkwX3_told_14 ++ dktX3_told_15
def dkwX3_told_13 : List UInt8 := [180, 0, 188, 42, 3, 16, 10, 182, 0, 123, 79, 42, 180, 0, 83, 89, 180, 0, 188, 4, 96, 181, 0, 188]
abbrev dktX3_told_13 : List UInt8 := dkwX3_told_13 ++ dktX3_told_14
def dkwX3_told_12 : List UInt8 := [180, 0, 188, 42, 3, 16, 10, 182, 0, 123, 79, 42, 180, 0, 83, 180, 0, 194, 42, 180, 0, 83]
abbrev dktX3_told_12 : List UInt8 := dkwX3_told_12 ++ dktX3_told_13
def dkwX3_told_11 : List UInt8 := [180, 0, 83, 180, 0, 188, 16, 6, 182, 0, 141, 42, 180, 0, 83, 180, 0, 191, 42, 180, 0, 83]
abbrev dktX3_told_11 : List UInt8 := dkwX3_told_11 ++ dktX3_told_12
def dkwX3_told_10 : List UInt8 := [42, 180, 0, 83, 42, 182, 0, 170, 181, 0, 182, 167, 0, 153, 42, 182, 0, 185, 167, 0, 146, 42, 42]
abbrev dktX3_told_10 : List UInt8 := dkwX3_told_10 ++ dktX3_told_11
def dkwX3_told_9 : List UInt8 := [180, 0, 83, 180, 0, 132, 28, 182, 0, 174, 192, 0, 144, 45, 181, 0, 178, 167, 0, 171, 42, 182, 0, 59]
abbrev dktX3_told_9 : List UInt8 := dkwX3_told_9 ++ dktX3_told_10
def dkwX3_told_8 : List UInt8 := [167, 0, 210, 42, 182, 0, 59, 42, 182, 0, 167, 61, 42, 182, 0, 170, 78, 28, 155, 0, 192, 42]
abbrev dktX3_told_8 : List UInt8 := dkwX3_told_8 ++ dktX3_told_9
def dkwX3_told_7 : List UInt8 := [180, 0, 153, 44, 180, 0, 156, 29, 182, 0, 159, 42, 180, 0, 83, 180, 0, 132, 44, 182, 0, 163, 87]
abbrev dktX3_told_7 : List UInt8 := dkwX3_told_7 ++ dktX3_told_8
def dkwX3_told_6 : List UInt8 := [16, 11, 182, 0, 123, 181, 0, 153, 44, 42, 3, 16, 11, 182, 0, 123, 181, 0, 156, 42, 180, 0, 83, 44]
abbrev dktX3_told_6 : List UInt8 := dkwX3_told_6 ++ dktX3_told_7
def dkwX3_told_5 : List UInt8 := [182, 0, 141, 187, 0, 144, 89, 42, 182, 0, 146, 183, 0, 150, 77, 42, 180, 0, 31, 62, 44, 42, 3]
abbrev dktX3_told_5 : List UInt8 := dkwX3_told_5 ++ dktX3_told_6
def dkwX3_told_4 : List UInt8 := [16, 12, 182, 0, 123, 181, 0, 129, 167, 1, 40, 42, 42, 180, 0, 83, 180, 0, 132, 182, 0, 136, 16, 7]
abbrev dktX3_told_4 : List UInt8 := dkwX3_told_4 ++ dktX3_told_5
def dkwX3_told_3 : List UInt8 := [42, 182, 0, 59, 42, 180, 0, 83, 42, 5, 16, 12, 182, 0, 123, 181, 0, 126, 42, 180, 0, 83, 42, 5]
abbrev dktX3_told_3 : List UInt8 := dkwX3_told_3 ++ dktX3_told_4
def dkwX3_told_2 : List UInt8 := [170, 0, 0, 0, 1, 112, 0, 0, 0, 0, 0, 0, 0, 7, 0, 0, 0, 46, 0, 0, 0, 81, 0, 0, 0, 167, 0, 0, 0, 206, 0, 0, 0, 224, 0, 0, 0, 231, 0, 0, 1, 48, 0, 0, 1, 90]
abbrev dktX3_told_2 : List UInt8 := dkwX3_told_2 ++ dktX3_told_3
def dkwX3_told_1 : List UInt8 := [60, 27]
abbrev dktX3_told_1 : List UInt8 := dkwX3_told_1 ++ dktX3_told_2
def dkwX3_told_0 : List UInt8 := [42, 182, 0, 65, 6, 160, 0, 18, 42, 180, 0, 9, 180, 0, 52, 42, 180, 0, 31, 53, 167, 0, 4, 2]
abbrev dktX3_told_0 : List UInt8 := dkwX3_told_0 ++ dktX3_told_1
theorem dksX3_told_0 : cX3_told.data.toList.drop 0 = dktX3_told_0 := by decide +kernel
theorem dksX3_told_1 : cX3_told.data.toList.drop 24 = dktX3_told_1 := dk_seg dksX3_told_0 24 rfl rfl
theorem dksX3_told_2 : cX3_told.data.toList.drop 26 = dktX3_told_2 := dk_seg dksX3_told_1 2 rfl rfl
theorem dksX3_told_3 : cX3_told.data.toList.drop 72 = dktX3_told_3 := dk_seg dksX3_told_2 46 rfl rfl
theorem dksX3_told_4 : cX3_told.data.toList.drop 96 = dktX3_told_4 := dk_seg dksX3_told_3 24 rfl rfl
theorem dksX3_told_5 : cX3_told.data.toList.drop 120 = dktX3_told_5 := dk_seg dksX3_told_4 24 rfl rfl
theorem dksX3_told_6 : cX3_told.data.toList.drop 143 = dktX3_told_6 := dk_seg dksX3_told_5 23 rfl rfl
theorem dksX3_told_7 : cX3_told.data.toList.drop 167 = dktX3_told_7 := dk_seg dksX3_told_6 24 rfl rfl
theorem dksX3_told_8 : cX3_told.data.toList.drop 190 = dktX3_told_8 := dk_seg dksX3_told_7 23 rfl rfl
theorem dksX3_told_9 : cX3_told.data.toList.drop 212 = dktX3_told_9 := dk_seg dksX3_told_8 22 rfl rfl
theorem dksX3_told_10 : cX3_told.data.toList.drop 236 = dktX3_told_10 := dk_seg dksX3_told_9 24 rfl rfl
theorem dksX3_told_11 : cX3_told.data.toList.drop 259 = dktX3_told_11 := dk_seg dksX3_told_10 23 rfl rfl
theorem dksX3_told_12 : cX3_told.data.toList.drop 281 = dktX3_told_12 := dk_seg dksX3_told_11 22 rfl rfl
theorem dksX3_told_13 : cX3_told.data.toList.drop 303 = dktX3_told_13 := dk_seg dksX3_told_12 22 rfl rfl
theorem dksX3_told_14 : cX3_told.data.toList.drop 327 = dktX3_told_14 := dk_seg dksX3_told_13 24 rfl rfl
theorem dksX3_told_15 : cX3_told.data.toList.drop 351 = dktX3_told_15 := dk_seg dksX3_told_14 24 rfl rfl
theorem dksX3_told_16 : cX3_told.data.toList.drop 373 = dktX3_told_16 := dk_seg dksX3_told_15 22 rfl rfl
theorem dksX3_told_17 : cX3_told.data.toList.drop 396 = dktX3_told_17 := dk_seg dksX3_told_16 23 rfl rfl
theorem dX3_told_0 : decode cX3_told 0 = .ok (.aload_n 0, 1) := dk_42 (dk_at dksX3_told_0 0 rfl rfl)
theorem dX3_told_1 : decode cX3_told 1 = .ok (.invokevirtual 65, 3) := dk_182 0 65 (dk_at dksX3_told_0 1 rfl rfl)
theorem dX3_told_4 : decode cX3_told 4 = .ok (.iconst 3, 1) := dk_6 (dk_at dksX3_told_0 4 rfl rfl)
theorem dX3_told_5 : decode cX3_told 5 = .ok (.if_icmp .ne 18, 3) := dk_160 0 18 (dk_at dksX3_told_0 5 rfl rfl)
theorem dX3_told_8 : decode cX3_told 8 = .ok (.aload_n 0, 1) := dk_42 (dk_at dksX3_told_0 8 rfl rfl)
theorem dX3_told_9 : decode cX3_told 9 = .ok (.getfield 9, 3) := dk_180 0 9 (dk_at dksX3_told_0 9 rfl rfl)
theorem dX3_told_12 : decode cX3_told 12 = .ok (.getfield 52, 3) := dk_180 0 52 (dk_at dksX3_told_0 12 rfl rfl)
theorem dX3_told_15 : decode cX3_told 15 = .ok (.aload_n 0, 1) := dk_42 (dk_at dksX3_told_0 15 rfl rfl)
theorem dX3_told_16 : decode cX3_told 16 = .ok (.getfield 31, 3) := dk_180 0 31 (dk_at dksX3_told_0 16 rfl rfl)
theorem dX3_told_19 : decode cX3_told 19 = .ok (.saload, 1) := dk_53 (dk_at dksX3_told_0 19 rfl rfl)
theorem dX3_told_20 : decode cX3_told 20 = .ok (.goto 4, 3) := dk_167 0 4 (dk_at dksX3_told_0 20 rfl rfl)
theorem dX3_told_23 : decode cX3_told 23 = .ok (.iconst (-1), 1) := dk_2 (dk_at dksX3_told_0 23 rfl rfl)
theorem dX3_told_24 : decode cX3_told 24 = .ok (.istore_n 1, 1) := dk_60 (dk_at dksX3_told_1 0 rfl rfl)
theorem dX3_told_25 : decode cX3_told 25 = .ok (.iload_n 1, 1) := dk_27 (dk_at dksX3_told_1 1 rfl rfl)
theorem dX3_told_26 : decode cX3_told 26 = .ok (.tableswitch 368 0 7 #[46, 81, 167, 206, 224, 231, 304, 346], 46) := by decide +kernel
theorem dX3_told_72 : decode cX3_told 72 = .ok (.aload_n 0, 1) := dk_42 (dk_at dksX3_told_3 0 rfl rfl)
theorem dX3_told_73 : decode cX3_told 73 = .ok (.invokevirtual 59, 3) := dk_182 0 59 (dk_at dksX3_told_3 1 rfl rfl)
theorem dX3_told_76 : decode cX3_told 76 = .ok (.aload_n 0, 1) := dk_42 (dk_at dksX3_told_3 4 rfl rfl)
theorem dX3_told_77 : decode cX3_told 77 = .ok (.getfield 83, 3) := dk_180 0 83 (dk_at dksX3_told_3 5 rfl rfl)
theorem dX3_told_80 : decode cX3_told 80 = .ok (.aload_n 0, 1) := dk_42 (dk_at dksX3_told_3 8 rfl rfl)
theorem dX3_told_81 : decode cX3_told 81 = .ok (.iconst 2, 1) := dk_5 (dk_at dksX3_told_3 9 rfl rfl)
theorem dX3_told_82 : decode cX3_told 82 = .ok (.bipush 12, 2) := dk_16 12 (dk_at dksX3_told_3 10 rfl rfl)
theorem dX3_told_84 : decode cX3_told 84 = .ok (.invokevirtual 123, 3) := dk_182 0 123 (dk_at dksX3_told_3 12 rfl rfl)
theorem dX3_told_87 : decode cX3_told 87 = .ok (.putfield 126, 3) := dk_181 0 126 (dk_at dksX3_told_3 15 rfl rfl)
theorem dX3_told_90 : decode cX3_told 90 = .ok (.aload_n 0, 1) := dk_42 (dk_at dksX3_told_3 18 rfl rfl)
theorem dX3_told_91 : decode cX3_told 91 = .ok (.getfield 83, 3) := dk_180 0 83 (dk_at dksX3_told_3 19 rfl rfl)
theorem dX3_told_94 : decode cX3_told 94 = .ok (.aload_n 0, 1) := dk_42 (dk_at dksX3_told_3 22 rfl rfl)
theorem dX3_told_95 : decode cX3_told 95 = .ok (.iconst 2, 1) := dk_5 (dk_at dksX3_told_3 23 rfl rfl)
theorem dX3_told_96 : decode cX3_told 96 = .ok (.bipush 12, 2) := dk_16 12 (dk_at dksX3_told_4 0 rfl rfl)
theorem dX3_told_98 : decode cX3_told 98 = .ok (.invokevirtual 123, 3) := dk_182 0 123 (dk_at dksX3_told_4 2 rfl rfl)
theorem dX3_told_101 : decode cX3_told 101 = .ok (.putfield 129, 3) := dk_181 0 129 (dk_at dksX3_told_4 5 rfl rfl)
theorem dX3_told_104 : decode cX3_told 104 = .ok (.goto 296, 3) := dk_167 1 40 (dk_at dksX3_told_4 8 rfl rfl)
theorem dX3_told_107 : decode cX3_told 107 = .ok (.aload_n 0, 1) := dk_42 (dk_at dksX3_told_4 11 rfl rfl)
theorem dX3_told_108 : decode cX3_told 108 = .ok (.aload_n 0, 1) := dk_42 (dk_at dksX3_told_4 12 rfl rfl)
theorem dX3_told_109 : decode cX3_told 109 = .ok (.getfield 83, 3) := dk_180 0 83 (dk_at dksX3_told_4 13 rfl rfl)
theorem dX3_told_112 : decode cX3_told 112 = .ok (.getfield 132, 3) := dk_180 0 132 (dk_at dksX3_told_4 16 rfl rfl)
theorem dX3_told_115 : decode cX3_told 115 = .ok (.invokevirtual 136, 3) := dk_182 0 136 (dk_at dksX3_told_4 19 rfl rfl)
theorem dX3_told_118 : decode cX3_told 118 = .ok (.bipush 7, 2) := dk_16 7 (dk_at dksX3_told_4 22 rfl rfl)
theorem dX3_told_120 : decode cX3_told 120 = .ok (.invokevirtual 141, 3) := dk_182 0 141 (dk_at dksX3_told_5 0 rfl rfl)
theorem dX3_told_123 : decode cX3_told 123 = .ok (.new 144, 3) := dk_187 0 144 (dk_at dksX3_told_5 3 rfl rfl)
theorem dX3_told_126 : decode cX3_told 126 = .ok (.dup, 1) := dk_89 (dk_at dksX3_told_5 6 rfl rfl)
theorem dX3_told_127 : decode cX3_told 127 = .ok (.aload_n 0, 1) := dk_42 (dk_at dksX3_told_5 7 rfl rfl)
theorem dX3_told_128 : decode cX3_told 128 = .ok (.invokevirtual 146, 3) := dk_182 0 146 (dk_at dksX3_told_5 8 rfl rfl)
theorem dX3_told_131 : decode cX3_told 131 = .ok (.invokespecial 150, 3) := dk_183 0 150 (dk_at dksX3_told_5 11 rfl rfl)
theorem dX3_told_134 : decode cX3_told 134 = .ok (.astore_n 2, 1) := dk_77 (dk_at dksX3_told_5 14 rfl rfl)
theorem dX3_told_135 : decode cX3_told 135 = .ok (.aload_n 0, 1) := dk_42 (dk_at dksX3_told_5 15 rfl rfl)
theorem dX3_told_136 : decode cX3_told 136 = .ok (.getfield 31, 3) := dk_180 0 31 (dk_at dksX3_told_5 16 rfl rfl)
theorem dX3_told_139 : decode cX3_told 139 = .ok (.istore_n 3, 1) := dk_62 (dk_at dksX3_told_5 19 rfl rfl)
theorem dX3_told_140 : decode cX3_told 140 = .ok (.aload_n 2, 1) := dk_44 (dk_at dksX3_told_5 20 rfl rfl)
theorem dX3_told_141 : decode cX3_told 141 = .ok (.aload_n 0, 1) := dk_42 (dk_at dksX3_told_5 21 rfl rfl)
theorem dX3_told_142 : decode cX3_told 142 = .ok (.iconst 0, 1) := dk_3 (dk_at dksX3_told_5 22 rfl rfl)
theorem dX3_told_143 : decode cX3_told 143 = .ok (.bipush 11, 2) := dk_16 11 (dk_at dksX3_told_6 0 rfl rfl)
theorem dX3_told_145 : decode cX3_told 145 = .ok (.invokevirtual 123, 3) := dk_182 0 123 (dk_at dksX3_told_6 2 rfl rfl)
theorem dX3_told_148 : decode cX3_told 148 = .ok (.putfield 153, 3) := dk_181 0 153 (dk_at dksX3_told_6 5 rfl rfl)
theorem dX3_told_151 : decode cX3_told 151 = .ok (.aload_n 2, 1) := dk_44 (dk_at dksX3_told_6 8 rfl rfl)
theorem dX3_told_152 : decode cX3_told 152 = .ok (.aload_n 0, 1) := dk_42 (dk_at dksX3_told_6 9 rfl rfl)
theorem dX3_told_153 : decode cX3_told 153 = .ok (.iconst 0, 1) := dk_3 (dk_at dksX3_told_6 10 rfl rfl)
theorem dX3_told_154 : decode cX3_told 154 = .ok (.bipush 11, 2) := dk_16 11 (dk_at dksX3_told_6 11 rfl rfl)
theorem dX3_told_156 : decode cX3_told 156 = .ok (.invokevirtual 123, 3) := dk_182 0 123 (dk_at dksX3_told_6 13 rfl rfl)
theorem dX3_told_159 : decode cX3_told 159 = .ok (.putfield 156, 3) := dk_181 0 156 (dk_at dksX3_told_6 16 rfl rfl)
theorem dX3_told_162 : decode cX3_told 162 = .ok (.aload_n 0, 1) := dk_42 (dk_at dksX3_told_6 19 rfl rfl)
theorem dX3_told_163 : decode cX3_told 163 = .ok (.getfield 83, 3) := dk_180 0 83 (dk_at dksX3_told_6 20 rfl rfl)
theorem dX3_told_166 : decode cX3_told 166 = .ok (.aload_n 2, 1) := dk_44 (dk_at dksX3_told_6 23 rfl rfl)
theorem dX3_told_167 : decode cX3_told 167 = .ok (.getfield 153, 3) := dk_180 0 153 (dk_at dksX3_told_7 0 rfl rfl)
theorem dX3_told_170 : decode cX3_told 170 = .ok (.aload_n 2, 1) := dk_44 (dk_at dksX3_told_7 3 rfl rfl)
theorem dX3_told_171 : decode cX3_told 171 = .ok (.getfield 156, 3) := dk_180 0 156 (dk_at dksX3_told_7 4 rfl rfl)
theorem dX3_told_174 : decode cX3_told 174 = .ok (.iload_n 3, 1) := dk_29 (dk_at dksX3_told_7 7 rfl rfl)
theorem dX3_told_175 : decode cX3_told 175 = .ok (.invokevirtual 159, 3) := dk_182 0 159 (dk_at dksX3_told_7 8 rfl rfl)
theorem dX3_told_178 : decode cX3_told 178 = .ok (.aload_n 0, 1) := dk_42 (dk_at dksX3_told_7 11 rfl rfl)
theorem dX3_told_179 : decode cX3_told 179 = .ok (.getfield 83, 3) := dk_180 0 83 (dk_at dksX3_told_7 12 rfl rfl)
theorem dX3_told_182 : decode cX3_told 182 = .ok (.getfield 132, 3) := dk_180 0 132 (dk_at dksX3_told_7 15 rfl rfl)
theorem dX3_told_185 : decode cX3_told 185 = .ok (.aload_n 2, 1) := dk_44 (dk_at dksX3_told_7 18 rfl rfl)
theorem dX3_told_186 : decode cX3_told 186 = .ok (.invokevirtual 163, 3) := dk_182 0 163 (dk_at dksX3_told_7 19 rfl rfl)
theorem dX3_told_189 : decode cX3_told 189 = .ok (.pop, 1) := dk_87 (dk_at dksX3_told_7 22 rfl rfl)
theorem dX3_told_190 : decode cX3_told 190 = .ok (.goto 210, 3) := dk_167 0 210 (dk_at dksX3_told_8 0 rfl rfl)
theorem dX3_told_193 : decode cX3_told 193 = .ok (.aload_n 0, 1) := dk_42 (dk_at dksX3_told_8 3 rfl rfl)
theorem dX3_told_194 : decode cX3_told 194 = .ok (.invokevirtual 59, 3) := dk_182 0 59 (dk_at dksX3_told_8 4 rfl rfl)
theorem dX3_told_197 : decode cX3_told 197 = .ok (.aload_n 0, 1) := dk_42 (dk_at dksX3_told_8 7 rfl rfl)
theorem dX3_told_198 : decode cX3_told 198 = .ok (.invokevirtual 167, 3) := dk_182 0 167 (dk_at dksX3_told_8 8 rfl rfl)
theorem dX3_told_201 : decode cX3_told 201 = .ok (.istore_n 2, 1) := dk_61 (dk_at dksX3_told_8 11 rfl rfl)
theorem dX3_told_202 : decode cX3_told 202 = .ok (.aload_n 0, 1) := dk_42 (dk_at dksX3_told_8 12 rfl rfl)
theorem dX3_told_203 : decode cX3_told 203 = .ok (.invokevirtual 170, 3) := dk_182 0 170 (dk_at dksX3_told_8 13 rfl rfl)
theorem dX3_told_206 : decode cX3_told 206 = .ok (.astore_n 3, 1) := dk_78 (dk_at dksX3_told_8 16 rfl rfl)
theorem dX3_told_207 : decode cX3_told 207 = .ok (.iload_n 2, 1) := dk_28 (dk_at dksX3_told_8 17 rfl rfl)
theorem dX3_told_208 : decode cX3_told 208 = .ok (.ifCond .lt 192, 3) := dk_155 0 192 (dk_at dksX3_told_8 18 rfl rfl)
theorem dX3_told_211 : decode cX3_told 211 = .ok (.aload_n 0, 1) := dk_42 (dk_at dksX3_told_8 21 rfl rfl)
theorem dX3_told_212 : decode cX3_told 212 = .ok (.getfield 83, 3) := dk_180 0 83 (dk_at dksX3_told_9 0 rfl rfl)
theorem dX3_told_215 : decode cX3_told 215 = .ok (.getfield 132, 3) := dk_180 0 132 (dk_at dksX3_told_9 3 rfl rfl)
theorem dX3_told_218 : decode cX3_told 218 = .ok (.iload_n 2, 1) := dk_28 (dk_at dksX3_told_9 6 rfl rfl)
theorem dX3_told_219 : decode cX3_told 219 = .ok (.invokevirtual 174, 3) := dk_182 0 174 (dk_at dksX3_told_9 7 rfl rfl)
theorem dX3_told_222 : decode cX3_told 222 = .ok (.checkcast 144, 3) := dk_192 0 144 (dk_at dksX3_told_9 10 rfl rfl)
theorem dX3_told_225 : decode cX3_told 225 = .ok (.aload_n 3, 1) := dk_45 (dk_at dksX3_told_9 13 rfl rfl)
theorem dX3_told_226 : decode cX3_told 226 = .ok (.putfield 178, 3) := dk_181 0 178 (dk_at dksX3_told_9 14 rfl rfl)
theorem dX3_told_229 : decode cX3_told 229 = .ok (.goto 171, 3) := dk_167 0 171 (dk_at dksX3_told_9 17 rfl rfl)
theorem dX3_told_232 : decode cX3_told 232 = .ok (.aload_n 0, 1) := dk_42 (dk_at dksX3_told_9 20 rfl rfl)
theorem dX3_told_233 : decode cX3_told 233 = .ok (.invokevirtual 59, 3) := dk_182 0 59 (dk_at dksX3_told_9 21 rfl rfl)
theorem dX3_told_236 : decode cX3_told 236 = .ok (.aload_n 0, 1) := dk_42 (dk_at dksX3_told_10 0 rfl rfl)
theorem dX3_told_237 : decode cX3_told 237 = .ok (.getfield 83, 3) := dk_180 0 83 (dk_at dksX3_told_10 1 rfl rfl)
theorem dX3_told_240 : decode cX3_told 240 = .ok (.aload_n 0, 1) := dk_42 (dk_at dksX3_told_10 4 rfl rfl)
theorem dX3_told_241 : decode cX3_told 241 = .ok (.invokevirtual 170, 3) := dk_182 0 170 (dk_at dksX3_told_10 5 rfl rfl)
theorem dX3_told_244 : decode cX3_told 244 = .ok (.putfield 182, 3) := dk_181 0 182 (dk_at dksX3_told_10 8 rfl rfl)
theorem dX3_told_247 : decode cX3_told 247 = .ok (.goto 153, 3) := dk_167 0 153 (dk_at dksX3_told_10 11 rfl rfl)
theorem dX3_told_250 : decode cX3_told 250 = .ok (.aload_n 0, 1) := dk_42 (dk_at dksX3_told_10 14 rfl rfl)
theorem dX3_told_251 : decode cX3_told 251 = .ok (.invokevirtual 185, 3) := dk_182 0 185 (dk_at dksX3_told_10 15 rfl rfl)
theorem dX3_told_254 : decode cX3_told 254 = .ok (.goto 146, 3) := dk_167 0 146 (dk_at dksX3_told_10 18 rfl rfl)
theorem dX3_told_257 : decode cX3_told 257 = .ok (.aload_n 0, 1) := dk_42 (dk_at dksX3_told_10 21 rfl rfl)
theorem dX3_told_258 : decode cX3_told 258 = .ok (.aload_n 0, 1) := dk_42 (dk_at dksX3_told_10 22 rfl rfl)
theorem dX3_told_259 : decode cX3_told 259 = .ok (.getfield 83, 3) := dk_180 0 83 (dk_at dksX3_told_11 0 rfl rfl)
theorem dX3_told_262 : decode cX3_told 262 = .ok (.getfield 188, 3) := dk_180 0 188 (dk_at dksX3_told_11 3 rfl rfl)
theorem dX3_told_265 : decode cX3_told 265 = .ok (.bipush 6, 2) := dk_16 6 (dk_at dksX3_told_11 6 rfl rfl)
theorem dX3_told_267 : decode cX3_told 267 = .ok (.invokevirtual 141, 3) := dk_182 0 141 (dk_at dksX3_told_11 8 rfl rfl)
theorem dX3_told_270 : decode cX3_told 270 = .ok (.aload_n 0, 1) := dk_42 (dk_at dksX3_told_11 11 rfl rfl)
theorem dX3_told_271 : decode cX3_told 271 = .ok (.getfield 83, 3) := dk_180 0 83 (dk_at dksX3_told_11 12 rfl rfl)
theorem dX3_told_274 : decode cX3_told 274 = .ok (.getfield 191, 3) := dk_180 0 191 (dk_at dksX3_told_11 15 rfl rfl)
theorem dX3_told_277 : decode cX3_told 277 = .ok (.aload_n 0, 1) := dk_42 (dk_at dksX3_told_11 18 rfl rfl)
theorem dX3_told_278 : decode cX3_told 278 = .ok (.getfield 83, 3) := dk_180 0 83 (dk_at dksX3_told_11 19 rfl rfl)
theorem dX3_told_281 : decode cX3_told 281 = .ok (.getfield 188, 3) := dk_180 0 188 (dk_at dksX3_told_12 0 rfl rfl)
theorem dX3_told_284 : decode cX3_told 284 = .ok (.aload_n 0, 1) := dk_42 (dk_at dksX3_told_12 3 rfl rfl)
theorem dX3_told_285 : decode cX3_told 285 = .ok (.iconst 0, 1) := dk_3 (dk_at dksX3_told_12 4 rfl rfl)
theorem dX3_told_286 : decode cX3_told 286 = .ok (.bipush 10, 2) := dk_16 10 (dk_at dksX3_told_12 5 rfl rfl)
theorem dX3_told_288 : decode cX3_told 288 = .ok (.invokevirtual 123, 3) := dk_182 0 123 (dk_at dksX3_told_12 7 rfl rfl)
theorem dX3_told_291 : decode cX3_told 291 = .ok (.iastore, 1) := dk_79 (dk_at dksX3_told_12 10 rfl rfl)
theorem dX3_told_292 : decode cX3_told 292 = .ok (.aload_n 0, 1) := dk_42 (dk_at dksX3_told_12 11 rfl rfl)
theorem dX3_told_293 : decode cX3_told 293 = .ok (.getfield 83, 3) := dk_180 0 83 (dk_at dksX3_told_12 12 rfl rfl)
theorem dX3_told_296 : decode cX3_told 296 = .ok (.getfield 194, 3) := dk_180 0 194 (dk_at dksX3_told_12 15 rfl rfl)
theorem dX3_told_299 : decode cX3_told 299 = .ok (.aload_n 0, 1) := dk_42 (dk_at dksX3_told_12 18 rfl rfl)
theorem dX3_told_300 : decode cX3_told 300 = .ok (.getfield 83, 3) := dk_180 0 83 (dk_at dksX3_told_12 19 rfl rfl)
theorem dX3_told_303 : decode cX3_told 303 = .ok (.getfield 188, 3) := dk_180 0 188 (dk_at dksX3_told_13 0 rfl rfl)
theorem dX3_told_306 : decode cX3_told 306 = .ok (.aload_n 0, 1) := dk_42 (dk_at dksX3_told_13 3 rfl rfl)
theorem dX3_told_307 : decode cX3_told 307 = .ok (.iconst 0, 1) := dk_3 (dk_at dksX3_told_13 4 rfl rfl)
theorem dX3_told_308 : decode cX3_told 308 = .ok (.bipush 10, 2) := dk_16 10 (dk_at dksX3_told_13 5 rfl rfl)
theorem dX3_told_310 : decode cX3_told 310 = .ok (.invokevirtual 123, 3) := dk_182 0 123 (dk_at dksX3_told_13 7 rfl rfl)
theorem dX3_told_313 : decode cX3_told 313 = .ok (.iastore, 1) := dk_79 (dk_at dksX3_told_13 10 rfl rfl)
theorem dX3_told_314 : decode cX3_told 314 = .ok (.aload_n 0, 1) := dk_42 (dk_at dksX3_told_13 11 rfl rfl)
theorem dX3_told_315 : decode cX3_told 315 = .ok (.getfield 83, 3) := dk_180 0 83 (dk_at dksX3_told_13 12 rfl rfl)
theorem dX3_told_318 : decode cX3_told 318 = .ok (.dup, 1) := dk_89 (dk_at dksX3_told_13 15 rfl rfl)
theorem dX3_told_319 : decode cX3_told 319 = .ok (.getfield 188, 3) := dk_180 0 188 (dk_at dksX3_told_13 16 rfl rfl)
theorem dX3_told_322 : decode cX3_told 322 = .ok (.iconst 1, 1) := dk_4 (dk_at dksX3_told_13 19 rfl rfl)
theorem dX3_told_323 : decode cX3_told 323 = .ok (.iadd, 1) := dk_96 (dk_at dksX3_told_13 20 rfl rfl)
theorem dX3_told_324 : decode cX3_told 324 = .ok (.putfield 188, 3) := dk_181 0 188 (dk_at dksX3_told_13 21 rfl rfl)
theorem dX3_told_327 : decode cX3_told 327 = .ok (.goto 73, 3) := dk_167 0 73 (dk_at dksX3_told_14 0 rfl rfl)
theorem dX3_told_330 : decode cX3_told 330 = .ok (.aload_n 0, 1) := dk_42 (dk_at dksX3_told_14 3 rfl rfl)
theorem dX3_told_331 : decode cX3_told 331 = .ok (.invokevirtual 59, 3) := dk_182 0 59 (dk_at dksX3_told_14 4 rfl rfl)
theorem dX3_told_334 : decode cX3_told 334 = .ok (.aload_n 0, 1) := dk_42 (dk_at dksX3_told_14 7 rfl rfl)
theorem dX3_told_335 : decode cX3_told 335 = .ok (.invokevirtual 167, 3) := dk_182 0 167 (dk_at dksX3_told_14 8 rfl rfl)
theorem dX3_told_338 : decode cX3_told 338 = .ok (.istore_n 2, 1) := dk_61 (dk_at dksX3_told_14 11 rfl rfl)
theorem dX3_told_339 : decode cX3_told 339 = .ok (.aload_n 0, 1) := dk_42 (dk_at dksX3_told_14 12 rfl rfl)
theorem dX3_told_340 : decode cX3_told 340 = .ok (.iconst 0, 1) := dk_3 (dk_at dksX3_told_14 13 rfl rfl)
theorem dX3_told_341 : decode cX3_told 341 = .ok (.bipush 9, 2) := dk_16 9 (dk_at dksX3_told_14 14 rfl rfl)
theorem dX3_told_343 : decode cX3_told 343 = .ok (.invokevirtual 123, 3) := dk_182 0 123 (dk_at dksX3_told_14 16 rfl rfl)
theorem dX3_told_346 : decode cX3_told 346 = .ok (.istore_n 3, 1) := dk_62 (dk_at dksX3_told_14 19 rfl rfl)
theorem dX3_told_347 : decode cX3_told 347 = .ok (.iload_n 2, 1) := dk_28 (dk_at dksX3_told_14 20 rfl rfl)
theorem dX3_told_348 : decode cX3_told 348 = .ok (.ifCond .lt 52, 3) := dk_155 0 52 (dk_at dksX3_told_14 21 rfl rfl)
theorem dX3_told_351 : decode cX3_told 351 = .ok (.aload_n 0, 1) := dk_42 (dk_at dksX3_told_15 0 rfl rfl)
theorem dX3_told_352 : decode cX3_told 352 = .ok (.getfield 83, 3) := dk_180 0 83 (dk_at dksX3_told_15 1 rfl rfl)
theorem dX3_told_355 : decode cX3_told 355 = .ok (.getfield 132, 3) := dk_180 0 132 (dk_at dksX3_told_15 4 rfl rfl)
theorem dX3_told_358 : decode cX3_told 358 = .ok (.iload_n 2, 1) := dk_28 (dk_at dksX3_told_15 7 rfl rfl)
theorem dX3_told_359 : decode cX3_told 359 = .ok (.invokevirtual 174, 3) := dk_182 0 174 (dk_at dksX3_told_15 8 rfl rfl)
theorem dX3_told_362 : decode cX3_told 362 = .ok (.checkcast 144, 3) := dk_192 0 144 (dk_at dksX3_told_15 11 rfl rfl)
theorem dX3_told_365 : decode cX3_told 365 = .ok (.iload_n 3, 1) := dk_29 (dk_at dksX3_told_15 14 rfl rfl)
theorem dX3_told_366 : decode cX3_told 366 = .ok (.putfield 197, 3) := dk_181 0 197 (dk_at dksX3_told_15 15 rfl rfl)
theorem dX3_told_369 : decode cX3_told 369 = .ok (.goto 31, 3) := dk_167 0 31 (dk_at dksX3_told_15 18 rfl rfl)
theorem dX3_told_372 : decode cX3_told 372 = .ok (.aload_n 0, 1) := dk_42 (dk_at dksX3_told_15 21 rfl rfl)
theorem dX3_told_373 : decode cX3_told 373 = .ok (.invokevirtual 59, 3) := dk_182 0 59 (dk_at dksX3_told_16 0 rfl rfl)
theorem dX3_told_376 : decode cX3_told 376 = .ok (.aload_n 0, 1) := dk_42 (dk_at dksX3_told_16 3 rfl rfl)
theorem dX3_told_377 : decode cX3_told 377 = .ok (.getfield 83, 3) := dk_180 0 83 (dk_at dksX3_told_16 4 rfl rfl)
theorem dX3_told_380 : decode cX3_told 380 = .ok (.aload_n 0, 1) := dk_42 (dk_at dksX3_told_16 7 rfl rfl)
theorem dX3_told_381 : decode cX3_told 381 = .ok (.iconst 0, 1) := dk_3 (dk_at dksX3_told_16 8 rfl rfl)
theorem dX3_told_382 : decode cX3_told 382 = .ok (.sipush 9999, 3) := dk_17 39 15 (dk_at dksX3_told_16 9 rfl rfl)
theorem dX3_told_385 : decode cX3_told 385 = .ok (.invokevirtual 123, 3) := dk_182 0 123 (dk_at dksX3_told_16 12 rfl rfl)
theorem dX3_told_388 : decode cX3_told 388 = .ok (.putfield 200, 3) := dk_181 0 200 (dk_at dksX3_told_16 15 rfl rfl)
theorem dX3_told_391 : decode cX3_told 391 = .ok (.goto 9, 3) := dk_167 0 9 (dk_at dksX3_told_16 18 rfl rfl)
theorem dX3_told_394 : decode cX3_told 394 = .ok (.aload_n 0, 1) := dk_42 (dk_at dksX3_told_16 21 rfl rfl)
theorem dX3_told_395 : decode cX3_told 395 = .ok (.iconst 1, 1) := dk_4 (dk_at dksX3_told_16 22 rfl rfl)
theorem dX3_told_396 : decode cX3_told 396 = .ok (.invokevirtual 48, 3) := dk_182 0 48 (dk_at dksX3_told_17 0 rfl rfl)
theorem dX3_told_399 : decode cX3_told 399 = .ok (.athrow, 1) := dk_191 (dk_at dksX3_told_17 3 rfl rfl)
theorem dX3_told_400 : decode cX3_told 400 = .ok (.return_, 1) := dk_177 (dk_at dksX3_told_17 4 rfl rfl)
abbrev cX3_pass : ByteArray := prog_15_method_6_code
def yX3_pass : MethodName := ⟨RX3, "pass", "()V"⟩
def dkwX3_pass_1 : List UInt8 := [181, 0, 31, 177]
abbrev dktX3_pass_1 : List UInt8 := dkwX3_pass_1 ++ []
def dkwX3_pass_0 : List UInt8 := [42, 180, 0, 31, 17, 1, 144, 161, 0, 9, 42, 5, 182, 0, 48, 191, 42, 89, 180, 0, 31, 4, 96]
abbrev dktX3_pass_0 : List UInt8 := dkwX3_pass_0 ++ dktX3_pass_1
theorem dksX3_pass_0 : cX3_pass.data.toList.drop 0 = dktX3_pass_0 := by decide +kernel
theorem dksX3_pass_1 : cX3_pass.data.toList.drop 23 = dktX3_pass_1 := dk_seg dksX3_pass_0 23 rfl rfl
theorem dX3_pass_0 : decode cX3_pass 0 = .ok (.aload_n 0, 1) := dk_42 (dk_at dksX3_pass_0 0 rfl rfl)
theorem dX3_pass_1 : decode cX3_pass 1 = .ok (.getfield 31, 3) := dk_180 0 31 (dk_at dksX3_pass_0 1 rfl rfl)
theorem dX3_pass_4 : decode cX3_pass 4 = .ok (.sipush 400, 3) := dk_17 1 144 (dk_at dksX3_pass_0 4 rfl rfl)
theorem dX3_pass_7 : decode cX3_pass 7 = .ok (.if_icmp .lt 9, 3) := dk_161 0 9 (dk_at dksX3_pass_0 7 rfl rfl)
theorem dX3_pass_10 : decode cX3_pass 10 = .ok (.aload_n 0, 1) := dk_42 (dk_at dksX3_pass_0 10 rfl rfl)
theorem dX3_pass_11 : decode cX3_pass 11 = .ok (.iconst 2, 1) := dk_5 (dk_at dksX3_pass_0 11 rfl rfl)
theorem dX3_pass_12 : decode cX3_pass 12 = .ok (.invokevirtual 48, 3) := dk_182 0 48 (dk_at dksX3_pass_0 12 rfl rfl)
theorem dX3_pass_15 : decode cX3_pass 15 = .ok (.athrow, 1) := dk_191 (dk_at dksX3_pass_0 15 rfl rfl)
theorem dX3_pass_16 : decode cX3_pass 16 = .ok (.aload_n 0, 1) := dk_42 (dk_at dksX3_pass_0 16 rfl rfl)
theorem dX3_pass_17 : decode cX3_pass 17 = .ok (.dup, 1) := dk_89 (dk_at dksX3_pass_0 17 rfl rfl)
theorem dX3_pass_18 : decode cX3_pass 18 = .ok (.getfield 31, 3) := dk_180 0 31 (dk_at dksX3_pass_0 18 rfl rfl)
theorem dX3_pass_21 : decode cX3_pass 21 = .ok (.iconst 1, 1) := dk_4 (dk_at dksX3_pass_0 21 rfl rfl)
theorem dX3_pass_22 : decode cX3_pass 22 = .ok (.iadd, 1) := dk_96 (dk_at dksX3_pass_0 22 rfl rfl)
theorem dX3_pass_23 : decode cX3_pass 23 = .ok (.putfield 31, 3) := dk_181 0 31 (dk_at dksX3_pass_1 0 rfl rfl)
theorem dX3_pass_26 : decode cX3_pass 26 = .ok (.return_, 1) := dk_177 (dk_at dksX3_pass_1 3 rfl rfl)
abbrev cX3_number : ByteArray := prog_15_method_12_code
def yX3_number : MethodName := ⟨RX3, "number", "(II)I"⟩
def dkwX3_number_1 : List UInt8 := [28, 164, 0, 9, 42, 8, 29, 182, 0, 75, 21, 4, 172]
abbrev dktX3_number_1 : List UInt8 := dkwX3_number_1 ++ []
def dkwX3_number_0 : List UInt8 := [42, 4, 182, 0, 68, 62, 42, 180, 0, 9, 29, 182, 0, 72, 54, 4, 21, 4, 27, 161, 0, 9, 21, 4]
abbrev dktX3_number_0 : List UInt8 := dkwX3_number_0 ++ dktX3_number_1
theorem dksX3_number_0 : cX3_number.data.toList.drop 0 = dktX3_number_0 := by decide +kernel
theorem dksX3_number_1 : cX3_number.data.toList.drop 24 = dktX3_number_1 := dk_seg dksX3_number_0 24 rfl rfl
theorem dX3_number_0 : decode cX3_number 0 = .ok (.aload_n 0, 1) := dk_42 (dk_at dksX3_number_0 0 rfl rfl)
theorem dX3_number_1 : decode cX3_number 1 = .ok (.iconst 1, 1) := dk_4 (dk_at dksX3_number_0 1 rfl rfl)
theorem dX3_number_2 : decode cX3_number 2 = .ok (.invokevirtual 68, 3) := dk_182 0 68 (dk_at dksX3_number_0 2 rfl rfl)
theorem dX3_number_5 : decode cX3_number 5 = .ok (.istore_n 3, 1) := dk_62 (dk_at dksX3_number_0 5 rfl rfl)
theorem dX3_number_6 : decode cX3_number 6 = .ok (.aload_n 0, 1) := dk_42 (dk_at dksX3_number_0 6 rfl rfl)
theorem dX3_number_7 : decode cX3_number 7 = .ok (.getfield 9, 3) := dk_180 0 9 (dk_at dksX3_number_0 7 rfl rfl)
theorem dX3_number_10 : decode cX3_number 10 = .ok (.iload_n 3, 1) := dk_29 (dk_at dksX3_number_0 10 rfl rfl)
theorem dX3_number_11 : decode cX3_number 11 = .ok (.invokevirtual 72, 3) := dk_182 0 72 (dk_at dksX3_number_0 11 rfl rfl)
theorem dX3_number_14 : decode cX3_number 14 = .ok (.istore 4, 2) := dk_54 4 (dk_at dksX3_number_0 14 rfl rfl)
theorem dX3_number_16 : decode cX3_number 16 = .ok (.iload 4, 2) := dk_21 4 (dk_at dksX3_number_0 16 rfl rfl)
theorem dX3_number_18 : decode cX3_number 18 = .ok (.iload_n 1, 1) := dk_27 (dk_at dksX3_number_0 18 rfl rfl)
theorem dX3_number_19 : decode cX3_number 19 = .ok (.if_icmp .lt 9, 3) := dk_161 0 9 (dk_at dksX3_number_0 19 rfl rfl)
theorem dX3_number_22 : decode cX3_number 22 = .ok (.iload 4, 2) := dk_21 4 (dk_at dksX3_number_0 22 rfl rfl)
theorem dX3_number_24 : decode cX3_number 24 = .ok (.iload_n 2, 1) := dk_28 (dk_at dksX3_number_1 0 rfl rfl)
theorem dX3_number_25 : decode cX3_number 25 = .ok (.if_icmp .le 9, 3) := dk_164 0 9 (dk_at dksX3_number_1 1 rfl rfl)
theorem dX3_number_28 : decode cX3_number 28 = .ok (.aload_n 0, 1) := dk_42 (dk_at dksX3_number_1 4 rfl rfl)
theorem dX3_number_29 : decode cX3_number 29 = .ok (.iconst 5, 1) := dk_8 (dk_at dksX3_number_1 5 rfl rfl)
theorem dX3_number_30 : decode cX3_number 30 = .ok (.iload_n 3, 1) := dk_29 (dk_at dksX3_number_1 6 rfl rfl)
theorem dX3_number_31 : decode cX3_number 31 = .ok (.invokevirtual 75, 3) := dk_182 0 75 (dk_at dksX3_number_1 7 rfl rfl)
theorem dX3_number_34 : decode cX3_number 34 = .ok (.iload 4, 2) := dk_21 4 (dk_at dksX3_number_1 10 rfl rfl)
theorem dX3_number_36 : decode cX3_number 36 = .ok (.ireturn, 1) := dk_172 (dk_at dksX3_number_1 12 rfl rfl)
abbrev cX3_take : ByteArray := prog_15_method_11_code
def yX3_take : MethodName := ⟨RX3, "take", "(I)I"⟩
def dkwX3_take_1 : List UInt8 := [172]
abbrev dktX3_take_1 : List UInt8 := dkwX3_take_1 ++ []
def dkwX3_take_0 : List UInt8 := [42, 182, 0, 65, 27, 159, 0, 9, 42, 4, 182, 0, 48, 191, 42, 182, 0, 59, 42, 180, 0, 31, 4, 100]
abbrev dktX3_take_0 : List UInt8 := dkwX3_take_0 ++ dktX3_take_1
theorem dksX3_take_0 : cX3_take.data.toList.drop 0 = dktX3_take_0 := by decide +kernel
theorem dksX3_take_1 : cX3_take.data.toList.drop 24 = dktX3_take_1 := dk_seg dksX3_take_0 24 rfl rfl
theorem dX3_take_0 : decode cX3_take 0 = .ok (.aload_n 0, 1) := dk_42 (dk_at dksX3_take_0 0 rfl rfl)
theorem dX3_take_1 : decode cX3_take 1 = .ok (.invokevirtual 65, 3) := dk_182 0 65 (dk_at dksX3_take_0 1 rfl rfl)
theorem dX3_take_4 : decode cX3_take 4 = .ok (.iload_n 1, 1) := dk_27 (dk_at dksX3_take_0 4 rfl rfl)
theorem dX3_take_5 : decode cX3_take 5 = .ok (.if_icmp .eq 9, 3) := dk_159 0 9 (dk_at dksX3_take_0 5 rfl rfl)
theorem dX3_take_8 : decode cX3_take 8 = .ok (.aload_n 0, 1) := dk_42 (dk_at dksX3_take_0 8 rfl rfl)
theorem dX3_take_9 : decode cX3_take 9 = .ok (.iconst 1, 1) := dk_4 (dk_at dksX3_take_0 9 rfl rfl)
theorem dX3_take_10 : decode cX3_take 10 = .ok (.invokevirtual 48, 3) := dk_182 0 48 (dk_at dksX3_take_0 10 rfl rfl)
theorem dX3_take_13 : decode cX3_take 13 = .ok (.athrow, 1) := dk_191 (dk_at dksX3_take_0 13 rfl rfl)
theorem dX3_take_14 : decode cX3_take 14 = .ok (.aload_n 0, 1) := dk_42 (dk_at dksX3_take_0 14 rfl rfl)
theorem dX3_take_15 : decode cX3_take 15 = .ok (.invokevirtual 59, 3) := dk_182 0 59 (dk_at dksX3_take_0 15 rfl rfl)
theorem dX3_take_18 : decode cX3_take 18 = .ok (.aload_n 0, 1) := dk_42 (dk_at dksX3_take_0 18 rfl rfl)
theorem dX3_take_19 : decode cX3_take 19 = .ok (.getfield 31, 3) := dk_180 0 31 (dk_at dksX3_take_0 19 rfl rfl)
theorem dX3_take_22 : decode cX3_take 22 = .ok (.iconst 1, 1) := dk_4 (dk_at dksX3_take_0 22 rfl rfl)
theorem dX3_take_23 : decode cX3_take 23 = .ok (.isub, 1) := dk_100 (dk_at dksX3_take_0 23 rfl rfl)
theorem dX3_take_24 : decode cX3_take 24 = .ok (.ireturn, 1) := dk_172 (dk_at dksX3_take_1 0 rfl rfl)
abbrev cX3_tell : ByteArray := prog_15_method_4_code
def yX3_tell : MethodName := ⟨RX3, "tell", "(II)V"⟩
def dkwX3_tell_1 : List UInt8 := [42, 180, 0, 38, 161, 0, 4, 177, 42, 27, 181, 0, 38, 42, 28, 181, 0, 41, 177]
abbrev dktX3_tell_1 : List UInt8 := dkwX3_tell_1 ++ []
def dkwX3_tell_0 : List UInt8 := [42, 180, 0, 38, 153, 0, 28, 28, 42, 180, 0, 41, 163, 0, 19, 28, 42, 180, 0, 41, 160, 0, 12, 27]
abbrev dktX3_tell_0 : List UInt8 := dkwX3_tell_0 ++ dktX3_tell_1
theorem dksX3_tell_0 : cX3_tell.data.toList.drop 0 = dktX3_tell_0 := by decide +kernel
theorem dksX3_tell_1 : cX3_tell.data.toList.drop 24 = dktX3_tell_1 := dk_seg dksX3_tell_0 24 rfl rfl
theorem dX3_tell_0 : decode cX3_tell 0 = .ok (.aload_n 0, 1) := dk_42 (dk_at dksX3_tell_0 0 rfl rfl)
theorem dX3_tell_1 : decode cX3_tell 1 = .ok (.getfield 38, 3) := dk_180 0 38 (dk_at dksX3_tell_0 1 rfl rfl)
theorem dX3_tell_4 : decode cX3_tell 4 = .ok (.ifCond .eq 28, 3) := dk_153 0 28 (dk_at dksX3_tell_0 4 rfl rfl)
theorem dX3_tell_7 : decode cX3_tell 7 = .ok (.iload_n 2, 1) := dk_28 (dk_at dksX3_tell_0 7 rfl rfl)
theorem dX3_tell_8 : decode cX3_tell 8 = .ok (.aload_n 0, 1) := dk_42 (dk_at dksX3_tell_0 8 rfl rfl)
theorem dX3_tell_9 : decode cX3_tell 9 = .ok (.getfield 41, 3) := dk_180 0 41 (dk_at dksX3_tell_0 9 rfl rfl)
theorem dX3_tell_12 : decode cX3_tell 12 = .ok (.if_icmp .gt 19, 3) := dk_163 0 19 (dk_at dksX3_tell_0 12 rfl rfl)
theorem dX3_tell_15 : decode cX3_tell 15 = .ok (.iload_n 2, 1) := dk_28 (dk_at dksX3_tell_0 15 rfl rfl)
theorem dX3_tell_16 : decode cX3_tell 16 = .ok (.aload_n 0, 1) := dk_42 (dk_at dksX3_tell_0 16 rfl rfl)
theorem dX3_tell_17 : decode cX3_tell 17 = .ok (.getfield 41, 3) := dk_180 0 41 (dk_at dksX3_tell_0 17 rfl rfl)
theorem dX3_tell_20 : decode cX3_tell 20 = .ok (.if_icmp .ne 12, 3) := dk_160 0 12 (dk_at dksX3_tell_0 20 rfl rfl)
theorem dX3_tell_23 : decode cX3_tell 23 = .ok (.iload_n 1, 1) := dk_27 (dk_at dksX3_tell_0 23 rfl rfl)
theorem dX3_tell_24 : decode cX3_tell 24 = .ok (.aload_n 0, 1) := dk_42 (dk_at dksX3_tell_1 0 rfl rfl)
theorem dX3_tell_25 : decode cX3_tell 25 = .ok (.getfield 38, 3) := dk_180 0 38 (dk_at dksX3_tell_1 1 rfl rfl)
theorem dX3_tell_28 : decode cX3_tell 28 = .ok (.if_icmp .lt 4, 3) := dk_161 0 4 (dk_at dksX3_tell_1 4 rfl rfl)
theorem dX3_tell_31 : decode cX3_tell 31 = .ok (.return_, 1) := dk_177 (dk_at dksX3_tell_1 7 rfl rfl)
theorem dX3_tell_32 : decode cX3_tell 32 = .ok (.aload_n 0, 1) := dk_42 (dk_at dksX3_tell_1 8 rfl rfl)
theorem dX3_tell_33 : decode cX3_tell 33 = .ok (.iload_n 1, 1) := dk_27 (dk_at dksX3_tell_1 9 rfl rfl)
theorem dX3_tell_34 : decode cX3_tell 34 = .ok (.putfield 38, 3) := dk_181 0 38 (dk_at dksX3_tell_1 10 rfl rfl)
theorem dX3_tell_37 : decode cX3_tell 37 = .ok (.aload_n 0, 1) := dk_42 (dk_at dksX3_tell_1 13 rfl rfl)
theorem dX3_tell_38 : decode cX3_tell 38 = .ok (.iload_n 2, 1) := dk_28 (dk_at dksX3_tell_1 14 rfl rfl)
theorem dX3_tell_39 : decode cX3_tell 39 = .ok (.putfield 41, 3) := dk_181 0 41 (dk_at dksX3_tell_1 15 rfl rfl)
theorem dX3_tell_42 : decode cX3_tell 42 = .ok (.return_, 1) := dk_177 (dk_at dksX3_tell_1 18 rfl rfl)
abbrev cX3_begins : ByteArray := prog_15_method_14_code
def yX3_begins : MethodName := ⟨RX3, "begins", "(II)V"⟩
def dkwX3_begins_0 : List UInt8 := [27, 28, 160, 0, 9, 42, 5, 182, 0, 48, 191, 42, 182, 0, 59, 177]
abbrev dktX3_begins_0 : List UInt8 := dkwX3_begins_0 ++ []
theorem dksX3_begins_0 : cX3_begins.data.toList.drop 0 = dktX3_begins_0 := by decide +kernel
theorem dX3_begins_0 : decode cX3_begins 0 = .ok (.iload_n 1, 1) := dk_27 (dk_at dksX3_begins_0 0 rfl rfl)
theorem dX3_begins_1 : decode cX3_begins 1 = .ok (.iload_n 2, 1) := dk_28 (dk_at dksX3_begins_0 1 rfl rfl)
theorem dX3_begins_2 : decode cX3_begins 2 = .ok (.if_icmp .ne 9, 3) := dk_160 0 9 (dk_at dksX3_begins_0 2 rfl rfl)
theorem dX3_begins_5 : decode cX3_begins 5 = .ok (.aload_n 0, 1) := dk_42 (dk_at dksX3_begins_0 5 rfl rfl)
theorem dX3_begins_6 : decode cX3_begins 6 = .ok (.iconst 2, 1) := dk_5 (dk_at dksX3_begins_0 6 rfl rfl)
theorem dX3_begins_7 : decode cX3_begins 7 = .ok (.invokevirtual 48, 3) := dk_182 0 48 (dk_at dksX3_begins_0 7 rfl rfl)
theorem dX3_begins_10 : decode cX3_begins 10 = .ok (.athrow, 1) := dk_191 (dk_at dksX3_begins_0 10 rfl rfl)
theorem dX3_begins_11 : decode cX3_begins 11 = .ok (.aload_n 0, 1) := dk_42 (dk_at dksX3_begins_0 11 rfl rfl)
theorem dX3_begins_12 : decode cX3_begins 12 = .ok (.invokevirtual 59, 3) := dk_182 0 59 (dk_at dksX3_begins_0 12 rfl rfl)
theorem dX3_begins_15 : decode cX3_begins 15 = .ok (.return_, 1) := dk_177 (dk_at dksX3_begins_0 15 rfl rfl)
abbrev cX3_name : ByteArray := prog_15_method_13_code
def yX3_name : MethodName := ⟨RX3, "name", "()Ljava/lang/String;"⟩
def dkwX3_name_1 : List UInt8 := [153, 0, 9, 42, 6, 27, 182, 0, 75, 44, 176]
abbrev dktX3_name_1 : List UInt8 := dkwX3_name_1 ++ []
def dkwX3_name_0 : List UInt8 := [42, 3, 182, 0, 68, 60, 42, 180, 0, 9, 27, 182, 0, 79, 77, 42, 180, 0, 83, 44, 182, 0, 86]
abbrev dktX3_name_0 : List UInt8 := dkwX3_name_0 ++ dktX3_name_1
theorem dksX3_name_0 : cX3_name.data.toList.drop 0 = dktX3_name_0 := by decide +kernel
theorem dksX3_name_1 : cX3_name.data.toList.drop 23 = dktX3_name_1 := dk_seg dksX3_name_0 23 rfl rfl
theorem dX3_name_0 : decode cX3_name 0 = .ok (.aload_n 0, 1) := dk_42 (dk_at dksX3_name_0 0 rfl rfl)
theorem dX3_name_1 : decode cX3_name 1 = .ok (.iconst 0, 1) := dk_3 (dk_at dksX3_name_0 1 rfl rfl)
theorem dX3_name_2 : decode cX3_name 2 = .ok (.invokevirtual 68, 3) := dk_182 0 68 (dk_at dksX3_name_0 2 rfl rfl)
theorem dX3_name_5 : decode cX3_name 5 = .ok (.istore_n 1, 1) := dk_60 (dk_at dksX3_name_0 5 rfl rfl)
theorem dX3_name_6 : decode cX3_name 6 = .ok (.aload_n 0, 1) := dk_42 (dk_at dksX3_name_0 6 rfl rfl)
theorem dX3_name_7 : decode cX3_name 7 = .ok (.getfield 9, 3) := dk_180 0 9 (dk_at dksX3_name_0 7 rfl rfl)
theorem dX3_name_10 : decode cX3_name 10 = .ok (.iload_n 1, 1) := dk_27 (dk_at dksX3_name_0 10 rfl rfl)
theorem dX3_name_11 : decode cX3_name 11 = .ok (.invokevirtual 79, 3) := dk_182 0 79 (dk_at dksX3_name_0 11 rfl rfl)
theorem dX3_name_14 : decode cX3_name 14 = .ok (.astore_n 2, 1) := dk_77 (dk_at dksX3_name_0 14 rfl rfl)
theorem dX3_name_15 : decode cX3_name 15 = .ok (.aload_n 0, 1) := dk_42 (dk_at dksX3_name_0 15 rfl rfl)
theorem dX3_name_16 : decode cX3_name 16 = .ok (.getfield 83, 3) := dk_180 0 83 (dk_at dksX3_name_0 16 rfl rfl)
theorem dX3_name_19 : decode cX3_name 19 = .ok (.aload_n 2, 1) := dk_44 (dk_at dksX3_name_0 19 rfl rfl)
theorem dX3_name_20 : decode cX3_name 20 = .ok (.invokevirtual 86, 3) := dk_182 0 86 (dk_at dksX3_name_0 20 rfl rfl)
theorem dX3_name_23 : decode cX3_name 23 = .ok (.ifCond .eq 9, 3) := dk_153 0 9 (dk_at dksX3_name_1 0 rfl rfl)
theorem dX3_name_26 : decode cX3_name 26 = .ok (.aload_n 0, 1) := dk_42 (dk_at dksX3_name_1 3 rfl rfl)
theorem dX3_name_27 : decode cX3_name 27 = .ok (.iconst 3, 1) := dk_6 (dk_at dksX3_name_1 4 rfl rfl)
theorem dX3_name_28 : decode cX3_name 28 = .ok (.iload_n 1, 1) := dk_27 (dk_at dksX3_name_1 5 rfl rfl)
theorem dX3_name_29 : decode cX3_name 29 = .ok (.invokevirtual 75, 3) := dk_182 0 75 (dk_at dksX3_name_1 6 rfl rfl)
theorem dX3_name_32 : decode cX3_name 32 = .ok (.aload_n 2, 1) := dk_44 (dk_at dksX3_name_1 9 rfl rfl)
theorem dX3_name_33 : decode cX3_name 33 = .ok (.areturn, 1) := dk_176 (dk_at dksX3_name_1 10 rfl rfl)
abbrev cX3_known : ByteArray := prog_15_method_17_code
def yX3_known : MethodName := ⟨RX3, "known", "()I"⟩
def dkwX3_known_1 : List UInt8 := [156, 0, 9, 42, 7, 27, 182, 0, 75, 28, 172]
abbrev dktX3_known_1 : List UInt8 := dkwX3_known_1 ++ []
def dkwX3_known_0 : List UInt8 := [42, 3, 182, 0, 68, 60, 42, 180, 0, 83, 42, 180, 0, 9, 27, 182, 0, 79, 182, 0, 203, 61, 28]
abbrev dktX3_known_0 : List UInt8 := dkwX3_known_0 ++ dktX3_known_1
theorem dksX3_known_0 : cX3_known.data.toList.drop 0 = dktX3_known_0 := by decide +kernel
theorem dksX3_known_1 : cX3_known.data.toList.drop 23 = dktX3_known_1 := dk_seg dksX3_known_0 23 rfl rfl
theorem dX3_known_0 : decode cX3_known 0 = .ok (.aload_n 0, 1) := dk_42 (dk_at dksX3_known_0 0 rfl rfl)
theorem dX3_known_1 : decode cX3_known 1 = .ok (.iconst 0, 1) := dk_3 (dk_at dksX3_known_0 1 rfl rfl)
theorem dX3_known_2 : decode cX3_known 2 = .ok (.invokevirtual 68, 3) := dk_182 0 68 (dk_at dksX3_known_0 2 rfl rfl)
theorem dX3_known_5 : decode cX3_known 5 = .ok (.istore_n 1, 1) := dk_60 (dk_at dksX3_known_0 5 rfl rfl)
theorem dX3_known_6 : decode cX3_known 6 = .ok (.aload_n 0, 1) := dk_42 (dk_at dksX3_known_0 6 rfl rfl)
theorem dX3_known_7 : decode cX3_known 7 = .ok (.getfield 83, 3) := dk_180 0 83 (dk_at dksX3_known_0 7 rfl rfl)
theorem dX3_known_10 : decode cX3_known 10 = .ok (.aload_n 0, 1) := dk_42 (dk_at dksX3_known_0 10 rfl rfl)
theorem dX3_known_11 : decode cX3_known 11 = .ok (.getfield 9, 3) := dk_180 0 9 (dk_at dksX3_known_0 11 rfl rfl)
theorem dX3_known_14 : decode cX3_known 14 = .ok (.iload_n 1, 1) := dk_27 (dk_at dksX3_known_0 14 rfl rfl)
theorem dX3_known_15 : decode cX3_known 15 = .ok (.invokevirtual 79, 3) := dk_182 0 79 (dk_at dksX3_known_0 15 rfl rfl)
theorem dX3_known_18 : decode cX3_known 18 = .ok (.invokevirtual 203, 3) := dk_182 0 203 (dk_at dksX3_known_0 18 rfl rfl)
theorem dX3_known_21 : decode cX3_known 21 = .ok (.istore_n 2, 1) := dk_61 (dk_at dksX3_known_0 21 rfl rfl)
theorem dX3_known_22 : decode cX3_known 22 = .ok (.iload_n 2, 1) := dk_28 (dk_at dksX3_known_0 22 rfl rfl)
theorem dX3_known_23 : decode cX3_known 23 = .ok (.ifCond .ge 9, 3) := dk_156 0 9 (dk_at dksX3_known_1 0 rfl rfl)
theorem dX3_known_26 : decode cX3_known 26 = .ok (.aload_n 0, 1) := dk_42 (dk_at dksX3_known_1 3 rfl rfl)
theorem dX3_known_27 : decode cX3_known 27 = .ok (.iconst 4, 1) := dk_7 (dk_at dksX3_known_1 4 rfl rfl)
theorem dX3_known_28 : decode cX3_known 28 = .ok (.iload_n 1, 1) := dk_27 (dk_at dksX3_known_1 5 rfl rfl)
theorem dX3_known_29 : decode cX3_known 29 = .ok (.invokevirtual 75, 3) := dk_182 0 75 (dk_at dksX3_known_1 6 rfl rfl)
theorem dX3_known_32 : decode cX3_known 32 = .ok (.iload_n 2, 1) := dk_28 (dk_at dksX3_known_1 9 rfl rfl)
theorem dX3_known_33 : decode cX3_known 33 = .ok (.ireturn, 1) := dk_172 (dk_at dksX3_known_1 10 rfl rfl)
abbrev cX3_law : ByteArray := prog_15_method_19_code
def yX3_law : MethodName := ⟨RX3, "law", "()LThreadTown$Law;"⟩
def dkwX3_law_4 : List UInt8 := [96, 181, 0, 218, 167, 255, 171, 43, 180, 0, 235, 43, 180, 0, 218, 42, 182, 0, 225, 83, 43, 176]
abbrev dktX3_law_4 : List UInt8 := dkwX3_law_4 ++ []
def dkwX3_law_3 : List UInt8 := [180, 0, 235, 43, 180, 0, 218, 42, 182, 0, 225, 83, 42, 16, 10, 182, 0, 232, 43, 89, 180, 0, 218, 4]
abbrev dktX3_law_3 : List UInt8 := dkwX3_law_3 ++ dktX3_law_4
def dkwX3_law_2 : List UInt8 := [182, 0, 102, 43, 180, 0, 229, 43, 180, 0, 218, 42, 182, 0, 225, 83, 42, 16, 9, 182, 0, 232, 43]
abbrev dktX3_law_2 : List UInt8 := dkwX3_law_2 ++ dktX3_law_3
def dkwX3_law_1 : List UInt8 := [43, 180, 0, 218, 7, 182, 0, 141, 43, 180, 0, 221, 43, 180, 0, 218, 42, 182, 0, 225, 83, 42, 16, 60]
abbrev dktX3_law_1 : List UInt8 := dkwX3_law_1 ++ dktX3_law_2
def dkwX3_law_0 : List UInt8 := [187, 0, 215, 89, 183, 0, 217, 76, 42, 16, 61, 182, 0, 102, 42, 16, 8, 182, 0, 62, 153, 0, 82, 42]
abbrev dktX3_law_0 : List UInt8 := dkwX3_law_0 ++ dktX3_law_1
theorem dksX3_law_0 : cX3_law.data.toList.drop 0 = dktX3_law_0 := by decide +kernel
theorem dksX3_law_1 : cX3_law.data.toList.drop 24 = dktX3_law_1 := dk_seg dksX3_law_0 24 rfl rfl
theorem dksX3_law_2 : cX3_law.data.toList.drop 48 = dktX3_law_2 := dk_seg dksX3_law_1 24 rfl rfl
theorem dksX3_law_3 : cX3_law.data.toList.drop 71 = dktX3_law_3 := dk_seg dksX3_law_2 23 rfl rfl
theorem dksX3_law_4 : cX3_law.data.toList.drop 95 = dktX3_law_4 := dk_seg dksX3_law_3 24 rfl rfl
theorem dX3_law_0 : decode cX3_law 0 = .ok (.new 215, 3) := dk_187 0 215 (dk_at dksX3_law_0 0 rfl rfl)
theorem dX3_law_3 : decode cX3_law 3 = .ok (.dup, 1) := dk_89 (dk_at dksX3_law_0 3 rfl rfl)
theorem dX3_law_4 : decode cX3_law 4 = .ok (.invokespecial 217, 3) := dk_183 0 217 (dk_at dksX3_law_0 4 rfl rfl)
theorem dX3_law_7 : decode cX3_law 7 = .ok (.astore_n 1, 1) := dk_76 (dk_at dksX3_law_0 7 rfl rfl)
theorem dX3_law_8 : decode cX3_law 8 = .ok (.aload_n 0, 1) := dk_42 (dk_at dksX3_law_0 8 rfl rfl)
theorem dX3_law_9 : decode cX3_law 9 = .ok (.bipush 61, 2) := dk_16 61 (dk_at dksX3_law_0 9 rfl rfl)
theorem dX3_law_11 : decode cX3_law 11 = .ok (.invokevirtual 102, 3) := dk_182 0 102 (dk_at dksX3_law_0 11 rfl rfl)
theorem dX3_law_14 : decode cX3_law 14 = .ok (.aload_n 0, 1) := dk_42 (dk_at dksX3_law_0 14 rfl rfl)
theorem dX3_law_15 : decode cX3_law 15 = .ok (.bipush 8, 2) := dk_16 8 (dk_at dksX3_law_0 15 rfl rfl)
theorem dX3_law_17 : decode cX3_law 17 = .ok (.invokevirtual 62, 3) := dk_182 0 62 (dk_at dksX3_law_0 17 rfl rfl)
theorem dX3_law_20 : decode cX3_law 20 = .ok (.ifCond .eq 82, 3) := dk_153 0 82 (dk_at dksX3_law_0 20 rfl rfl)
theorem dX3_law_23 : decode cX3_law 23 = .ok (.aload_n 0, 1) := dk_42 (dk_at dksX3_law_0 23 rfl rfl)
theorem dX3_law_24 : decode cX3_law 24 = .ok (.aload_n 1, 1) := dk_43 (dk_at dksX3_law_1 0 rfl rfl)
theorem dX3_law_25 : decode cX3_law 25 = .ok (.getfield 218, 3) := dk_180 0 218 (dk_at dksX3_law_1 1 rfl rfl)
theorem dX3_law_28 : decode cX3_law 28 = .ok (.iconst 4, 1) := dk_7 (dk_at dksX3_law_1 4 rfl rfl)
theorem dX3_law_29 : decode cX3_law 29 = .ok (.invokevirtual 141, 3) := dk_182 0 141 (dk_at dksX3_law_1 5 rfl rfl)
theorem dX3_law_32 : decode cX3_law 32 = .ok (.aload_n 1, 1) := dk_43 (dk_at dksX3_law_1 8 rfl rfl)
theorem dX3_law_33 : decode cX3_law 33 = .ok (.getfield 221, 3) := dk_180 0 221 (dk_at dksX3_law_1 9 rfl rfl)
theorem dX3_law_36 : decode cX3_law 36 = .ok (.aload_n 1, 1) := dk_43 (dk_at dksX3_law_1 12 rfl rfl)
theorem dX3_law_37 : decode cX3_law 37 = .ok (.getfield 218, 3) := dk_180 0 218 (dk_at dksX3_law_1 13 rfl rfl)
theorem dX3_law_40 : decode cX3_law 40 = .ok (.aload_n 0, 1) := dk_42 (dk_at dksX3_law_1 16 rfl rfl)
theorem dX3_law_41 : decode cX3_law 41 = .ok (.invokevirtual 225, 3) := dk_182 0 225 (dk_at dksX3_law_1 17 rfl rfl)
theorem dX3_law_44 : decode cX3_law 44 = .ok (.aastore, 1) := dk_83 (dk_at dksX3_law_1 20 rfl rfl)
theorem dX3_law_45 : decode cX3_law 45 = .ok (.aload_n 0, 1) := dk_42 (dk_at dksX3_law_1 21 rfl rfl)
theorem dX3_law_46 : decode cX3_law 46 = .ok (.bipush 60, 2) := dk_16 60 (dk_at dksX3_law_1 22 rfl rfl)
theorem dX3_law_48 : decode cX3_law 48 = .ok (.invokevirtual 102, 3) := dk_182 0 102 (dk_at dksX3_law_2 0 rfl rfl)
theorem dX3_law_51 : decode cX3_law 51 = .ok (.aload_n 1, 1) := dk_43 (dk_at dksX3_law_2 3 rfl rfl)
theorem dX3_law_52 : decode cX3_law 52 = .ok (.getfield 229, 3) := dk_180 0 229 (dk_at dksX3_law_2 4 rfl rfl)
theorem dX3_law_55 : decode cX3_law 55 = .ok (.aload_n 1, 1) := dk_43 (dk_at dksX3_law_2 7 rfl rfl)
theorem dX3_law_56 : decode cX3_law 56 = .ok (.getfield 218, 3) := dk_180 0 218 (dk_at dksX3_law_2 8 rfl rfl)
theorem dX3_law_59 : decode cX3_law 59 = .ok (.aload_n 0, 1) := dk_42 (dk_at dksX3_law_2 11 rfl rfl)
theorem dX3_law_60 : decode cX3_law 60 = .ok (.invokevirtual 225, 3) := dk_182 0 225 (dk_at dksX3_law_2 12 rfl rfl)
theorem dX3_law_63 : decode cX3_law 63 = .ok (.aastore, 1) := dk_83 (dk_at dksX3_law_2 15 rfl rfl)
theorem dX3_law_64 : decode cX3_law 64 = .ok (.aload_n 0, 1) := dk_42 (dk_at dksX3_law_2 16 rfl rfl)
theorem dX3_law_65 : decode cX3_law 65 = .ok (.bipush 9, 2) := dk_16 9 (dk_at dksX3_law_2 17 rfl rfl)
theorem dX3_law_67 : decode cX3_law 67 = .ok (.invokevirtual 232, 3) := dk_182 0 232 (dk_at dksX3_law_2 19 rfl rfl)
theorem dX3_law_70 : decode cX3_law 70 = .ok (.aload_n 1, 1) := dk_43 (dk_at dksX3_law_2 22 rfl rfl)
theorem dX3_law_71 : decode cX3_law 71 = .ok (.getfield 235, 3) := dk_180 0 235 (dk_at dksX3_law_3 0 rfl rfl)
theorem dX3_law_74 : decode cX3_law 74 = .ok (.aload_n 1, 1) := dk_43 (dk_at dksX3_law_3 3 rfl rfl)
theorem dX3_law_75 : decode cX3_law 75 = .ok (.getfield 218, 3) := dk_180 0 218 (dk_at dksX3_law_3 4 rfl rfl)
theorem dX3_law_78 : decode cX3_law 78 = .ok (.aload_n 0, 1) := dk_42 (dk_at dksX3_law_3 7 rfl rfl)
theorem dX3_law_79 : decode cX3_law 79 = .ok (.invokevirtual 225, 3) := dk_182 0 225 (dk_at dksX3_law_3 8 rfl rfl)
theorem dX3_law_82 : decode cX3_law 82 = .ok (.aastore, 1) := dk_83 (dk_at dksX3_law_3 11 rfl rfl)
theorem dX3_law_83 : decode cX3_law 83 = .ok (.aload_n 0, 1) := dk_42 (dk_at dksX3_law_3 12 rfl rfl)
theorem dX3_law_84 : decode cX3_law 84 = .ok (.bipush 10, 2) := dk_16 10 (dk_at dksX3_law_3 13 rfl rfl)
theorem dX3_law_86 : decode cX3_law 86 = .ok (.invokevirtual 232, 3) := dk_182 0 232 (dk_at dksX3_law_3 15 rfl rfl)
theorem dX3_law_89 : decode cX3_law 89 = .ok (.aload_n 1, 1) := dk_43 (dk_at dksX3_law_3 18 rfl rfl)
theorem dX3_law_90 : decode cX3_law 90 = .ok (.dup, 1) := dk_89 (dk_at dksX3_law_3 19 rfl rfl)
theorem dX3_law_91 : decode cX3_law 91 = .ok (.getfield 218, 3) := dk_180 0 218 (dk_at dksX3_law_3 20 rfl rfl)
theorem dX3_law_94 : decode cX3_law 94 = .ok (.iconst 1, 1) := dk_4 (dk_at dksX3_law_3 23 rfl rfl)
theorem dX3_law_95 : decode cX3_law 95 = .ok (.iadd, 1) := dk_96 (dk_at dksX3_law_4 0 rfl rfl)
theorem dX3_law_96 : decode cX3_law 96 = .ok (.putfield 218, 3) := dk_181 0 218 (dk_at dksX3_law_4 1 rfl rfl)
theorem dX3_law_99 : decode cX3_law 99 = .ok (.goto (-85), 3) := dk_167 255 171 (dk_at dksX3_law_4 4 rfl rfl)
theorem dX3_law_102 : decode cX3_law 102 = .ok (.aload_n 1, 1) := dk_43 (dk_at dksX3_law_4 7 rfl rfl)
theorem dX3_law_103 : decode cX3_law 103 = .ok (.getfield 235, 3) := dk_180 0 235 (dk_at dksX3_law_4 8 rfl rfl)
theorem dX3_law_106 : decode cX3_law 106 = .ok (.aload_n 1, 1) := dk_43 (dk_at dksX3_law_4 11 rfl rfl)
theorem dX3_law_107 : decode cX3_law 107 = .ok (.getfield 218, 3) := dk_180 0 218 (dk_at dksX3_law_4 12 rfl rfl)
theorem dX3_law_110 : decode cX3_law 110 = .ok (.aload_n 0, 1) := dk_42 (dk_at dksX3_law_4 15 rfl rfl)
theorem dX3_law_111 : decode cX3_law 111 = .ok (.invokevirtual 225, 3) := dk_182 0 225 (dk_at dksX3_law_4 16 rfl rfl)
theorem dX3_law_114 : decode cX3_law 114 = .ok (.aastore, 1) := dk_83 (dk_at dksX3_law_4 19 rfl rfl)
theorem dX3_law_115 : decode cX3_law 115 = .ok (.aload_n 1, 1) := dk_43 (dk_at dksX3_law_4 20 rfl rfl)
theorem dX3_law_116 : decode cX3_law 116 = .ok (.areturn, 1) := dk_176 (dk_at dksX3_law_4 21 rfl rfl)
abbrev cX3_sign : ByteArray := prog_15_method_9_code
def yX3_sign : MethodName := ⟨RX3, "sign", "(I)V"⟩
def dkwX3_sign_0 : List UInt8 := [42, 27, 182, 0, 55, 154, 0, 9, 42, 4, 182, 0, 48, 191, 42, 182, 0, 59, 177]
abbrev dktX3_sign_0 : List UInt8 := dkwX3_sign_0 ++ []
theorem dksX3_sign_0 : cX3_sign.data.toList.drop 0 = dktX3_sign_0 := by decide +kernel
theorem dX3_sign_0 : decode cX3_sign 0 = .ok (.aload_n 0, 1) := dk_42 (dk_at dksX3_sign_0 0 rfl rfl)
theorem dX3_sign_1 : decode cX3_sign 1 = .ok (.iload_n 1, 1) := dk_27 (dk_at dksX3_sign_0 1 rfl rfl)
theorem dX3_sign_2 : decode cX3_sign 2 = .ok (.invokevirtual 55, 3) := dk_182 0 55 (dk_at dksX3_sign_0 2 rfl rfl)
theorem dX3_sign_5 : decode cX3_sign 5 = .ok (.ifCond .ne 9, 3) := dk_154 0 9 (dk_at dksX3_sign_0 5 rfl rfl)
theorem dX3_sign_8 : decode cX3_sign 8 = .ok (.aload_n 0, 1) := dk_42 (dk_at dksX3_sign_0 8 rfl rfl)
theorem dX3_sign_9 : decode cX3_sign 9 = .ok (.iconst 1, 1) := dk_4 (dk_at dksX3_sign_0 9 rfl rfl)
theorem dX3_sign_10 : decode cX3_sign 10 = .ok (.invokevirtual 48, 3) := dk_182 0 48 (dk_at dksX3_sign_0 10 rfl rfl)
theorem dX3_sign_13 : decode cX3_sign 13 = .ok (.athrow, 1) := dk_191 (dk_at dksX3_sign_0 13 rfl rfl)
theorem dX3_sign_14 : decode cX3_sign 14 = .ok (.aload_n 0, 1) := dk_42 (dk_at dksX3_sign_0 14 rfl rfl)
theorem dX3_sign_15 : decode cX3_sign 15 = .ok (.invokevirtual 59, 3) := dk_182 0 59 (dk_at dksX3_sign_0 15 rfl rfl)
theorem dX3_sign_18 : decode cX3_sign 18 = .ok (.return_, 1) := dk_177 (dk_at dksX3_sign_0 18 rfl rfl)
abbrev cX3_isSign : ByteArray := prog_15_method_7_code
def yX3_isSign : MethodName := ⟨RX3, "isSign", "(I)Z"⟩
def dkwX3_isSign_1 : List UInt8 := [180, 0, 31, 53, 27, 160, 0, 7, 4, 167, 0, 4, 3, 172]
abbrev dktX3_isSign_1 : List UInt8 := dkwX3_isSign_1 ++ []
def dkwX3_isSign_0 : List UInt8 := [42, 180, 0, 9, 180, 0, 44, 42, 180, 0, 31, 51, 5, 160, 0, 23, 42, 180, 0, 9, 180, 0, 52, 42]
abbrev dktX3_isSign_0 : List UInt8 := dkwX3_isSign_0 ++ dktX3_isSign_1
theorem dksX3_isSign_0 : cX3_isSign.data.toList.drop 0 = dktX3_isSign_0 := by decide +kernel
theorem dksX3_isSign_1 : cX3_isSign.data.toList.drop 24 = dktX3_isSign_1 := dk_seg dksX3_isSign_0 24 rfl rfl
theorem dX3_isSign_0 : decode cX3_isSign 0 = .ok (.aload_n 0, 1) := dk_42 (dk_at dksX3_isSign_0 0 rfl rfl)
theorem dX3_isSign_1 : decode cX3_isSign 1 = .ok (.getfield 9, 3) := dk_180 0 9 (dk_at dksX3_isSign_0 1 rfl rfl)
theorem dX3_isSign_4 : decode cX3_isSign 4 = .ok (.getfield 44, 3) := dk_180 0 44 (dk_at dksX3_isSign_0 4 rfl rfl)
theorem dX3_isSign_7 : decode cX3_isSign 7 = .ok (.aload_n 0, 1) := dk_42 (dk_at dksX3_isSign_0 7 rfl rfl)
theorem dX3_isSign_8 : decode cX3_isSign 8 = .ok (.getfield 31, 3) := dk_180 0 31 (dk_at dksX3_isSign_0 8 rfl rfl)
theorem dX3_isSign_11 : decode cX3_isSign 11 = .ok (.baload, 1) := dk_51 (dk_at dksX3_isSign_0 11 rfl rfl)
theorem dX3_isSign_12 : decode cX3_isSign 12 = .ok (.iconst 2, 1) := dk_5 (dk_at dksX3_isSign_0 12 rfl rfl)
theorem dX3_isSign_13 : decode cX3_isSign 13 = .ok (.if_icmp .ne 23, 3) := dk_160 0 23 (dk_at dksX3_isSign_0 13 rfl rfl)
theorem dX3_isSign_16 : decode cX3_isSign 16 = .ok (.aload_n 0, 1) := dk_42 (dk_at dksX3_isSign_0 16 rfl rfl)
theorem dX3_isSign_17 : decode cX3_isSign 17 = .ok (.getfield 9, 3) := dk_180 0 9 (dk_at dksX3_isSign_0 17 rfl rfl)
theorem dX3_isSign_20 : decode cX3_isSign 20 = .ok (.getfield 52, 3) := dk_180 0 52 (dk_at dksX3_isSign_0 20 rfl rfl)
theorem dX3_isSign_23 : decode cX3_isSign 23 = .ok (.aload_n 0, 1) := dk_42 (dk_at dksX3_isSign_0 23 rfl rfl)
theorem dX3_isSign_24 : decode cX3_isSign 24 = .ok (.getfield 31, 3) := dk_180 0 31 (dk_at dksX3_isSign_1 0 rfl rfl)
theorem dX3_isSign_27 : decode cX3_isSign 27 = .ok (.saload, 1) := dk_53 (dk_at dksX3_isSign_1 3 rfl rfl)
theorem dX3_isSign_28 : decode cX3_isSign 28 = .ok (.iload_n 1, 1) := dk_27 (dk_at dksX3_isSign_1 4 rfl rfl)
theorem dX3_isSign_29 : decode cX3_isSign 29 = .ok (.if_icmp .ne 7, 3) := dk_160 0 7 (dk_at dksX3_isSign_1 5 rfl rfl)
theorem dX3_isSign_32 : decode cX3_isSign 32 = .ok (.iconst 1, 1) := dk_4 (dk_at dksX3_isSign_1 8 rfl rfl)
theorem dX3_isSign_33 : decode cX3_isSign 33 = .ok (.goto 4, 3) := dk_167 0 4 (dk_at dksX3_isSign_1 9 rfl rfl)
theorem dX3_isSign_36 : decode cX3_isSign 36 = .ok (.iconst 0, 1) := dk_3 (dk_at dksX3_isSign_1 12 rfl rfl)
theorem dX3_isSign_37 : decode cX3_isSign 37 = .ok (.ireturn, 1) := dk_172 (dk_at dksX3_isSign_1 13 rfl rfl)
abbrev cX3_isWord : ByteArray := prog_15_method_8_code
def yX3_isWord : MethodName := ⟨RX3, "isWord", "(I)Z"⟩
def dkwX3_isWord_1 : List UInt8 := [180, 0, 31, 53, 27, 160, 0, 7, 4, 167, 0, 4, 3, 172]
abbrev dktX3_isWord_1 : List UInt8 := dkwX3_isWord_1 ++ []
def dkwX3_isWord_0 : List UInt8 := [42, 180, 0, 9, 180, 0, 44, 42, 180, 0, 31, 51, 6, 160, 0, 23, 42, 180, 0, 9, 180, 0, 52, 42]
abbrev dktX3_isWord_0 : List UInt8 := dkwX3_isWord_0 ++ dktX3_isWord_1
theorem dksX3_isWord_0 : cX3_isWord.data.toList.drop 0 = dktX3_isWord_0 := by decide +kernel
theorem dksX3_isWord_1 : cX3_isWord.data.toList.drop 24 = dktX3_isWord_1 := dk_seg dksX3_isWord_0 24 rfl rfl
theorem dX3_isWord_0 : decode cX3_isWord 0 = .ok (.aload_n 0, 1) := dk_42 (dk_at dksX3_isWord_0 0 rfl rfl)
theorem dX3_isWord_1 : decode cX3_isWord 1 = .ok (.getfield 9, 3) := dk_180 0 9 (dk_at dksX3_isWord_0 1 rfl rfl)
theorem dX3_isWord_4 : decode cX3_isWord 4 = .ok (.getfield 44, 3) := dk_180 0 44 (dk_at dksX3_isWord_0 4 rfl rfl)
theorem dX3_isWord_7 : decode cX3_isWord 7 = .ok (.aload_n 0, 1) := dk_42 (dk_at dksX3_isWord_0 7 rfl rfl)
theorem dX3_isWord_8 : decode cX3_isWord 8 = .ok (.getfield 31, 3) := dk_180 0 31 (dk_at dksX3_isWord_0 8 rfl rfl)
theorem dX3_isWord_11 : decode cX3_isWord 11 = .ok (.baload, 1) := dk_51 (dk_at dksX3_isWord_0 11 rfl rfl)
theorem dX3_isWord_12 : decode cX3_isWord 12 = .ok (.iconst 3, 1) := dk_6 (dk_at dksX3_isWord_0 12 rfl rfl)
theorem dX3_isWord_13 : decode cX3_isWord 13 = .ok (.if_icmp .ne 23, 3) := dk_160 0 23 (dk_at dksX3_isWord_0 13 rfl rfl)
theorem dX3_isWord_16 : decode cX3_isWord 16 = .ok (.aload_n 0, 1) := dk_42 (dk_at dksX3_isWord_0 16 rfl rfl)
theorem dX3_isWord_17 : decode cX3_isWord 17 = .ok (.getfield 9, 3) := dk_180 0 9 (dk_at dksX3_isWord_0 17 rfl rfl)
theorem dX3_isWord_20 : decode cX3_isWord 20 = .ok (.getfield 52, 3) := dk_180 0 52 (dk_at dksX3_isWord_0 20 rfl rfl)
theorem dX3_isWord_23 : decode cX3_isWord 23 = .ok (.aload_n 0, 1) := dk_42 (dk_at dksX3_isWord_0 23 rfl rfl)
theorem dX3_isWord_24 : decode cX3_isWord 24 = .ok (.getfield 31, 3) := dk_180 0 31 (dk_at dksX3_isWord_1 0 rfl rfl)
theorem dX3_isWord_27 : decode cX3_isWord 27 = .ok (.saload, 1) := dk_53 (dk_at dksX3_isWord_1 3 rfl rfl)
theorem dX3_isWord_28 : decode cX3_isWord 28 = .ok (.iload_n 1, 1) := dk_27 (dk_at dksX3_isWord_1 4 rfl rfl)
theorem dX3_isWord_29 : decode cX3_isWord 29 = .ok (.if_icmp .ne 7, 3) := dk_160 0 7 (dk_at dksX3_isWord_1 5 rfl rfl)
theorem dX3_isWord_32 : decode cX3_isWord 32 = .ok (.iconst 1, 1) := dk_4 (dk_at dksX3_isWord_1 8 rfl rfl)
theorem dX3_isWord_33 : decode cX3_isWord 33 = .ok (.goto 4, 3) := dk_167 0 4 (dk_at dksX3_isWord_1 9 rfl rfl)
theorem dX3_isWord_36 : decode cX3_isWord 36 = .ok (.iconst 0, 1) := dk_3 (dk_at dksX3_isWord_1 12 rfl rfl)
theorem dX3_isWord_37 : decode cX3_isWord 37 = .ok (.ireturn, 1) := dk_172 (dk_at dksX3_isWord_1 13 rfl rfl)
abbrev cX3_sum : ByteArray := prog_15_method_20_code
def yX3_sum : MethodName := ⟨RX3, "sum", "()LThreadTown$Sum;"⟩
def dkwX3_sum_2 : List UInt8 := [182, 0, 238, 183, 0, 243, 76, 167, 255, 207, 43, 176]
abbrev dktX3_sum_2 : List UInt8 := dkwX3_sum_2 ++ []
def dkwX3_sum_1 : List UInt8 := [180, 0, 9, 180, 0, 52, 42, 180, 0, 31, 53, 61, 42, 182, 0, 59, 187, 0, 241, 89, 28, 43, 42]
abbrev dktX3_sum_1 : List UInt8 := dkwX3_sum_1 ++ dktX3_sum_2
def dkwX3_sum_0 : List UInt8 := [42, 182, 0, 238, 76, 42, 16, 43, 182, 0, 55, 154, 0, 12, 42, 16, 45, 182, 0, 55, 153, 0, 37, 42]
abbrev dktX3_sum_0 : List UInt8 := dkwX3_sum_0 ++ dktX3_sum_1
theorem dksX3_sum_0 : cX3_sum.data.toList.drop 0 = dktX3_sum_0 := by decide +kernel
theorem dksX3_sum_1 : cX3_sum.data.toList.drop 24 = dktX3_sum_1 := dk_seg dksX3_sum_0 24 rfl rfl
theorem dksX3_sum_2 : cX3_sum.data.toList.drop 47 = dktX3_sum_2 := dk_seg dksX3_sum_1 23 rfl rfl
theorem dX3_sum_0 : decode cX3_sum 0 = .ok (.aload_n 0, 1) := dk_42 (dk_at dksX3_sum_0 0 rfl rfl)
theorem dX3_sum_1 : decode cX3_sum 1 = .ok (.invokevirtual 238, 3) := dk_182 0 238 (dk_at dksX3_sum_0 1 rfl rfl)
theorem dX3_sum_4 : decode cX3_sum 4 = .ok (.astore_n 1, 1) := dk_76 (dk_at dksX3_sum_0 4 rfl rfl)
theorem dX3_sum_5 : decode cX3_sum 5 = .ok (.aload_n 0, 1) := dk_42 (dk_at dksX3_sum_0 5 rfl rfl)
theorem dX3_sum_6 : decode cX3_sum 6 = .ok (.bipush 43, 2) := dk_16 43 (dk_at dksX3_sum_0 6 rfl rfl)
theorem dX3_sum_8 : decode cX3_sum 8 = .ok (.invokevirtual 55, 3) := dk_182 0 55 (dk_at dksX3_sum_0 8 rfl rfl)
theorem dX3_sum_11 : decode cX3_sum 11 = .ok (.ifCond .ne 12, 3) := dk_154 0 12 (dk_at dksX3_sum_0 11 rfl rfl)
theorem dX3_sum_14 : decode cX3_sum 14 = .ok (.aload_n 0, 1) := dk_42 (dk_at dksX3_sum_0 14 rfl rfl)
theorem dX3_sum_15 : decode cX3_sum 15 = .ok (.bipush 45, 2) := dk_16 45 (dk_at dksX3_sum_0 15 rfl rfl)
theorem dX3_sum_17 : decode cX3_sum 17 = .ok (.invokevirtual 55, 3) := dk_182 0 55 (dk_at dksX3_sum_0 17 rfl rfl)
theorem dX3_sum_20 : decode cX3_sum 20 = .ok (.ifCond .eq 37, 3) := dk_153 0 37 (dk_at dksX3_sum_0 20 rfl rfl)
theorem dX3_sum_23 : decode cX3_sum 23 = .ok (.aload_n 0, 1) := dk_42 (dk_at dksX3_sum_0 23 rfl rfl)
theorem dX3_sum_24 : decode cX3_sum 24 = .ok (.getfield 9, 3) := dk_180 0 9 (dk_at dksX3_sum_1 0 rfl rfl)
theorem dX3_sum_27 : decode cX3_sum 27 = .ok (.getfield 52, 3) := dk_180 0 52 (dk_at dksX3_sum_1 3 rfl rfl)
theorem dX3_sum_30 : decode cX3_sum 30 = .ok (.aload_n 0, 1) := dk_42 (dk_at dksX3_sum_1 6 rfl rfl)
theorem dX3_sum_31 : decode cX3_sum 31 = .ok (.getfield 31, 3) := dk_180 0 31 (dk_at dksX3_sum_1 7 rfl rfl)
theorem dX3_sum_34 : decode cX3_sum 34 = .ok (.saload, 1) := dk_53 (dk_at dksX3_sum_1 10 rfl rfl)
theorem dX3_sum_35 : decode cX3_sum 35 = .ok (.istore_n 2, 1) := dk_61 (dk_at dksX3_sum_1 11 rfl rfl)
theorem dX3_sum_36 : decode cX3_sum 36 = .ok (.aload_n 0, 1) := dk_42 (dk_at dksX3_sum_1 12 rfl rfl)
theorem dX3_sum_37 : decode cX3_sum 37 = .ok (.invokevirtual 59, 3) := dk_182 0 59 (dk_at dksX3_sum_1 13 rfl rfl)
theorem dX3_sum_40 : decode cX3_sum 40 = .ok (.new 241, 3) := dk_187 0 241 (dk_at dksX3_sum_1 16 rfl rfl)
theorem dX3_sum_43 : decode cX3_sum 43 = .ok (.dup, 1) := dk_89 (dk_at dksX3_sum_1 19 rfl rfl)
theorem dX3_sum_44 : decode cX3_sum 44 = .ok (.iload_n 2, 1) := dk_28 (dk_at dksX3_sum_1 20 rfl rfl)
theorem dX3_sum_45 : decode cX3_sum 45 = .ok (.aload_n 1, 1) := dk_43 (dk_at dksX3_sum_1 21 rfl rfl)
theorem dX3_sum_46 : decode cX3_sum 46 = .ok (.aload_n 0, 1) := dk_42 (dk_at dksX3_sum_1 22 rfl rfl)
theorem dX3_sum_47 : decode cX3_sum 47 = .ok (.invokevirtual 238, 3) := dk_182 0 238 (dk_at dksX3_sum_2 0 rfl rfl)
theorem dX3_sum_50 : decode cX3_sum 50 = .ok (.invokespecial 243, 3) := dk_183 0 243 (dk_at dksX3_sum_2 3 rfl rfl)
theorem dX3_sum_53 : decode cX3_sum 53 = .ok (.astore_n 1, 1) := dk_76 (dk_at dksX3_sum_2 6 rfl rfl)
theorem dX3_sum_54 : decode cX3_sum 54 = .ok (.goto (-49), 3) := dk_167 255 207 (dk_at dksX3_sum_2 7 rfl rfl)
theorem dX3_sum_57 : decode cX3_sum 57 = .ok (.aload_n 1, 1) := dk_43 (dk_at dksX3_sum_2 10 rfl rfl)
theorem dX3_sum_58 : decode cX3_sum 58 = .ok (.areturn, 1) := dk_176 (dk_at dksX3_sum_2 11 rfl rfl)
abbrev cX3_part : ByteArray := prog_15_method_21_code
def yX3_part : MethodName := ⟨RX3, "part", "()LThreadTown$Sum;"⟩
def dkwX3_part_2 : List UInt8 := [182, 0, 246, 183, 0, 243, 76, 167, 255, 207, 43, 176]
abbrev dktX3_part_2 : List UInt8 := dkwX3_part_2 ++ []
def dkwX3_part_1 : List UInt8 := [180, 0, 9, 180, 0, 52, 42, 180, 0, 31, 53, 61, 42, 182, 0, 59, 187, 0, 241, 89, 28, 43, 42]
abbrev dktX3_part_1 : List UInt8 := dkwX3_part_1 ++ dktX3_part_2
def dkwX3_part_0 : List UInt8 := [42, 182, 0, 246, 76, 42, 16, 42, 182, 0, 55, 154, 0, 12, 42, 16, 47, 182, 0, 55, 153, 0, 37, 42]
abbrev dktX3_part_0 : List UInt8 := dkwX3_part_0 ++ dktX3_part_1
theorem dksX3_part_0 : cX3_part.data.toList.drop 0 = dktX3_part_0 := by decide +kernel
theorem dksX3_part_1 : cX3_part.data.toList.drop 24 = dktX3_part_1 := dk_seg dksX3_part_0 24 rfl rfl
theorem dksX3_part_2 : cX3_part.data.toList.drop 47 = dktX3_part_2 := dk_seg dksX3_part_1 23 rfl rfl
theorem dX3_part_0 : decode cX3_part 0 = .ok (.aload_n 0, 1) := dk_42 (dk_at dksX3_part_0 0 rfl rfl)
theorem dX3_part_1 : decode cX3_part 1 = .ok (.invokevirtual 246, 3) := dk_182 0 246 (dk_at dksX3_part_0 1 rfl rfl)
theorem dX3_part_4 : decode cX3_part 4 = .ok (.astore_n 1, 1) := dk_76 (dk_at dksX3_part_0 4 rfl rfl)
theorem dX3_part_5 : decode cX3_part 5 = .ok (.aload_n 0, 1) := dk_42 (dk_at dksX3_part_0 5 rfl rfl)
theorem dX3_part_6 : decode cX3_part 6 = .ok (.bipush 42, 2) := dk_16 42 (dk_at dksX3_part_0 6 rfl rfl)
theorem dX3_part_8 : decode cX3_part 8 = .ok (.invokevirtual 55, 3) := dk_182 0 55 (dk_at dksX3_part_0 8 rfl rfl)
theorem dX3_part_11 : decode cX3_part 11 = .ok (.ifCond .ne 12, 3) := dk_154 0 12 (dk_at dksX3_part_0 11 rfl rfl)
theorem dX3_part_14 : decode cX3_part 14 = .ok (.aload_n 0, 1) := dk_42 (dk_at dksX3_part_0 14 rfl rfl)
theorem dX3_part_15 : decode cX3_part 15 = .ok (.bipush 47, 2) := dk_16 47 (dk_at dksX3_part_0 15 rfl rfl)
theorem dX3_part_17 : decode cX3_part 17 = .ok (.invokevirtual 55, 3) := dk_182 0 55 (dk_at dksX3_part_0 17 rfl rfl)
theorem dX3_part_20 : decode cX3_part 20 = .ok (.ifCond .eq 37, 3) := dk_153 0 37 (dk_at dksX3_part_0 20 rfl rfl)
theorem dX3_part_23 : decode cX3_part 23 = .ok (.aload_n 0, 1) := dk_42 (dk_at dksX3_part_0 23 rfl rfl)
theorem dX3_part_24 : decode cX3_part 24 = .ok (.getfield 9, 3) := dk_180 0 9 (dk_at dksX3_part_1 0 rfl rfl)
theorem dX3_part_27 : decode cX3_part 27 = .ok (.getfield 52, 3) := dk_180 0 52 (dk_at dksX3_part_1 3 rfl rfl)
theorem dX3_part_30 : decode cX3_part 30 = .ok (.aload_n 0, 1) := dk_42 (dk_at dksX3_part_1 6 rfl rfl)
theorem dX3_part_31 : decode cX3_part 31 = .ok (.getfield 31, 3) := dk_180 0 31 (dk_at dksX3_part_1 7 rfl rfl)
theorem dX3_part_34 : decode cX3_part 34 = .ok (.saload, 1) := dk_53 (dk_at dksX3_part_1 10 rfl rfl)
theorem dX3_part_35 : decode cX3_part 35 = .ok (.istore_n 2, 1) := dk_61 (dk_at dksX3_part_1 11 rfl rfl)
theorem dX3_part_36 : decode cX3_part 36 = .ok (.aload_n 0, 1) := dk_42 (dk_at dksX3_part_1 12 rfl rfl)
theorem dX3_part_37 : decode cX3_part 37 = .ok (.invokevirtual 59, 3) := dk_182 0 59 (dk_at dksX3_part_1 13 rfl rfl)
theorem dX3_part_40 : decode cX3_part 40 = .ok (.new 241, 3) := dk_187 0 241 (dk_at dksX3_part_1 16 rfl rfl)
theorem dX3_part_43 : decode cX3_part 43 = .ok (.dup, 1) := dk_89 (dk_at dksX3_part_1 19 rfl rfl)
theorem dX3_part_44 : decode cX3_part 44 = .ok (.iload_n 2, 1) := dk_28 (dk_at dksX3_part_1 20 rfl rfl)
theorem dX3_part_45 : decode cX3_part 45 = .ok (.aload_n 1, 1) := dk_43 (dk_at dksX3_part_1 21 rfl rfl)
theorem dX3_part_46 : decode cX3_part 46 = .ok (.aload_n 0, 1) := dk_42 (dk_at dksX3_part_1 22 rfl rfl)
theorem dX3_part_47 : decode cX3_part 47 = .ok (.invokevirtual 246, 3) := dk_182 0 246 (dk_at dksX3_part_2 0 rfl rfl)
theorem dX3_part_50 : decode cX3_part 50 = .ok (.invokespecial 243, 3) := dk_183 0 243 (dk_at dksX3_part_2 3 rfl rfl)
theorem dX3_part_53 : decode cX3_part 53 = .ok (.astore_n 1, 1) := dk_76 (dk_at dksX3_part_2 6 rfl rfl)
theorem dX3_part_54 : decode cX3_part 54 = .ok (.goto (-49), 3) := dk_167 255 207 (dk_at dksX3_part_2 7 rfl rfl)
theorem dX3_part_57 : decode cX3_part 57 = .ok (.aload_n 1, 1) := dk_43 (dk_at dksX3_part_2 10 rfl rfl)
theorem dX3_part_58 : decode cX3_part 58 = .ok (.areturn, 1) := dk_176 (dk_at dksX3_part_2 11 rfl rfl)
abbrev cX3_unit : ByteArray := prog_15_method_22_code
def yX3_unit : MethodName := ⟨RX3, "unit", "()LThreadTown$Sum;"⟩
def dkwX3_unit_6 : List UInt8 := [182, 0, 102, 42, 89, 180, 0, 96, 4, 100, 181, 0, 96, 43, 176]
abbrev dktX3_unit_6 : List UInt8 := dkwX3_unit_6 ++ []
def dkwX3_unit_5 : List UInt8 := [42, 89, 180, 0, 96, 4, 96, 181, 0, 96, 42, 182, 0, 59, 42, 182, 0, 225, 76, 42, 16, 41]
abbrev dktX3_unit_5 : List UInt8 := dkwX3_unit_5 ++ dktX3_unit_6
def dkwX3_unit_4 : List UInt8 := [154, 0, 9, 42, 4, 182, 0, 48, 191, 42, 180, 0, 96, 16, 6, 160, 0, 9, 42, 5, 182, 0, 48, 191]
abbrev dktX3_unit_4 : List UInt8 := dkwX3_unit_4 ++ dktX3_unit_5
def dkwX3_unit_3 : List UInt8 := [180, 0, 52, 42, 180, 0, 31, 4, 100, 53, 16, 11, 100, 183, 0, 255, 176, 42, 16, 40, 182, 0, 55]
abbrev dktX3_unit_3 : List UInt8 := dkwX3_unit_3 ++ dktX3_unit_4
def dkwX3_unit_2 : List UInt8 := [42, 180, 0, 31, 53, 16, 11, 161, 0, 32, 42, 182, 0, 59, 187, 0, 253, 89, 42, 180, 0, 9]
abbrev dktX3_unit_2 : List UInt8 := dkwX3_unit_2 ++ dktX3_unit_3
def dkwX3_unit_1 : List UInt8 := [4, 100, 182, 0, 72, 183, 0, 251, 176, 42, 182, 0, 65, 6, 160, 0, 49, 42, 180, 0, 9, 180, 0, 52]
abbrev dktX3_unit_1 : List UInt8 := dkwX3_unit_1 ++ dktX3_unit_2
def dkwX3_unit_0 : List UInt8 := [42, 182, 0, 65, 4, 160, 0, 28, 42, 182, 0, 59, 187, 0, 249, 89, 42, 180, 0, 9, 42, 180, 0, 31]
abbrev dktX3_unit_0 : List UInt8 := dkwX3_unit_0 ++ dktX3_unit_1
theorem dksX3_unit_0 : cX3_unit.data.toList.drop 0 = dktX3_unit_0 := by decide +kernel
theorem dksX3_unit_1 : cX3_unit.data.toList.drop 24 = dktX3_unit_1 := dk_seg dksX3_unit_0 24 rfl rfl
theorem dksX3_unit_2 : cX3_unit.data.toList.drop 48 = dktX3_unit_2 := dk_seg dksX3_unit_1 24 rfl rfl
theorem dksX3_unit_3 : cX3_unit.data.toList.drop 70 = dktX3_unit_3 := dk_seg dksX3_unit_2 22 rfl rfl
theorem dksX3_unit_4 : cX3_unit.data.toList.drop 93 = dktX3_unit_4 := dk_seg dksX3_unit_3 23 rfl rfl
theorem dksX3_unit_5 : cX3_unit.data.toList.drop 117 = dktX3_unit_5 := dk_seg dksX3_unit_4 24 rfl rfl
theorem dksX3_unit_6 : cX3_unit.data.toList.drop 139 = dktX3_unit_6 := dk_seg dksX3_unit_5 22 rfl rfl
theorem dX3_unit_0 : decode cX3_unit 0 = .ok (.aload_n 0, 1) := dk_42 (dk_at dksX3_unit_0 0 rfl rfl)
theorem dX3_unit_1 : decode cX3_unit 1 = .ok (.invokevirtual 65, 3) := dk_182 0 65 (dk_at dksX3_unit_0 1 rfl rfl)
theorem dX3_unit_4 : decode cX3_unit 4 = .ok (.iconst 1, 1) := dk_4 (dk_at dksX3_unit_0 4 rfl rfl)
theorem dX3_unit_5 : decode cX3_unit 5 = .ok (.if_icmp .ne 28, 3) := dk_160 0 28 (dk_at dksX3_unit_0 5 rfl rfl)
theorem dX3_unit_8 : decode cX3_unit 8 = .ok (.aload_n 0, 1) := dk_42 (dk_at dksX3_unit_0 8 rfl rfl)
theorem dX3_unit_9 : decode cX3_unit 9 = .ok (.invokevirtual 59, 3) := dk_182 0 59 (dk_at dksX3_unit_0 9 rfl rfl)
theorem dX3_unit_12 : decode cX3_unit 12 = .ok (.new 249, 3) := dk_187 0 249 (dk_at dksX3_unit_0 12 rfl rfl)
theorem dX3_unit_15 : decode cX3_unit 15 = .ok (.dup, 1) := dk_89 (dk_at dksX3_unit_0 15 rfl rfl)
theorem dX3_unit_16 : decode cX3_unit 16 = .ok (.aload_n 0, 1) := dk_42 (dk_at dksX3_unit_0 16 rfl rfl)
theorem dX3_unit_17 : decode cX3_unit 17 = .ok (.getfield 9, 3) := dk_180 0 9 (dk_at dksX3_unit_0 17 rfl rfl)
theorem dX3_unit_20 : decode cX3_unit 20 = .ok (.aload_n 0, 1) := dk_42 (dk_at dksX3_unit_0 20 rfl rfl)
theorem dX3_unit_21 : decode cX3_unit 21 = .ok (.getfield 31, 3) := dk_180 0 31 (dk_at dksX3_unit_0 21 rfl rfl)
theorem dX3_unit_24 : decode cX3_unit 24 = .ok (.iconst 1, 1) := dk_4 (dk_at dksX3_unit_1 0 rfl rfl)
theorem dX3_unit_25 : decode cX3_unit 25 = .ok (.isub, 1) := dk_100 (dk_at dksX3_unit_1 1 rfl rfl)
theorem dX3_unit_26 : decode cX3_unit 26 = .ok (.invokevirtual 72, 3) := dk_182 0 72 (dk_at dksX3_unit_1 2 rfl rfl)
theorem dX3_unit_29 : decode cX3_unit 29 = .ok (.invokespecial 251, 3) := dk_183 0 251 (dk_at dksX3_unit_1 5 rfl rfl)
theorem dX3_unit_32 : decode cX3_unit 32 = .ok (.areturn, 1) := dk_176 (dk_at dksX3_unit_1 8 rfl rfl)
theorem dX3_unit_33 : decode cX3_unit 33 = .ok (.aload_n 0, 1) := dk_42 (dk_at dksX3_unit_1 9 rfl rfl)
theorem dX3_unit_34 : decode cX3_unit 34 = .ok (.invokevirtual 65, 3) := dk_182 0 65 (dk_at dksX3_unit_1 10 rfl rfl)
theorem dX3_unit_37 : decode cX3_unit 37 = .ok (.iconst 3, 1) := dk_6 (dk_at dksX3_unit_1 13 rfl rfl)
theorem dX3_unit_38 : decode cX3_unit 38 = .ok (.if_icmp .ne 49, 3) := dk_160 0 49 (dk_at dksX3_unit_1 14 rfl rfl)
theorem dX3_unit_41 : decode cX3_unit 41 = .ok (.aload_n 0, 1) := dk_42 (dk_at dksX3_unit_1 17 rfl rfl)
theorem dX3_unit_42 : decode cX3_unit 42 = .ok (.getfield 9, 3) := dk_180 0 9 (dk_at dksX3_unit_1 18 rfl rfl)
theorem dX3_unit_45 : decode cX3_unit 45 = .ok (.getfield 52, 3) := dk_180 0 52 (dk_at dksX3_unit_1 21 rfl rfl)
theorem dX3_unit_48 : decode cX3_unit 48 = .ok (.aload_n 0, 1) := dk_42 (dk_at dksX3_unit_2 0 rfl rfl)
theorem dX3_unit_49 : decode cX3_unit 49 = .ok (.getfield 31, 3) := dk_180 0 31 (dk_at dksX3_unit_2 1 rfl rfl)
theorem dX3_unit_52 : decode cX3_unit 52 = .ok (.saload, 1) := dk_53 (dk_at dksX3_unit_2 4 rfl rfl)
theorem dX3_unit_53 : decode cX3_unit 53 = .ok (.bipush 11, 2) := dk_16 11 (dk_at dksX3_unit_2 5 rfl rfl)
theorem dX3_unit_55 : decode cX3_unit 55 = .ok (.if_icmp .lt 32, 3) := dk_161 0 32 (dk_at dksX3_unit_2 7 rfl rfl)
theorem dX3_unit_58 : decode cX3_unit 58 = .ok (.aload_n 0, 1) := dk_42 (dk_at dksX3_unit_2 10 rfl rfl)
theorem dX3_unit_59 : decode cX3_unit 59 = .ok (.invokevirtual 59, 3) := dk_182 0 59 (dk_at dksX3_unit_2 11 rfl rfl)
theorem dX3_unit_62 : decode cX3_unit 62 = .ok (.new 253, 3) := dk_187 0 253 (dk_at dksX3_unit_2 14 rfl rfl)
theorem dX3_unit_65 : decode cX3_unit 65 = .ok (.dup, 1) := dk_89 (dk_at dksX3_unit_2 17 rfl rfl)
theorem dX3_unit_66 : decode cX3_unit 66 = .ok (.aload_n 0, 1) := dk_42 (dk_at dksX3_unit_2 18 rfl rfl)
theorem dX3_unit_67 : decode cX3_unit 67 = .ok (.getfield 9, 3) := dk_180 0 9 (dk_at dksX3_unit_2 19 rfl rfl)
theorem dX3_unit_70 : decode cX3_unit 70 = .ok (.getfield 52, 3) := dk_180 0 52 (dk_at dksX3_unit_3 0 rfl rfl)
theorem dX3_unit_73 : decode cX3_unit 73 = .ok (.aload_n 0, 1) := dk_42 (dk_at dksX3_unit_3 3 rfl rfl)
theorem dX3_unit_74 : decode cX3_unit 74 = .ok (.getfield 31, 3) := dk_180 0 31 (dk_at dksX3_unit_3 4 rfl rfl)
theorem dX3_unit_77 : decode cX3_unit 77 = .ok (.iconst 1, 1) := dk_4 (dk_at dksX3_unit_3 7 rfl rfl)
theorem dX3_unit_78 : decode cX3_unit 78 = .ok (.isub, 1) := dk_100 (dk_at dksX3_unit_3 8 rfl rfl)
theorem dX3_unit_79 : decode cX3_unit 79 = .ok (.saload, 1) := dk_53 (dk_at dksX3_unit_3 9 rfl rfl)
theorem dX3_unit_80 : decode cX3_unit 80 = .ok (.bipush 11, 2) := dk_16 11 (dk_at dksX3_unit_3 10 rfl rfl)
theorem dX3_unit_82 : decode cX3_unit 82 = .ok (.isub, 1) := dk_100 (dk_at dksX3_unit_3 12 rfl rfl)
theorem dX3_unit_83 : decode cX3_unit 83 = .ok (.invokespecial 255, 3) := dk_183 0 255 (dk_at dksX3_unit_3 13 rfl rfl)
theorem dX3_unit_86 : decode cX3_unit 86 = .ok (.areturn, 1) := dk_176 (dk_at dksX3_unit_3 16 rfl rfl)
theorem dX3_unit_87 : decode cX3_unit 87 = .ok (.aload_n 0, 1) := dk_42 (dk_at dksX3_unit_3 17 rfl rfl)
theorem dX3_unit_88 : decode cX3_unit 88 = .ok (.bipush 40, 2) := dk_16 40 (dk_at dksX3_unit_3 18 rfl rfl)
theorem dX3_unit_90 : decode cX3_unit 90 = .ok (.invokevirtual 55, 3) := dk_182 0 55 (dk_at dksX3_unit_3 20 rfl rfl)
theorem dX3_unit_93 : decode cX3_unit 93 = .ok (.ifCond .ne 9, 3) := dk_154 0 9 (dk_at dksX3_unit_4 0 rfl rfl)
theorem dX3_unit_96 : decode cX3_unit 96 = .ok (.aload_n 0, 1) := dk_42 (dk_at dksX3_unit_4 3 rfl rfl)
theorem dX3_unit_97 : decode cX3_unit 97 = .ok (.iconst 1, 1) := dk_4 (dk_at dksX3_unit_4 4 rfl rfl)
theorem dX3_unit_98 : decode cX3_unit 98 = .ok (.invokevirtual 48, 3) := dk_182 0 48 (dk_at dksX3_unit_4 5 rfl rfl)
theorem dX3_unit_101 : decode cX3_unit 101 = .ok (.athrow, 1) := dk_191 (dk_at dksX3_unit_4 8 rfl rfl)
theorem dX3_unit_102 : decode cX3_unit 102 = .ok (.aload_n 0, 1) := dk_42 (dk_at dksX3_unit_4 9 rfl rfl)
theorem dX3_unit_103 : decode cX3_unit 103 = .ok (.getfield 96, 3) := dk_180 0 96 (dk_at dksX3_unit_4 10 rfl rfl)
theorem dX3_unit_106 : decode cX3_unit 106 = .ok (.bipush 6, 2) := dk_16 6 (dk_at dksX3_unit_4 13 rfl rfl)
theorem dX3_unit_108 : decode cX3_unit 108 = .ok (.if_icmp .ne 9, 3) := dk_160 0 9 (dk_at dksX3_unit_4 15 rfl rfl)
theorem dX3_unit_111 : decode cX3_unit 111 = .ok (.aload_n 0, 1) := dk_42 (dk_at dksX3_unit_4 18 rfl rfl)
theorem dX3_unit_112 : decode cX3_unit 112 = .ok (.iconst 2, 1) := dk_5 (dk_at dksX3_unit_4 19 rfl rfl)
theorem dX3_unit_113 : decode cX3_unit 113 = .ok (.invokevirtual 48, 3) := dk_182 0 48 (dk_at dksX3_unit_4 20 rfl rfl)
theorem dX3_unit_116 : decode cX3_unit 116 = .ok (.athrow, 1) := dk_191 (dk_at dksX3_unit_4 23 rfl rfl)
theorem dX3_unit_117 : decode cX3_unit 117 = .ok (.aload_n 0, 1) := dk_42 (dk_at dksX3_unit_5 0 rfl rfl)
theorem dX3_unit_118 : decode cX3_unit 118 = .ok (.dup, 1) := dk_89 (dk_at dksX3_unit_5 1 rfl rfl)
theorem dX3_unit_119 : decode cX3_unit 119 = .ok (.getfield 96, 3) := dk_180 0 96 (dk_at dksX3_unit_5 2 rfl rfl)
theorem dX3_unit_122 : decode cX3_unit 122 = .ok (.iconst 1, 1) := dk_4 (dk_at dksX3_unit_5 5 rfl rfl)
theorem dX3_unit_123 : decode cX3_unit 123 = .ok (.iadd, 1) := dk_96 (dk_at dksX3_unit_5 6 rfl rfl)
theorem dX3_unit_124 : decode cX3_unit 124 = .ok (.putfield 96, 3) := dk_181 0 96 (dk_at dksX3_unit_5 7 rfl rfl)
theorem dX3_unit_127 : decode cX3_unit 127 = .ok (.aload_n 0, 1) := dk_42 (dk_at dksX3_unit_5 10 rfl rfl)
theorem dX3_unit_128 : decode cX3_unit 128 = .ok (.invokevirtual 59, 3) := dk_182 0 59 (dk_at dksX3_unit_5 11 rfl rfl)
theorem dX3_unit_131 : decode cX3_unit 131 = .ok (.aload_n 0, 1) := dk_42 (dk_at dksX3_unit_5 14 rfl rfl)
theorem dX3_unit_132 : decode cX3_unit 132 = .ok (.invokevirtual 225, 3) := dk_182 0 225 (dk_at dksX3_unit_5 15 rfl rfl)
theorem dX3_unit_135 : decode cX3_unit 135 = .ok (.astore_n 1, 1) := dk_76 (dk_at dksX3_unit_5 18 rfl rfl)
theorem dX3_unit_136 : decode cX3_unit 136 = .ok (.aload_n 0, 1) := dk_42 (dk_at dksX3_unit_5 19 rfl rfl)
theorem dX3_unit_137 : decode cX3_unit 137 = .ok (.bipush 41, 2) := dk_16 41 (dk_at dksX3_unit_5 20 rfl rfl)
theorem dX3_unit_139 : decode cX3_unit 139 = .ok (.invokevirtual 102, 3) := dk_182 0 102 (dk_at dksX3_unit_6 0 rfl rfl)
theorem dX3_unit_142 : decode cX3_unit 142 = .ok (.aload_n 0, 1) := dk_42 (dk_at dksX3_unit_6 3 rfl rfl)
theorem dX3_unit_143 : decode cX3_unit 143 = .ok (.dup, 1) := dk_89 (dk_at dksX3_unit_6 4 rfl rfl)
theorem dX3_unit_144 : decode cX3_unit 144 = .ok (.getfield 96, 3) := dk_180 0 96 (dk_at dksX3_unit_6 5 rfl rfl)
theorem dX3_unit_147 : decode cX3_unit 147 = .ok (.iconst 1, 1) := dk_4 (dk_at dksX3_unit_6 8 rfl rfl)
theorem dX3_unit_148 : decode cX3_unit 148 = .ok (.isub, 1) := dk_100 (dk_at dksX3_unit_6 9 rfl rfl)
theorem dX3_unit_149 : decode cX3_unit 149 = .ok (.putfield 96, 3) := dk_181 0 96 (dk_at dksX3_unit_6 10 rfl rfl)
theorem dX3_unit_152 : decode cX3_unit 152 = .ok (.aload_n 1, 1) := dk_43 (dk_at dksX3_unit_6 13 rfl rfl)
theorem dX3_unit_153 : decode cX3_unit 153 = .ok (.areturn, 1) := dk_176 (dk_at dksX3_unit_6 14 rfl rfl)
abbrev cX3_word : ByteArray := prog_15_method_10_code
def yX3_word : MethodName := ⟨RX3, "word", "(I)V"⟩
def dkwX3_word_0 : List UInt8 := [42, 27, 182, 0, 62, 154, 0, 9, 42, 4, 182, 0, 48, 191, 42, 182, 0, 59, 177]
abbrev dktX3_word_0 : List UInt8 := dkwX3_word_0 ++ []
theorem dksX3_word_0 : cX3_word.data.toList.drop 0 = dktX3_word_0 := by decide +kernel
theorem dX3_word_0 : decode cX3_word 0 = .ok (.aload_n 0, 1) := dk_42 (dk_at dksX3_word_0 0 rfl rfl)
theorem dX3_word_1 : decode cX3_word 1 = .ok (.iload_n 1, 1) := dk_27 (dk_at dksX3_word_0 1 rfl rfl)
theorem dX3_word_2 : decode cX3_word 2 = .ok (.invokevirtual 62, 3) := dk_182 0 62 (dk_at dksX3_word_0 2 rfl rfl)
theorem dX3_word_5 : decode cX3_word 5 = .ok (.ifCond .ne 9, 3) := dk_154 0 9 (dk_at dksX3_word_0 5 rfl rfl)
theorem dX3_word_8 : decode cX3_word 8 = .ok (.aload_n 0, 1) := dk_42 (dk_at dksX3_word_0 8 rfl rfl)
theorem dX3_word_9 : decode cX3_word 9 = .ok (.iconst 1, 1) := dk_4 (dk_at dksX3_word_0 9 rfl rfl)
theorem dX3_word_10 : decode cX3_word 10 = .ok (.invokevirtual 48, 3) := dk_182 0 48 (dk_at dksX3_word_0 10 rfl rfl)
theorem dX3_word_13 : decode cX3_word 13 = .ok (.athrow, 1) := dk_191 (dk_at dksX3_word_0 13 rfl rfl)
theorem dX3_word_14 : decode cX3_word 14 = .ok (.aload_n 0, 1) := dk_42 (dk_at dksX3_word_0 14 rfl rfl)
theorem dX3_word_15 : decode cX3_word 15 = .ok (.invokevirtual 59, 3) := dk_182 0 59 (dk_at dksX3_word_0 15 rfl rfl)
theorem dX3_word_18 : decode cX3_word 18 = .ok (.return_, 1) := dk_177 (dk_at dksX3_word_0 18 rfl rfl)
abbrev cX3_errand : ByteArray := prog_15_method_18_code
def yX3_errand : MethodName := ⟨RX3, "errand", "()V"⟩
def dkwX3_errand_7 : List UInt8 := [180, 0, 206, 4, 96, 181, 0, 206, 42, 180, 0, 83, 21, 5, 21, 6, 21, 4, 182, 0, 159, 177]
abbrev dktX3_errand_7 : List UInt8 := dkwX3_errand_7 ++ []
def dkwX3_errand_6 : List UInt8 := [180, 0, 206, 21, 5, 79, 25, 7, 180, 0, 212, 25, 7, 180, 0, 206, 21, 6, 79, 25, 7, 89]
abbrev dktX3_errand_6 : List UInt8 := dkwX3_errand_6 ++ dktX3_errand_7
def dkwX3_errand_5 : List UInt8 := [180, 0, 83, 180, 0, 132, 29, 182, 0, 174, 192, 0, 144, 58, 7, 25, 7, 180, 0, 209, 25, 7]
abbrev dktX3_errand_5 : List UInt8 := dkwX3_errand_5 ++ dktX3_errand_6
def dkwX3_errand_4 : List UInt8 := [16, 11, 182, 0, 123, 54, 5, 42, 3, 16, 11, 182, 0, 123, 54, 6, 29, 156, 0, 4, 177, 42]
abbrev dktX3_errand_4 : List UInt8 := dkwX3_errand_4 ++ dktX3_errand_5
def dkwX3_errand_3 : List UInt8 := [160, 0, 10, 42, 5, 27, 182, 0, 35, 191, 42, 182, 0, 167, 62, 42, 180, 0, 31, 54, 4, 42, 3]
abbrev dktX3_errand_3 : List UInt8 := dkwX3_errand_3 ++ dktX3_errand_4
def dkwX3_errand_2 : List UInt8 := [155, 0, 32, 42, 180, 0, 83, 180, 0, 132, 28, 182, 0, 174, 192, 0, 144, 180, 0, 206, 16, 6]
abbrev dktX3_errand_2 : List UInt8 := dkwX3_errand_2 ++ dktX3_errand_3
def dkwX3_errand_1 : List UInt8 := [42, 180, 0, 83, 42, 180, 0, 9, 42, 180, 0, 31, 182, 0, 79, 182, 0, 203, 167, 0, 4, 2, 61, 28]
abbrev dktX3_errand_1 : List UInt8 := dkwX3_errand_1 ++ dktX3_errand_2
def dkwX3_errand_0 : List UInt8 := [42, 180, 0, 31, 60, 42, 182, 0, 59, 42, 180, 0, 9, 180, 0, 44, 42, 180, 0, 31, 51, 154, 0, 24]
abbrev dktX3_errand_0 : List UInt8 := dkwX3_errand_0 ++ dktX3_errand_1
theorem dksX3_errand_0 : cX3_errand.data.toList.drop 0 = dktX3_errand_0 := by decide +kernel
theorem dksX3_errand_1 : cX3_errand.data.toList.drop 24 = dktX3_errand_1 := dk_seg dksX3_errand_0 24 rfl rfl
theorem dksX3_errand_2 : cX3_errand.data.toList.drop 48 = dktX3_errand_2 := dk_seg dksX3_errand_1 24 rfl rfl
theorem dksX3_errand_3 : cX3_errand.data.toList.drop 70 = dktX3_errand_3 := dk_seg dksX3_errand_2 22 rfl rfl
theorem dksX3_errand_4 : cX3_errand.data.toList.drop 93 = dktX3_errand_4 := dk_seg dksX3_errand_3 23 rfl rfl
theorem dksX3_errand_5 : cX3_errand.data.toList.drop 115 = dktX3_errand_5 := dk_seg dksX3_errand_4 22 rfl rfl
theorem dksX3_errand_6 : cX3_errand.data.toList.drop 137 = dktX3_errand_6 := dk_seg dksX3_errand_5 22 rfl rfl
theorem dksX3_errand_7 : cX3_errand.data.toList.drop 159 = dktX3_errand_7 := dk_seg dksX3_errand_6 22 rfl rfl
theorem dX3_errand_0 : decode cX3_errand 0 = .ok (.aload_n 0, 1) := dk_42 (dk_at dksX3_errand_0 0 rfl rfl)
theorem dX3_errand_1 : decode cX3_errand 1 = .ok (.getfield 31, 3) := dk_180 0 31 (dk_at dksX3_errand_0 1 rfl rfl)
theorem dX3_errand_4 : decode cX3_errand 4 = .ok (.istore_n 1, 1) := dk_60 (dk_at dksX3_errand_0 4 rfl rfl)
theorem dX3_errand_5 : decode cX3_errand 5 = .ok (.aload_n 0, 1) := dk_42 (dk_at dksX3_errand_0 5 rfl rfl)
theorem dX3_errand_6 : decode cX3_errand 6 = .ok (.invokevirtual 59, 3) := dk_182 0 59 (dk_at dksX3_errand_0 6 rfl rfl)
theorem dX3_errand_9 : decode cX3_errand 9 = .ok (.aload_n 0, 1) := dk_42 (dk_at dksX3_errand_0 9 rfl rfl)
theorem dX3_errand_10 : decode cX3_errand 10 = .ok (.getfield 9, 3) := dk_180 0 9 (dk_at dksX3_errand_0 10 rfl rfl)
theorem dX3_errand_13 : decode cX3_errand 13 = .ok (.getfield 44, 3) := dk_180 0 44 (dk_at dksX3_errand_0 13 rfl rfl)
theorem dX3_errand_16 : decode cX3_errand 16 = .ok (.aload_n 0, 1) := dk_42 (dk_at dksX3_errand_0 16 rfl rfl)
theorem dX3_errand_17 : decode cX3_errand 17 = .ok (.getfield 31, 3) := dk_180 0 31 (dk_at dksX3_errand_0 17 rfl rfl)
theorem dX3_errand_20 : decode cX3_errand 20 = .ok (.baload, 1) := dk_51 (dk_at dksX3_errand_0 20 rfl rfl)
theorem dX3_errand_21 : decode cX3_errand 21 = .ok (.ifCond .ne 24, 3) := dk_154 0 24 (dk_at dksX3_errand_0 21 rfl rfl)
theorem dX3_errand_24 : decode cX3_errand 24 = .ok (.aload_n 0, 1) := dk_42 (dk_at dksX3_errand_1 0 rfl rfl)
theorem dX3_errand_25 : decode cX3_errand 25 = .ok (.getfield 83, 3) := dk_180 0 83 (dk_at dksX3_errand_1 1 rfl rfl)
theorem dX3_errand_28 : decode cX3_errand 28 = .ok (.aload_n 0, 1) := dk_42 (dk_at dksX3_errand_1 4 rfl rfl)
theorem dX3_errand_29 : decode cX3_errand 29 = .ok (.getfield 9, 3) := dk_180 0 9 (dk_at dksX3_errand_1 5 rfl rfl)
theorem dX3_errand_32 : decode cX3_errand 32 = .ok (.aload_n 0, 1) := dk_42 (dk_at dksX3_errand_1 8 rfl rfl)
theorem dX3_errand_33 : decode cX3_errand 33 = .ok (.getfield 31, 3) := dk_180 0 31 (dk_at dksX3_errand_1 9 rfl rfl)
theorem dX3_errand_36 : decode cX3_errand 36 = .ok (.invokevirtual 79, 3) := dk_182 0 79 (dk_at dksX3_errand_1 12 rfl rfl)
theorem dX3_errand_39 : decode cX3_errand 39 = .ok (.invokevirtual 203, 3) := dk_182 0 203 (dk_at dksX3_errand_1 15 rfl rfl)
theorem dX3_errand_42 : decode cX3_errand 42 = .ok (.goto 4, 3) := dk_167 0 4 (dk_at dksX3_errand_1 18 rfl rfl)
theorem dX3_errand_45 : decode cX3_errand 45 = .ok (.iconst (-1), 1) := dk_2 (dk_at dksX3_errand_1 21 rfl rfl)
theorem dX3_errand_46 : decode cX3_errand 46 = .ok (.istore_n 2, 1) := dk_61 (dk_at dksX3_errand_1 22 rfl rfl)
theorem dX3_errand_47 : decode cX3_errand 47 = .ok (.iload_n 2, 1) := dk_28 (dk_at dksX3_errand_1 23 rfl rfl)
theorem dX3_errand_48 : decode cX3_errand 48 = .ok (.ifCond .lt 32, 3) := dk_155 0 32 (dk_at dksX3_errand_2 0 rfl rfl)
theorem dX3_errand_51 : decode cX3_errand 51 = .ok (.aload_n 0, 1) := dk_42 (dk_at dksX3_errand_2 3 rfl rfl)
theorem dX3_errand_52 : decode cX3_errand 52 = .ok (.getfield 83, 3) := dk_180 0 83 (dk_at dksX3_errand_2 4 rfl rfl)
theorem dX3_errand_55 : decode cX3_errand 55 = .ok (.getfield 132, 3) := dk_180 0 132 (dk_at dksX3_errand_2 7 rfl rfl)
theorem dX3_errand_58 : decode cX3_errand 58 = .ok (.iload_n 2, 1) := dk_28 (dk_at dksX3_errand_2 10 rfl rfl)
theorem dX3_errand_59 : decode cX3_errand 59 = .ok (.invokevirtual 174, 3) := dk_182 0 174 (dk_at dksX3_errand_2 11 rfl rfl)
theorem dX3_errand_62 : decode cX3_errand 62 = .ok (.checkcast 144, 3) := dk_192 0 144 (dk_at dksX3_errand_2 14 rfl rfl)
theorem dX3_errand_65 : decode cX3_errand 65 = .ok (.getfield 206, 3) := dk_180 0 206 (dk_at dksX3_errand_2 17 rfl rfl)
theorem dX3_errand_68 : decode cX3_errand 68 = .ok (.bipush 6, 2) := dk_16 6 (dk_at dksX3_errand_2 20 rfl rfl)
theorem dX3_errand_70 : decode cX3_errand 70 = .ok (.if_icmp .ne 10, 3) := dk_160 0 10 (dk_at dksX3_errand_3 0 rfl rfl)
theorem dX3_errand_73 : decode cX3_errand 73 = .ok (.aload_n 0, 1) := dk_42 (dk_at dksX3_errand_3 3 rfl rfl)
theorem dX3_errand_74 : decode cX3_errand 74 = .ok (.iconst 2, 1) := dk_5 (dk_at dksX3_errand_3 4 rfl rfl)
theorem dX3_errand_75 : decode cX3_errand 75 = .ok (.iload_n 1, 1) := dk_27 (dk_at dksX3_errand_3 5 rfl rfl)
theorem dX3_errand_76 : decode cX3_errand 76 = .ok (.invokevirtual 35, 3) := dk_182 0 35 (dk_at dksX3_errand_3 6 rfl rfl)
theorem dX3_errand_79 : decode cX3_errand 79 = .ok (.athrow, 1) := dk_191 (dk_at dksX3_errand_3 9 rfl rfl)
theorem dX3_errand_80 : decode cX3_errand 80 = .ok (.aload_n 0, 1) := dk_42 (dk_at dksX3_errand_3 10 rfl rfl)
theorem dX3_errand_81 : decode cX3_errand 81 = .ok (.invokevirtual 167, 3) := dk_182 0 167 (dk_at dksX3_errand_3 11 rfl rfl)
theorem dX3_errand_84 : decode cX3_errand 84 = .ok (.istore_n 3, 1) := dk_62 (dk_at dksX3_errand_3 14 rfl rfl)
theorem dX3_errand_85 : decode cX3_errand 85 = .ok (.aload_n 0, 1) := dk_42 (dk_at dksX3_errand_3 15 rfl rfl)
theorem dX3_errand_86 : decode cX3_errand 86 = .ok (.getfield 31, 3) := dk_180 0 31 (dk_at dksX3_errand_3 16 rfl rfl)
theorem dX3_errand_89 : decode cX3_errand 89 = .ok (.istore 4, 2) := dk_54 4 (dk_at dksX3_errand_3 19 rfl rfl)
theorem dX3_errand_91 : decode cX3_errand 91 = .ok (.aload_n 0, 1) := dk_42 (dk_at dksX3_errand_3 21 rfl rfl)
theorem dX3_errand_92 : decode cX3_errand 92 = .ok (.iconst 0, 1) := dk_3 (dk_at dksX3_errand_3 22 rfl rfl)
theorem dX3_errand_93 : decode cX3_errand 93 = .ok (.bipush 11, 2) := dk_16 11 (dk_at dksX3_errand_4 0 rfl rfl)
theorem dX3_errand_95 : decode cX3_errand 95 = .ok (.invokevirtual 123, 3) := dk_182 0 123 (dk_at dksX3_errand_4 2 rfl rfl)
theorem dX3_errand_98 : decode cX3_errand 98 = .ok (.istore 5, 2) := dk_54 5 (dk_at dksX3_errand_4 5 rfl rfl)
theorem dX3_errand_100 : decode cX3_errand 100 = .ok (.aload_n 0, 1) := dk_42 (dk_at dksX3_errand_4 7 rfl rfl)
theorem dX3_errand_101 : decode cX3_errand 101 = .ok (.iconst 0, 1) := dk_3 (dk_at dksX3_errand_4 8 rfl rfl)
theorem dX3_errand_102 : decode cX3_errand 102 = .ok (.bipush 11, 2) := dk_16 11 (dk_at dksX3_errand_4 9 rfl rfl)
theorem dX3_errand_104 : decode cX3_errand 104 = .ok (.invokevirtual 123, 3) := dk_182 0 123 (dk_at dksX3_errand_4 11 rfl rfl)
theorem dX3_errand_107 : decode cX3_errand 107 = .ok (.istore 6, 2) := dk_54 6 (dk_at dksX3_errand_4 14 rfl rfl)
theorem dX3_errand_109 : decode cX3_errand 109 = .ok (.iload_n 3, 1) := dk_29 (dk_at dksX3_errand_4 16 rfl rfl)
theorem dX3_errand_110 : decode cX3_errand 110 = .ok (.ifCond .ge 4, 3) := dk_156 0 4 (dk_at dksX3_errand_4 17 rfl rfl)
theorem dX3_errand_113 : decode cX3_errand 113 = .ok (.return_, 1) := dk_177 (dk_at dksX3_errand_4 20 rfl rfl)
theorem dX3_errand_114 : decode cX3_errand 114 = .ok (.aload_n 0, 1) := dk_42 (dk_at dksX3_errand_4 21 rfl rfl)
theorem dX3_errand_115 : decode cX3_errand 115 = .ok (.getfield 83, 3) := dk_180 0 83 (dk_at dksX3_errand_5 0 rfl rfl)
theorem dX3_errand_118 : decode cX3_errand 118 = .ok (.getfield 132, 3) := dk_180 0 132 (dk_at dksX3_errand_5 3 rfl rfl)
theorem dX3_errand_121 : decode cX3_errand 121 = .ok (.iload_n 3, 1) := dk_29 (dk_at dksX3_errand_5 6 rfl rfl)
theorem dX3_errand_122 : decode cX3_errand 122 = .ok (.invokevirtual 174, 3) := dk_182 0 174 (dk_at dksX3_errand_5 7 rfl rfl)
theorem dX3_errand_125 : decode cX3_errand 125 = .ok (.checkcast 144, 3) := dk_192 0 144 (dk_at dksX3_errand_5 10 rfl rfl)
theorem dX3_errand_128 : decode cX3_errand 128 = .ok (.astore 7, 2) := dk_58 7 (dk_at dksX3_errand_5 13 rfl rfl)
theorem dX3_errand_130 : decode cX3_errand 130 = .ok (.aload 7, 2) := dk_25 7 (dk_at dksX3_errand_5 15 rfl rfl)
theorem dX3_errand_132 : decode cX3_errand 132 = .ok (.getfield 209, 3) := dk_180 0 209 (dk_at dksX3_errand_5 17 rfl rfl)
theorem dX3_errand_135 : decode cX3_errand 135 = .ok (.aload 7, 2) := dk_25 7 (dk_at dksX3_errand_5 20 rfl rfl)
theorem dX3_errand_137 : decode cX3_errand 137 = .ok (.getfield 206, 3) := dk_180 0 206 (dk_at dksX3_errand_6 0 rfl rfl)
theorem dX3_errand_140 : decode cX3_errand 140 = .ok (.iload 5, 2) := dk_21 5 (dk_at dksX3_errand_6 3 rfl rfl)
theorem dX3_errand_142 : decode cX3_errand 142 = .ok (.iastore, 1) := dk_79 (dk_at dksX3_errand_6 5 rfl rfl)
theorem dX3_errand_143 : decode cX3_errand 143 = .ok (.aload 7, 2) := dk_25 7 (dk_at dksX3_errand_6 6 rfl rfl)
theorem dX3_errand_145 : decode cX3_errand 145 = .ok (.getfield 212, 3) := dk_180 0 212 (dk_at dksX3_errand_6 8 rfl rfl)
theorem dX3_errand_148 : decode cX3_errand 148 = .ok (.aload 7, 2) := dk_25 7 (dk_at dksX3_errand_6 11 rfl rfl)
theorem dX3_errand_150 : decode cX3_errand 150 = .ok (.getfield 206, 3) := dk_180 0 206 (dk_at dksX3_errand_6 13 rfl rfl)
theorem dX3_errand_153 : decode cX3_errand 153 = .ok (.iload 6, 2) := dk_21 6 (dk_at dksX3_errand_6 16 rfl rfl)
theorem dX3_errand_155 : decode cX3_errand 155 = .ok (.iastore, 1) := dk_79 (dk_at dksX3_errand_6 18 rfl rfl)
theorem dX3_errand_156 : decode cX3_errand 156 = .ok (.aload 7, 2) := dk_25 7 (dk_at dksX3_errand_6 19 rfl rfl)
theorem dX3_errand_158 : decode cX3_errand 158 = .ok (.dup, 1) := dk_89 (dk_at dksX3_errand_6 21 rfl rfl)
theorem dX3_errand_159 : decode cX3_errand 159 = .ok (.getfield 206, 3) := dk_180 0 206 (dk_at dksX3_errand_7 0 rfl rfl)
theorem dX3_errand_162 : decode cX3_errand 162 = .ok (.iconst 1, 1) := dk_4 (dk_at dksX3_errand_7 3 rfl rfl)
theorem dX3_errand_163 : decode cX3_errand 163 = .ok (.iadd, 1) := dk_96 (dk_at dksX3_errand_7 4 rfl rfl)
theorem dX3_errand_164 : decode cX3_errand 164 = .ok (.putfield 206, 3) := dk_181 0 206 (dk_at dksX3_errand_7 5 rfl rfl)
theorem dX3_errand_167 : decode cX3_errand 167 = .ok (.aload_n 0, 1) := dk_42 (dk_at dksX3_errand_7 8 rfl rfl)
theorem dX3_errand_168 : decode cX3_errand 168 = .ok (.getfield 83, 3) := dk_180 0 83 (dk_at dksX3_errand_7 9 rfl rfl)
theorem dX3_errand_171 : decode cX3_errand 171 = .ok (.iload 5, 2) := dk_21 5 (dk_at dksX3_errand_7 12 rfl rfl)
theorem dX3_errand_173 : decode cX3_errand 173 = .ok (.iload 6, 2) := dk_21 6 (dk_at dksX3_errand_7 14 rfl rfl)
theorem dX3_errand_175 : decode cX3_errand 175 = .ok (.iload 4, 2) := dk_21 4 (dk_at dksX3_errand_7 16 rfl rfl)
theorem dX3_errand_177 : decode cX3_errand 177 = .ok (.invokevirtual 159, 3) := dk_182 0 159 (dk_at dksX3_errand_7 18 rfl rfl)
theorem dX3_errand_180 : decode cX3_errand 180 = .ok (.return_, 1) := dk_177 (dk_at dksX3_errand_7 21 rfl rfl)
def mX3_init : am_M := (yX3_init, cX3_init, 3, none, [])
theorem okX3_init : am_Ok mX3_init 2 := ⟨rfl, q294, q120, ⟨by decide +kernel, by decide +kernel, by decide +kernel⟩, by decide, by decide +kernel⟩
def mX3_read : am_M := (yX3_read, cX3_read, 2, (some (.object "ThreadTown$Text")), [])
theorem okX3_read : am_Ok mX3_read 0 := ⟨rfl, q667, q120, ⟨by decide +kernel, by decide +kernel, by decide +kernel⟩, by decide, by decide +kernel⟩
def mX3_sort : am_M := (yX3_sort, cX3_sort, 1, (some .int), [])
theorem okX3_sort : am_Ok mX3_sort 0 := ⟨rfl, q747, q120, ⟨by decide +kernel, by decide +kernel, by decide +kernel⟩, by decide, by decide +kernel⟩
def mX3_wrong : am_M := (yX3_wrong, cX3_wrong, 2, (some (.object "ThreadTown$Fault")), [])
theorem okX3_wrong : am_Ok mX3_wrong 1 := ⟨rfl, q751, q120, ⟨by decide +kernel, by decide +kernel, by decide +kernel⟩, by decide, by decide +kernel⟩
def mX3_wrongAt : am_M := (yX3_wrongAt, cX3_wrongAt, 3, (some (.object "ThreadTown$Fault")), [])
theorem okX3_wrongAt : am_Ok mX3_wrongAt 2 := ⟨rfl, q755, q120, ⟨by decide +kernel, by decide +kernel, by decide +kernel⟩, by decide, by decide +kernel⟩
def mX3_told : am_M := (yX3_told, cX3_told, 4, none, [])
theorem okX3_told : am_Ok mX3_told 0 := ⟨rfl, q763, q120, ⟨by decide +kernel, by decide +kernel, by decide +kernel⟩, by decide, by decide +kernel⟩
def mX3_pass : am_M := (yX3_pass, cX3_pass, 1, none, [])
theorem okX3_pass : am_Ok mX3_pass 0 := ⟨rfl, q767, q120, ⟨by decide +kernel, by decide +kernel, by decide +kernel⟩, by decide, by decide +kernel⟩
def mX3_number : am_M := (yX3_number, cX3_number, 5, (some .int), [])
theorem okX3_number : am_Ok mX3_number 2 := ⟨rfl, q771, q120, ⟨by decide +kernel, by decide +kernel, by decide +kernel⟩, by decide, by decide +kernel⟩
def mX3_take : am_M := (yX3_take, cX3_take, 2, (some .int), [])
theorem okX3_take : am_Ok mX3_take 1 := ⟨rfl, q775, q120, ⟨by decide +kernel, by decide +kernel, by decide +kernel⟩, by decide, by decide +kernel⟩
def mX3_tell : am_M := (yX3_tell, cX3_tell, 3, none, [])
theorem okX3_tell : am_Ok mX3_tell 2 := ⟨rfl, q783, q120, ⟨by decide +kernel, by decide +kernel, by decide +kernel⟩, by decide, by decide +kernel⟩
def mX3_begins : am_M := (yX3_begins, cX3_begins, 3, none, [])
theorem okX3_begins : am_Ok mX3_begins 2 := ⟨rfl, q788, q120, ⟨by decide +kernel, by decide +kernel, by decide +kernel⟩, by decide, by decide +kernel⟩
def mX3_name : am_M := (yX3_name, cX3_name, 3, (some (.object "java/lang/String")), [])
theorem okX3_name : am_Ok mX3_name 0 := ⟨rfl, q794, q120, ⟨by decide +kernel, by decide +kernel, by decide +kernel⟩, by decide, by decide +kernel⟩
def mX3_known : am_M := (yX3_known, cX3_known, 3, (some .int), [])
theorem okX3_known : am_Ok mX3_known 0 := ⟨rfl, q1077, q120, ⟨by decide +kernel, by decide +kernel, by decide +kernel⟩, by decide, by decide +kernel⟩
def mX3_law : am_M := (yX3_law, cX3_law, 2, (some (.object "ThreadTown$Law")), [])
theorem okX3_law : am_Ok mX3_law 0 := ⟨rfl, q1082, q120, ⟨by decide +kernel, by decide +kernel, by decide +kernel⟩, by decide, by decide +kernel⟩
def mX3_sign : am_M := (yX3_sign, cX3_sign, 2, none, [])
theorem okX3_sign : am_Ok mX3_sign 1 := ⟨rfl, q1111, q120, ⟨by decide +kernel, by decide +kernel, by decide +kernel⟩, by decide, by decide +kernel⟩
def mX3_isSign : am_M := (yX3_isSign, cX3_isSign, 2, (some .boolean), [])
theorem okX3_isSign : am_Ok mX3_isSign 1 := ⟨rfl, q1115, q120, ⟨by decide +kernel, by decide +kernel, by decide +kernel⟩, by decide, by decide +kernel⟩
def mX3_isWord : am_M := (yX3_isWord, cX3_isWord, 2, (some .boolean), [])
theorem okX3_isWord : am_Ok mX3_isWord 1 := ⟨rfl, q1119, q120, ⟨by decide +kernel, by decide +kernel, by decide +kernel⟩, by decide, by decide +kernel⟩
def mX3_sum : am_M := (yX3_sum, cX3_sum, 3, (some (.object "ThreadTown$Sum")), [])
theorem okX3_sum : am_Ok mX3_sum 0 := ⟨rfl, q1123, q120, ⟨by decide +kernel, by decide +kernel, by decide +kernel⟩, by decide, by decide +kernel⟩
def mX3_part : am_M := (yX3_part, cX3_part, 3, (some (.object "ThreadTown$Sum")), [])
theorem okX3_part : am_Ok mX3_part 0 := ⟨rfl, q1127, q120, ⟨by decide +kernel, by decide +kernel, by decide +kernel⟩, by decide, by decide +kernel⟩
def mX3_unit : am_M := (yX3_unit, cX3_unit, 2, (some (.object "ThreadTown$Sum")), [])
theorem okX3_unit : am_Ok mX3_unit 0 := ⟨rfl, q1131, q120, ⟨by decide +kernel, by decide +kernel, by decide +kernel⟩, by decide, by decide +kernel⟩
def mX3_word : am_M := (yX3_word, cX3_word, 2, none, [])
theorem okX3_word : am_Ok mX3_word 1 := ⟨rfl, q1174, q120, ⟨by decide +kernel, by decide +kernel, by decide +kernel⟩, by decide, by decide +kernel⟩
def mX3_errand : am_M := (yX3_errand, cX3_errand, 8, none, [])
theorem okX3_errand : am_Ok mX3_errand 0 := ⟨rfl, q1179, q120, ⟨by decide +kernel, by decide +kernel, by decide +kernel⟩, by decide, by decide +kernel⟩
/-! ThreadTown$Text -/
abbrev cX4_init : ByteArray := prog_17_method_1_code
def yX4_init : MethodName := ⟨RX4, "<init>", "()V"⟩
def dkwX4_init_2 : List UInt8 := [16, 49, 188, 10, 181, 0, 31, 42, 16, 6, 181, 0, 34, 42, 16, 6, 181, 0, 38, 177]
abbrev dktX4_init_2 : List UInt8 := dkwX4_init_2 ++ []
def dkwX4_init_1 : List UInt8 := [16, 6, 188, 10, 181, 0, 22, 42, 16, 49, 188, 10, 181, 0, 25, 42, 16, 49, 188, 10, 181, 0, 28, 42]
abbrev dktX4_init_1 : List UInt8 := dkwX4_init_1 ++ dktX4_init_2
def dkwX4_init_0 : List UInt8 := [42, 183, 0, 3, 42, 187, 0, 9, 89, 183, 0, 11, 181, 0, 12, 42, 16, 6, 188, 10, 181, 0, 18, 42]
abbrev dktX4_init_0 : List UInt8 := dkwX4_init_0 ++ dktX4_init_1
theorem dksX4_init_0 : cX4_init.data.toList.drop 0 = dktX4_init_0 := by decide +kernel
theorem dksX4_init_1 : cX4_init.data.toList.drop 24 = dktX4_init_1 := dk_seg dksX4_init_0 24 rfl rfl
theorem dksX4_init_2 : cX4_init.data.toList.drop 48 = dktX4_init_2 := dk_seg dksX4_init_1 24 rfl rfl
theorem dX4_init_0 : decode cX4_init 0 = .ok (.aload_n 0, 1) := dk_42 (dk_at dksX4_init_0 0 rfl rfl)
theorem dX4_init_1 : decode cX4_init 1 = .ok (.invokespecial 3, 3) := dk_183 0 3 (dk_at dksX4_init_0 1 rfl rfl)
theorem dX4_init_4 : decode cX4_init 4 = .ok (.aload_n 0, 1) := dk_42 (dk_at dksX4_init_0 4 rfl rfl)
theorem dX4_init_5 : decode cX4_init 5 = .ok (.new 9, 3) := dk_187 0 9 (dk_at dksX4_init_0 5 rfl rfl)
theorem dX4_init_8 : decode cX4_init 8 = .ok (.dup, 1) := dk_89 (dk_at dksX4_init_0 8 rfl rfl)
theorem dX4_init_9 : decode cX4_init 9 = .ok (.invokespecial 11, 3) := dk_183 0 11 (dk_at dksX4_init_0 9 rfl rfl)
theorem dX4_init_12 : decode cX4_init 12 = .ok (.putfield 12, 3) := dk_181 0 12 (dk_at dksX4_init_0 12 rfl rfl)
theorem dX4_init_15 : decode cX4_init 15 = .ok (.aload_n 0, 1) := dk_42 (dk_at dksX4_init_0 15 rfl rfl)
theorem dX4_init_16 : decode cX4_init 16 = .ok (.bipush 6, 2) := dk_16 6 (dk_at dksX4_init_0 16 rfl rfl)
theorem dX4_init_18 : decode cX4_init 18 = .ok (.newarray .int, 2) := dk_188_10 (dk_at dksX4_init_0 18 rfl rfl)
theorem dX4_init_20 : decode cX4_init 20 = .ok (.putfield 18, 3) := dk_181 0 18 (dk_at dksX4_init_0 20 rfl rfl)
theorem dX4_init_23 : decode cX4_init 23 = .ok (.aload_n 0, 1) := dk_42 (dk_at dksX4_init_0 23 rfl rfl)
theorem dX4_init_24 : decode cX4_init 24 = .ok (.bipush 6, 2) := dk_16 6 (dk_at dksX4_init_1 0 rfl rfl)
theorem dX4_init_26 : decode cX4_init 26 = .ok (.newarray .int, 2) := dk_188_10 (dk_at dksX4_init_1 2 rfl rfl)
theorem dX4_init_28 : decode cX4_init 28 = .ok (.putfield 22, 3) := dk_181 0 22 (dk_at dksX4_init_1 4 rfl rfl)
theorem dX4_init_31 : decode cX4_init 31 = .ok (.aload_n 0, 1) := dk_42 (dk_at dksX4_init_1 7 rfl rfl)
theorem dX4_init_32 : decode cX4_init 32 = .ok (.bipush 49, 2) := dk_16 49 (dk_at dksX4_init_1 8 rfl rfl)
theorem dX4_init_34 : decode cX4_init 34 = .ok (.newarray .int, 2) := dk_188_10 (dk_at dksX4_init_1 10 rfl rfl)
theorem dX4_init_36 : decode cX4_init 36 = .ok (.putfield 25, 3) := dk_181 0 25 (dk_at dksX4_init_1 12 rfl rfl)
theorem dX4_init_39 : decode cX4_init 39 = .ok (.aload_n 0, 1) := dk_42 (dk_at dksX4_init_1 15 rfl rfl)
theorem dX4_init_40 : decode cX4_init 40 = .ok (.bipush 49, 2) := dk_16 49 (dk_at dksX4_init_1 16 rfl rfl)
theorem dX4_init_42 : decode cX4_init 42 = .ok (.newarray .int, 2) := dk_188_10 (dk_at dksX4_init_1 18 rfl rfl)
theorem dX4_init_44 : decode cX4_init 44 = .ok (.putfield 28, 3) := dk_181 0 28 (dk_at dksX4_init_1 20 rfl rfl)
theorem dX4_init_47 : decode cX4_init 47 = .ok (.aload_n 0, 1) := dk_42 (dk_at dksX4_init_1 23 rfl rfl)
theorem dX4_init_48 : decode cX4_init 48 = .ok (.bipush 49, 2) := dk_16 49 (dk_at dksX4_init_2 0 rfl rfl)
theorem dX4_init_50 : decode cX4_init 50 = .ok (.newarray .int, 2) := dk_188_10 (dk_at dksX4_init_2 2 rfl rfl)
theorem dX4_init_52 : decode cX4_init 52 = .ok (.putfield 31, 3) := dk_181 0 31 (dk_at dksX4_init_2 4 rfl rfl)
theorem dX4_init_55 : decode cX4_init 55 = .ok (.aload_n 0, 1) := dk_42 (dk_at dksX4_init_2 7 rfl rfl)
theorem dX4_init_56 : decode cX4_init 56 = .ok (.bipush 6, 2) := dk_16 6 (dk_at dksX4_init_2 8 rfl rfl)
theorem dX4_init_58 : decode cX4_init 58 = .ok (.putfield 34, 3) := dk_181 0 34 (dk_at dksX4_init_2 10 rfl rfl)
theorem dX4_init_61 : decode cX4_init 61 = .ok (.aload_n 0, 1) := dk_42 (dk_at dksX4_init_2 13 rfl rfl)
theorem dX4_init_62 : decode cX4_init 62 = .ok (.bipush 6, 2) := dk_16 6 (dk_at dksX4_init_2 14 rfl rfl)
theorem dX4_init_64 : decode cX4_init 64 = .ok (.putfield 38, 3) := dk_181 0 38 (dk_at dksX4_init_2 16 rfl rfl)
theorem dX4_init_67 : decode cX4_init 67 = .ok (.return_, 1) := dk_177 (dk_at dksX4_init_2 19 rfl rfl)
abbrev cX4_has : ByteArray := prog_17_method_3_code
def yX4_has : MethodName := ⟨RX4, "has", "(Ljava/lang/String;)Z"⟩
def dkwX4_has_0 : List UInt8 := [42, 43, 182, 0, 61, 155, 0, 7, 4, 167, 0, 4, 3, 172]
abbrev dktX4_has_0 : List UInt8 := dkwX4_has_0 ++ []
theorem dksX4_has_0 : cX4_has.data.toList.drop 0 = dktX4_has_0 := by decide +kernel
theorem dX4_has_0 : decode cX4_has 0 = .ok (.aload_n 0, 1) := dk_42 (dk_at dksX4_has_0 0 rfl rfl)
theorem dX4_has_1 : decode cX4_has 1 = .ok (.aload_n 1, 1) := dk_43 (dk_at dksX4_has_0 1 rfl rfl)
theorem dX4_has_2 : decode cX4_has 2 = .ok (.invokevirtual 61, 3) := dk_182 0 61 (dk_at dksX4_has_0 2 rfl rfl)
theorem dX4_has_5 : decode cX4_has 5 = .ok (.ifCond .lt 7, 3) := dk_155 0 7 (dk_at dksX4_has_0 5 rfl rfl)
theorem dX4_has_8 : decode cX4_has 8 = .ok (.iconst 1, 1) := dk_4 (dk_at dksX4_has_0 8 rfl rfl)
theorem dX4_has_9 : decode cX4_has 9 = .ok (.goto 4, 3) := dk_167 0 4 (dk_at dksX4_has_0 9 rfl rfl)
theorem dX4_has_12 : decode cX4_has 12 = .ok (.iconst 0, 1) := dk_3 (dk_at dksX4_has_0 12 rfl rfl)
theorem dX4_has_13 : decode cX4_has 13 = .ok (.ireturn, 1) := dk_172 (dk_at dksX4_has_0 13 rfl rfl)
abbrev cX4_at : ByteArray := prog_17_method_2_code
def yX4_at : MethodName := ⟨RX4, "at", "(Ljava/lang/String;)I"⟩
def dkwX4_at_1 : List UInt8 := [180, 0, 51, 43, 182, 0, 55, 153, 0, 5, 28, 172, 132, 2, 1, 167, 255, 219, 2, 172]
abbrev dktX4_at_1 : List UInt8 := dkwX4_at_1 ++ []
def dkwX4_at_0 : List UInt8 := [3, 61, 28, 42, 180, 0, 12, 182, 0, 41, 162, 0, 32, 42, 180, 0, 12, 28, 182, 0, 45, 192, 0, 49]
abbrev dktX4_at_0 : List UInt8 := dkwX4_at_0 ++ dktX4_at_1
theorem dksX4_at_0 : cX4_at.data.toList.drop 0 = dktX4_at_0 := by decide +kernel
theorem dksX4_at_1 : cX4_at.data.toList.drop 24 = dktX4_at_1 := dk_seg dksX4_at_0 24 rfl rfl
theorem dX4_at_0 : decode cX4_at 0 = .ok (.iconst 0, 1) := dk_3 (dk_at dksX4_at_0 0 rfl rfl)
theorem dX4_at_1 : decode cX4_at 1 = .ok (.istore_n 2, 1) := dk_61 (dk_at dksX4_at_0 1 rfl rfl)
theorem dX4_at_2 : decode cX4_at 2 = .ok (.iload_n 2, 1) := dk_28 (dk_at dksX4_at_0 2 rfl rfl)
theorem dX4_at_3 : decode cX4_at 3 = .ok (.aload_n 0, 1) := dk_42 (dk_at dksX4_at_0 3 rfl rfl)
theorem dX4_at_4 : decode cX4_at 4 = .ok (.getfield 12, 3) := dk_180 0 12 (dk_at dksX4_at_0 4 rfl rfl)
theorem dX4_at_7 : decode cX4_at 7 = .ok (.invokevirtual 41, 3) := dk_182 0 41 (dk_at dksX4_at_0 7 rfl rfl)
theorem dX4_at_10 : decode cX4_at 10 = .ok (.if_icmp .ge 32, 3) := dk_162 0 32 (dk_at dksX4_at_0 10 rfl rfl)
theorem dX4_at_13 : decode cX4_at 13 = .ok (.aload_n 0, 1) := dk_42 (dk_at dksX4_at_0 13 rfl rfl)
theorem dX4_at_14 : decode cX4_at 14 = .ok (.getfield 12, 3) := dk_180 0 12 (dk_at dksX4_at_0 14 rfl rfl)
theorem dX4_at_17 : decode cX4_at 17 = .ok (.iload_n 2, 1) := dk_28 (dk_at dksX4_at_0 17 rfl rfl)
theorem dX4_at_18 : decode cX4_at 18 = .ok (.invokevirtual 45, 3) := dk_182 0 45 (dk_at dksX4_at_0 18 rfl rfl)
theorem dX4_at_21 : decode cX4_at 21 = .ok (.checkcast 49, 3) := dk_192 0 49 (dk_at dksX4_at_0 21 rfl rfl)
theorem dX4_at_24 : decode cX4_at 24 = .ok (.getfield 51, 3) := dk_180 0 51 (dk_at dksX4_at_1 0 rfl rfl)
theorem dX4_at_27 : decode cX4_at 27 = .ok (.aload_n 1, 1) := dk_43 (dk_at dksX4_at_1 3 rfl rfl)
theorem dX4_at_28 : decode cX4_at 28 = .ok (.invokevirtual 55, 3) := dk_182 0 55 (dk_at dksX4_at_1 4 rfl rfl)
theorem dX4_at_31 : decode cX4_at 31 = .ok (.ifCond .eq 5, 3) := dk_153 0 5 (dk_at dksX4_at_1 7 rfl rfl)
theorem dX4_at_34 : decode cX4_at 34 = .ok (.iload_n 2, 1) := dk_28 (dk_at dksX4_at_1 10 rfl rfl)
theorem dX4_at_35 : decode cX4_at 35 = .ok (.ireturn, 1) := dk_172 (dk_at dksX4_at_1 11 rfl rfl)
theorem dX4_at_36 : decode cX4_at 36 = .ok (.iinc 2 1, 3) := dk_132 2 1 (dk_at dksX4_at_1 12 rfl rfl)
theorem dX4_at_39 : decode cX4_at 39 = .ok (.goto (-37), 3) := dk_167 255 219 (dk_at dksX4_at_1 15 rfl rfl)
theorem dX4_at_42 : decode cX4_at 42 = .ok (.iconst (-1), 1) := dk_2 (dk_at dksX4_at_1 18 rfl rfl)
theorem dX4_at_43 : decode cX4_at 43 = .ok (.ireturn, 1) := dk_172 (dk_at dksX4_at_1 19 rfl rfl)
abbrev cX4_notes : ByteArray := prog_17_method_5_code
def yX4_notes : MethodName := ⟨RX4, "notes", "(III)V"⟩
def dkwX4_notes_1 : List UInt8 := [42, 180, 0, 65, 29, 79, 42, 89, 180, 0, 65, 4, 96, 181, 0, 65, 177]
abbrev dktX4_notes_1 : List UInt8 := dkwX4_notes_1 ++ []
def dkwX4_notes_0 : List UInt8 := [42, 180, 0, 25, 42, 180, 0, 65, 27, 79, 42, 180, 0, 28, 42, 180, 0, 65, 28, 79, 42, 180, 0, 31]
abbrev dktX4_notes_0 : List UInt8 := dkwX4_notes_0 ++ dktX4_notes_1
theorem dksX4_notes_0 : cX4_notes.data.toList.drop 0 = dktX4_notes_0 := by decide +kernel
theorem dksX4_notes_1 : cX4_notes.data.toList.drop 24 = dktX4_notes_1 := dk_seg dksX4_notes_0 24 rfl rfl
theorem dX4_notes_0 : decode cX4_notes 0 = .ok (.aload_n 0, 1) := dk_42 (dk_at dksX4_notes_0 0 rfl rfl)
theorem dX4_notes_1 : decode cX4_notes 1 = .ok (.getfield 25, 3) := dk_180 0 25 (dk_at dksX4_notes_0 1 rfl rfl)
theorem dX4_notes_4 : decode cX4_notes 4 = .ok (.aload_n 0, 1) := dk_42 (dk_at dksX4_notes_0 4 rfl rfl)
theorem dX4_notes_5 : decode cX4_notes 5 = .ok (.getfield 65, 3) := dk_180 0 65 (dk_at dksX4_notes_0 5 rfl rfl)
theorem dX4_notes_8 : decode cX4_notes 8 = .ok (.iload_n 1, 1) := dk_27 (dk_at dksX4_notes_0 8 rfl rfl)
theorem dX4_notes_9 : decode cX4_notes 9 = .ok (.iastore, 1) := dk_79 (dk_at dksX4_notes_0 9 rfl rfl)
theorem dX4_notes_10 : decode cX4_notes 10 = .ok (.aload_n 0, 1) := dk_42 (dk_at dksX4_notes_0 10 rfl rfl)
theorem dX4_notes_11 : decode cX4_notes 11 = .ok (.getfield 28, 3) := dk_180 0 28 (dk_at dksX4_notes_0 11 rfl rfl)
theorem dX4_notes_14 : decode cX4_notes 14 = .ok (.aload_n 0, 1) := dk_42 (dk_at dksX4_notes_0 14 rfl rfl)
theorem dX4_notes_15 : decode cX4_notes 15 = .ok (.getfield 65, 3) := dk_180 0 65 (dk_at dksX4_notes_0 15 rfl rfl)
theorem dX4_notes_18 : decode cX4_notes 18 = .ok (.iload_n 2, 1) := dk_28 (dk_at dksX4_notes_0 18 rfl rfl)
theorem dX4_notes_19 : decode cX4_notes 19 = .ok (.iastore, 1) := dk_79 (dk_at dksX4_notes_0 19 rfl rfl)
theorem dX4_notes_20 : decode cX4_notes 20 = .ok (.aload_n 0, 1) := dk_42 (dk_at dksX4_notes_0 20 rfl rfl)
theorem dX4_notes_21 : decode cX4_notes 21 = .ok (.getfield 31, 3) := dk_180 0 31 (dk_at dksX4_notes_0 21 rfl rfl)
theorem dX4_notes_24 : decode cX4_notes 24 = .ok (.aload_n 0, 1) := dk_42 (dk_at dksX4_notes_1 0 rfl rfl)
theorem dX4_notes_25 : decode cX4_notes 25 = .ok (.getfield 65, 3) := dk_180 0 65 (dk_at dksX4_notes_1 1 rfl rfl)
theorem dX4_notes_28 : decode cX4_notes 28 = .ok (.iload_n 3, 1) := dk_29 (dk_at dksX4_notes_1 4 rfl rfl)
theorem dX4_notes_29 : decode cX4_notes 29 = .ok (.iastore, 1) := dk_79 (dk_at dksX4_notes_1 5 rfl rfl)
theorem dX4_notes_30 : decode cX4_notes 30 = .ok (.aload_n 0, 1) := dk_42 (dk_at dksX4_notes_1 6 rfl rfl)
theorem dX4_notes_31 : decode cX4_notes 31 = .ok (.dup, 1) := dk_89 (dk_at dksX4_notes_1 7 rfl rfl)
theorem dX4_notes_32 : decode cX4_notes 32 = .ok (.getfield 65, 3) := dk_180 0 65 (dk_at dksX4_notes_1 8 rfl rfl)
theorem dX4_notes_35 : decode cX4_notes 35 = .ok (.iconst 1, 1) := dk_4 (dk_at dksX4_notes_1 11 rfl rfl)
theorem dX4_notes_36 : decode cX4_notes 36 = .ok (.iadd, 1) := dk_96 (dk_at dksX4_notes_1 12 rfl rfl)
theorem dX4_notes_37 : decode cX4_notes 37 = .ok (.putfield 65, 3) := dk_181 0 65 (dk_at dksX4_notes_1 13 rfl rfl)
theorem dX4_notes_40 : decode cX4_notes 40 = .ok (.return_, 1) := dk_177 (dk_at dksX4_notes_1 16 rfl rfl)
abbrev cX4_isIn : ByteArray := prog_17_method_4_code
def yX4_isIn : MethodName := ⟨RX4, "isIn", "(II)Z"⟩
def dkwX4_isIn_1 : List UInt8 := [4, 167, 0, 4, 3, 172]
abbrev dktX4_isIn_1 : List UInt8 := dkwX4_isIn_1 ++ []
def dkwX4_isIn_0 : List UInt8 := [27, 155, 0, 27, 27, 42, 180, 0, 34, 162, 0, 19, 28, 155, 0, 15, 28, 42, 180, 0, 38, 162, 0, 7]
abbrev dktX4_isIn_0 : List UInt8 := dkwX4_isIn_0 ++ dktX4_isIn_1
theorem dksX4_isIn_0 : cX4_isIn.data.toList.drop 0 = dktX4_isIn_0 := by decide +kernel
theorem dksX4_isIn_1 : cX4_isIn.data.toList.drop 24 = dktX4_isIn_1 := dk_seg dksX4_isIn_0 24 rfl rfl
theorem dX4_isIn_0 : decode cX4_isIn 0 = .ok (.iload_n 1, 1) := dk_27 (dk_at dksX4_isIn_0 0 rfl rfl)
theorem dX4_isIn_1 : decode cX4_isIn 1 = .ok (.ifCond .lt 27, 3) := dk_155 0 27 (dk_at dksX4_isIn_0 1 rfl rfl)
theorem dX4_isIn_4 : decode cX4_isIn 4 = .ok (.iload_n 1, 1) := dk_27 (dk_at dksX4_isIn_0 4 rfl rfl)
theorem dX4_isIn_5 : decode cX4_isIn 5 = .ok (.aload_n 0, 1) := dk_42 (dk_at dksX4_isIn_0 5 rfl rfl)
theorem dX4_isIn_6 : decode cX4_isIn 6 = .ok (.getfield 34, 3) := dk_180 0 34 (dk_at dksX4_isIn_0 6 rfl rfl)
theorem dX4_isIn_9 : decode cX4_isIn 9 = .ok (.if_icmp .ge 19, 3) := dk_162 0 19 (dk_at dksX4_isIn_0 9 rfl rfl)
theorem dX4_isIn_12 : decode cX4_isIn 12 = .ok (.iload_n 2, 1) := dk_28 (dk_at dksX4_isIn_0 12 rfl rfl)
theorem dX4_isIn_13 : decode cX4_isIn 13 = .ok (.ifCond .lt 15, 3) := dk_155 0 15 (dk_at dksX4_isIn_0 13 rfl rfl)
theorem dX4_isIn_16 : decode cX4_isIn 16 = .ok (.iload_n 2, 1) := dk_28 (dk_at dksX4_isIn_0 16 rfl rfl)
theorem dX4_isIn_17 : decode cX4_isIn 17 = .ok (.aload_n 0, 1) := dk_42 (dk_at dksX4_isIn_0 17 rfl rfl)
theorem dX4_isIn_18 : decode cX4_isIn 18 = .ok (.getfield 38, 3) := dk_180 0 38 (dk_at dksX4_isIn_0 18 rfl rfl)
theorem dX4_isIn_21 : decode cX4_isIn 21 = .ok (.if_icmp .ge 7, 3) := dk_162 0 7 (dk_at dksX4_isIn_0 21 rfl rfl)
theorem dX4_isIn_24 : decode cX4_isIn 24 = .ok (.iconst 1, 1) := dk_4 (dk_at dksX4_isIn_1 0 rfl rfl)
theorem dX4_isIn_25 : decode cX4_isIn 25 = .ok (.goto 4, 3) := dk_167 0 4 (dk_at dksX4_isIn_1 1 rfl rfl)
theorem dX4_isIn_28 : decode cX4_isIn 28 = .ok (.iconst 0, 1) := dk_3 (dk_at dksX4_isIn_1 4 rfl rfl)
theorem dX4_isIn_29 : decode cX4_isIn 29 = .ok (.ireturn, 1) := dk_172 (dk_at dksX4_isIn_1 5 rfl rfl)
def mX4_init : am_M := (yX4_init, cX4_init, 1, none, [])
theorem okX4_init : am_Ok mX4_init 0 := ⟨rfl, q322, q121, ⟨by decide +kernel, by decide +kernel, by decide +kernel⟩, by decide, by decide +kernel⟩
def mX4_has : am_M := (yX4_has, cX4_has, 2, (some .boolean), [])
theorem okX4_has : am_Ok mX4_has 1 := ⟨rfl, q960, q121, ⟨by decide +kernel, by decide +kernel, by decide +kernel⟩, by decide, by decide +kernel⟩
def mX4_at : am_M := (yX4_at, cX4_at, 3, (some .int), [])
theorem okX4_at : am_Ok mX4_at 1 := ⟨rfl, q964, q121, ⟨by decide +kernel, by decide +kernel, by decide +kernel⟩, by decide, by decide +kernel⟩
def mX4_notes : am_M := (yX4_notes, cX4_notes, 4, none, [])
theorem okX4_notes : am_Ok mX4_notes 3 := ⟨rfl, q1020, q121, ⟨by decide +kernel, by decide +kernel, by decide +kernel⟩, by decide, by decide +kernel⟩
def mX4_isIn : am_M := (yX4_isIn, cX4_isIn, 3, (some .boolean), [])
theorem okX4_isIn : am_Ok mX4_isIn 2 := ⟨rfl, q1183, q121, ⟨by decide +kernel, by decide +kernel, by decide +kernel⟩, by decide, by decide +kernel⟩
/-! ThreadTown$Cloth -/
abbrev cX5_init : ByteArray := prog_8_method_1_code
def yX5_init : MethodName := ⟨RX5, "<init>", "()V"⟩
def dkwX5_init_3 : List UInt8 := [181, 0, 32, 42, 187, 0, 35, 89, 183, 0, 37, 181, 0, 38, 177]
abbrev dktX5_init_3 : List UInt8 := dkwX5_init_3 ++ []
def dkwX5_init_2 : List UInt8 := [181, 0, 26, 42, 16, 7, 16, 60, 197, 0, 24, 2, 181, 0, 29, 42, 16, 7, 16, 60, 197, 0, 24, 2]
abbrev dktX5_init_2 : List UInt8 := dkwX5_init_2 ++ dktX5_init_3
def dkwX5_init_1 : List UInt8 := [188, 10, 181, 0, 18, 42, 16, 7, 188, 10, 181, 0, 21, 42, 16, 7, 16, 60, 197, 0, 24, 2]
abbrev dktX5_init_1 : List UInt8 := dkwX5_init_1 ++ dktX5_init_2
def dkwX5_init_0 : List UInt8 := [42, 183, 0, 3, 42, 16, 7, 188, 10, 181, 0, 9, 42, 16, 7, 188, 10, 181, 0, 15, 42, 16, 7]
abbrev dktX5_init_0 : List UInt8 := dkwX5_init_0 ++ dktX5_init_1
theorem dksX5_init_0 : cX5_init.data.toList.drop 0 = dktX5_init_0 := by decide +kernel
theorem dksX5_init_1 : cX5_init.data.toList.drop 23 = dktX5_init_1 := dk_seg dksX5_init_0 23 rfl rfl
theorem dksX5_init_2 : cX5_init.data.toList.drop 45 = dktX5_init_2 := dk_seg dksX5_init_1 22 rfl rfl
theorem dksX5_init_3 : cX5_init.data.toList.drop 69 = dktX5_init_3 := dk_seg dksX5_init_2 24 rfl rfl
theorem dX5_init_0 : decode cX5_init 0 = .ok (.aload_n 0, 1) := dk_42 (dk_at dksX5_init_0 0 rfl rfl)
theorem dX5_init_1 : decode cX5_init 1 = .ok (.invokespecial 3, 3) := dk_183 0 3 (dk_at dksX5_init_0 1 rfl rfl)
theorem dX5_init_4 : decode cX5_init 4 = .ok (.aload_n 0, 1) := dk_42 (dk_at dksX5_init_0 4 rfl rfl)
theorem dX5_init_5 : decode cX5_init 5 = .ok (.bipush 7, 2) := dk_16 7 (dk_at dksX5_init_0 5 rfl rfl)
theorem dX5_init_7 : decode cX5_init 7 = .ok (.newarray .int, 2) := dk_188_10 (dk_at dksX5_init_0 7 rfl rfl)
theorem dX5_init_9 : decode cX5_init 9 = .ok (.putfield 9, 3) := dk_181 0 9 (dk_at dksX5_init_0 9 rfl rfl)
theorem dX5_init_12 : decode cX5_init 12 = .ok (.aload_n 0, 1) := dk_42 (dk_at dksX5_init_0 12 rfl rfl)
theorem dX5_init_13 : decode cX5_init 13 = .ok (.bipush 7, 2) := dk_16 7 (dk_at dksX5_init_0 13 rfl rfl)
theorem dX5_init_15 : decode cX5_init 15 = .ok (.newarray .int, 2) := dk_188_10 (dk_at dksX5_init_0 15 rfl rfl)
theorem dX5_init_17 : decode cX5_init 17 = .ok (.putfield 15, 3) := dk_181 0 15 (dk_at dksX5_init_0 17 rfl rfl)
theorem dX5_init_20 : decode cX5_init 20 = .ok (.aload_n 0, 1) := dk_42 (dk_at dksX5_init_0 20 rfl rfl)
theorem dX5_init_21 : decode cX5_init 21 = .ok (.bipush 7, 2) := dk_16 7 (dk_at dksX5_init_0 21 rfl rfl)
theorem dX5_init_23 : decode cX5_init 23 = .ok (.newarray .int, 2) := dk_188_10 (dk_at dksX5_init_1 0 rfl rfl)
theorem dX5_init_25 : decode cX5_init 25 = .ok (.putfield 18, 3) := dk_181 0 18 (dk_at dksX5_init_1 2 rfl rfl)
theorem dX5_init_28 : decode cX5_init 28 = .ok (.aload_n 0, 1) := dk_42 (dk_at dksX5_init_1 5 rfl rfl)
theorem dX5_init_29 : decode cX5_init 29 = .ok (.bipush 7, 2) := dk_16 7 (dk_at dksX5_init_1 6 rfl rfl)
theorem dX5_init_31 : decode cX5_init 31 = .ok (.newarray .int, 2) := dk_188_10 (dk_at dksX5_init_1 8 rfl rfl)
theorem dX5_init_33 : decode cX5_init 33 = .ok (.putfield 21, 3) := dk_181 0 21 (dk_at dksX5_init_1 10 rfl rfl)
theorem dX5_init_36 : decode cX5_init 36 = .ok (.aload_n 0, 1) := dk_42 (dk_at dksX5_init_1 13 rfl rfl)
theorem dX5_init_37 : decode cX5_init 37 = .ok (.bipush 7, 2) := dk_16 7 (dk_at dksX5_init_1 14 rfl rfl)
theorem dX5_init_39 : decode cX5_init 39 = .ok (.bipush 60, 2) := dk_16 60 (dk_at dksX5_init_1 16 rfl rfl)
theorem dX5_init_41 : decode cX5_init 41 = .ok (.multianewarray 24 2, 4) := by decide +kernel
theorem dX5_init_45 : decode cX5_init 45 = .ok (.putfield 26, 3) := dk_181 0 26 (dk_at dksX5_init_2 0 rfl rfl)
theorem dX5_init_48 : decode cX5_init 48 = .ok (.aload_n 0, 1) := dk_42 (dk_at dksX5_init_2 3 rfl rfl)
theorem dX5_init_49 : decode cX5_init 49 = .ok (.bipush 7, 2) := dk_16 7 (dk_at dksX5_init_2 4 rfl rfl)
theorem dX5_init_51 : decode cX5_init 51 = .ok (.bipush 60, 2) := dk_16 60 (dk_at dksX5_init_2 6 rfl rfl)
theorem dX5_init_53 : decode cX5_init 53 = .ok (.multianewarray 24 2, 4) := by decide +kernel
theorem dX5_init_57 : decode cX5_init 57 = .ok (.putfield 29, 3) := dk_181 0 29 (dk_at dksX5_init_2 12 rfl rfl)
theorem dX5_init_60 : decode cX5_init 60 = .ok (.aload_n 0, 1) := dk_42 (dk_at dksX5_init_2 15 rfl rfl)
theorem dX5_init_61 : decode cX5_init 61 = .ok (.bipush 7, 2) := dk_16 7 (dk_at dksX5_init_2 16 rfl rfl)
theorem dX5_init_63 : decode cX5_init 63 = .ok (.bipush 60, 2) := dk_16 60 (dk_at dksX5_init_2 18 rfl rfl)
theorem dX5_init_65 : decode cX5_init 65 = .ok (.multianewarray 24 2, 4) := by decide +kernel
theorem dX5_init_69 : decode cX5_init 69 = .ok (.putfield 32, 3) := dk_181 0 32 (dk_at dksX5_init_3 0 rfl rfl)
theorem dX5_init_72 : decode cX5_init 72 = .ok (.aload_n 0, 1) := dk_42 (dk_at dksX5_init_3 3 rfl rfl)
theorem dX5_init_73 : decode cX5_init 73 = .ok (.new 35, 3) := dk_187 0 35 (dk_at dksX5_init_3 4 rfl rfl)
theorem dX5_init_76 : decode cX5_init 76 = .ok (.dup, 1) := dk_89 (dk_at dksX5_init_3 7 rfl rfl)
theorem dX5_init_77 : decode cX5_init 77 = .ok (.invokespecial 37, 3) := dk_183 0 37 (dk_at dksX5_init_3 8 rfl rfl)
theorem dX5_init_80 : decode cX5_init 80 = .ok (.putfield 38, 3) := dk_181 0 38 (dk_at dksX5_init_3 11 rfl rfl)
theorem dX5_init_83 : decode cX5_init 83 = .ok (.return_, 1) := dk_177 (dk_at dksX5_init_3 14 rfl rfl)
abbrev cX5_begins : ByteArray := prog_8_method_2_code
def yX5_begins : MethodName := ⟨RX5, "begins", "(LThreadTown$Text;)V"⟩
def dkwX5_begins_5 : List UInt8 := [184, 0, 81, 79, 132, 2, 1, 167, 255, 151, 177]
abbrev dktX5_begins_5 : List UInt8 := dkwX5_begins_5 ++ []
def dkwX5_begins_4 : List UInt8 := [199, 0, 8, 16, 30, 167, 0, 20, 16, 60, 42, 43, 180, 0, 74, 28, 3, 3, 3, 182, 0, 77]
abbrev dktX5_begins_4 : List UInt8 := dkwX5_begins_4 ++ dktX5_begins_5
def dkwX5_begins_3 : List UInt8 := [180, 0, 52, 28, 182, 0, 64, 192, 0, 68, 180, 0, 72, 79, 42, 180, 0, 21, 28, 43, 180, 0, 74]
abbrev dktX5_begins_3 : List UInt8 := dkwX5_begins_3 ++ dktX5_begins_4
def dkwX5_begins_2 : List UInt8 := [28, 43, 180, 0, 52, 28, 182, 0, 64, 192, 0, 68, 180, 0, 70, 79, 42, 180, 0, 15, 28, 43]
abbrev dktX5_begins_2 : List UInt8 := dkwX5_begins_2 ++ dktX5_begins_3
def dkwX5_begins_1 : List UInt8 := [180, 0, 18, 28, 3, 79, 28, 43, 180, 0, 52, 182, 0, 58, 161, 0, 6, 167, 0, 78, 42, 180, 0, 9]
abbrev dktX5_begins_1 : List UInt8 := dkwX5_begins_1 ++ dktX5_begins_2
def dkwX5_begins_0 : List UInt8 := [42, 3, 181, 0, 42, 42, 3, 181, 0, 46, 42, 3, 181, 0, 49, 3, 61, 28, 16, 7, 162, 0, 105, 42]
abbrev dktX5_begins_0 : List UInt8 := dkwX5_begins_0 ++ dktX5_begins_1
theorem dksX5_begins_0 : cX5_begins.data.toList.drop 0 = dktX5_begins_0 := by decide +kernel
theorem dksX5_begins_1 : cX5_begins.data.toList.drop 24 = dktX5_begins_1 := dk_seg dksX5_begins_0 24 rfl rfl
theorem dksX5_begins_2 : cX5_begins.data.toList.drop 48 = dktX5_begins_2 := dk_seg dksX5_begins_1 24 rfl rfl
theorem dksX5_begins_3 : cX5_begins.data.toList.drop 70 = dktX5_begins_3 := dk_seg dksX5_begins_2 22 rfl rfl
theorem dksX5_begins_4 : cX5_begins.data.toList.drop 93 = dktX5_begins_4 := dk_seg dksX5_begins_3 23 rfl rfl
theorem dksX5_begins_5 : cX5_begins.data.toList.drop 115 = dktX5_begins_5 := dk_seg dksX5_begins_4 22 rfl rfl
theorem dX5_begins_0 : decode cX5_begins 0 = .ok (.aload_n 0, 1) := dk_42 (dk_at dksX5_begins_0 0 rfl rfl)
theorem dX5_begins_1 : decode cX5_begins 1 = .ok (.iconst 0, 1) := dk_3 (dk_at dksX5_begins_0 1 rfl rfl)
theorem dX5_begins_2 : decode cX5_begins 2 = .ok (.putfield 42, 3) := dk_181 0 42 (dk_at dksX5_begins_0 2 rfl rfl)
theorem dX5_begins_5 : decode cX5_begins 5 = .ok (.aload_n 0, 1) := dk_42 (dk_at dksX5_begins_0 5 rfl rfl)
theorem dX5_begins_6 : decode cX5_begins 6 = .ok (.iconst 0, 1) := dk_3 (dk_at dksX5_begins_0 6 rfl rfl)
theorem dX5_begins_7 : decode cX5_begins 7 = .ok (.putfield 46, 3) := dk_181 0 46 (dk_at dksX5_begins_0 7 rfl rfl)
theorem dX5_begins_10 : decode cX5_begins 10 = .ok (.aload_n 0, 1) := dk_42 (dk_at dksX5_begins_0 10 rfl rfl)
theorem dX5_begins_11 : decode cX5_begins 11 = .ok (.iconst 0, 1) := dk_3 (dk_at dksX5_begins_0 11 rfl rfl)
theorem dX5_begins_12 : decode cX5_begins 12 = .ok (.putfield 49, 3) := dk_181 0 49 (dk_at dksX5_begins_0 12 rfl rfl)
theorem dX5_begins_15 : decode cX5_begins 15 = .ok (.iconst 0, 1) := dk_3 (dk_at dksX5_begins_0 15 rfl rfl)
theorem dX5_begins_16 : decode cX5_begins 16 = .ok (.istore_n 2, 1) := dk_61 (dk_at dksX5_begins_0 16 rfl rfl)
theorem dX5_begins_17 : decode cX5_begins 17 = .ok (.iload_n 2, 1) := dk_28 (dk_at dksX5_begins_0 17 rfl rfl)
theorem dX5_begins_18 : decode cX5_begins 18 = .ok (.bipush 7, 2) := dk_16 7 (dk_at dksX5_begins_0 18 rfl rfl)
theorem dX5_begins_20 : decode cX5_begins 20 = .ok (.if_icmp .ge 105, 3) := dk_162 0 105 (dk_at dksX5_begins_0 20 rfl rfl)
theorem dX5_begins_23 : decode cX5_begins 23 = .ok (.aload_n 0, 1) := dk_42 (dk_at dksX5_begins_0 23 rfl rfl)
theorem dX5_begins_24 : decode cX5_begins 24 = .ok (.getfield 18, 3) := dk_180 0 18 (dk_at dksX5_begins_1 0 rfl rfl)
theorem dX5_begins_27 : decode cX5_begins 27 = .ok (.iload_n 2, 1) := dk_28 (dk_at dksX5_begins_1 3 rfl rfl)
theorem dX5_begins_28 : decode cX5_begins 28 = .ok (.iconst 0, 1) := dk_3 (dk_at dksX5_begins_1 4 rfl rfl)
theorem dX5_begins_29 : decode cX5_begins 29 = .ok (.iastore, 1) := dk_79 (dk_at dksX5_begins_1 5 rfl rfl)
theorem dX5_begins_30 : decode cX5_begins 30 = .ok (.iload_n 2, 1) := dk_28 (dk_at dksX5_begins_1 6 rfl rfl)
theorem dX5_begins_31 : decode cX5_begins 31 = .ok (.aload_n 1, 1) := dk_43 (dk_at dksX5_begins_1 7 rfl rfl)
theorem dX5_begins_32 : decode cX5_begins 32 = .ok (.getfield 52, 3) := dk_180 0 52 (dk_at dksX5_begins_1 8 rfl rfl)
theorem dX5_begins_35 : decode cX5_begins 35 = .ok (.invokevirtual 58, 3) := dk_182 0 58 (dk_at dksX5_begins_1 11 rfl rfl)
theorem dX5_begins_38 : decode cX5_begins 38 = .ok (.if_icmp .lt 6, 3) := dk_161 0 6 (dk_at dksX5_begins_1 14 rfl rfl)
theorem dX5_begins_41 : decode cX5_begins 41 = .ok (.goto 78, 3) := dk_167 0 78 (dk_at dksX5_begins_1 17 rfl rfl)
theorem dX5_begins_44 : decode cX5_begins 44 = .ok (.aload_n 0, 1) := dk_42 (dk_at dksX5_begins_1 20 rfl rfl)
theorem dX5_begins_45 : decode cX5_begins 45 = .ok (.getfield 9, 3) := dk_180 0 9 (dk_at dksX5_begins_1 21 rfl rfl)
theorem dX5_begins_48 : decode cX5_begins 48 = .ok (.iload_n 2, 1) := dk_28 (dk_at dksX5_begins_2 0 rfl rfl)
theorem dX5_begins_49 : decode cX5_begins 49 = .ok (.aload_n 1, 1) := dk_43 (dk_at dksX5_begins_2 1 rfl rfl)
theorem dX5_begins_50 : decode cX5_begins 50 = .ok (.getfield 52, 3) := dk_180 0 52 (dk_at dksX5_begins_2 2 rfl rfl)
theorem dX5_begins_53 : decode cX5_begins 53 = .ok (.iload_n 2, 1) := dk_28 (dk_at dksX5_begins_2 5 rfl rfl)
theorem dX5_begins_54 : decode cX5_begins 54 = .ok (.invokevirtual 64, 3) := dk_182 0 64 (dk_at dksX5_begins_2 6 rfl rfl)
theorem dX5_begins_57 : decode cX5_begins 57 = .ok (.checkcast 68, 3) := dk_192 0 68 (dk_at dksX5_begins_2 9 rfl rfl)
theorem dX5_begins_60 : decode cX5_begins 60 = .ok (.getfield 70, 3) := dk_180 0 70 (dk_at dksX5_begins_2 12 rfl rfl)
theorem dX5_begins_63 : decode cX5_begins 63 = .ok (.iastore, 1) := dk_79 (dk_at dksX5_begins_2 15 rfl rfl)
theorem dX5_begins_64 : decode cX5_begins 64 = .ok (.aload_n 0, 1) := dk_42 (dk_at dksX5_begins_2 16 rfl rfl)
theorem dX5_begins_65 : decode cX5_begins 65 = .ok (.getfield 15, 3) := dk_180 0 15 (dk_at dksX5_begins_2 17 rfl rfl)
theorem dX5_begins_68 : decode cX5_begins 68 = .ok (.iload_n 2, 1) := dk_28 (dk_at dksX5_begins_2 20 rfl rfl)
theorem dX5_begins_69 : decode cX5_begins 69 = .ok (.aload_n 1, 1) := dk_43 (dk_at dksX5_begins_2 21 rfl rfl)
theorem dX5_begins_70 : decode cX5_begins 70 = .ok (.getfield 52, 3) := dk_180 0 52 (dk_at dksX5_begins_3 0 rfl rfl)
theorem dX5_begins_73 : decode cX5_begins 73 = .ok (.iload_n 2, 1) := dk_28 (dk_at dksX5_begins_3 3 rfl rfl)
theorem dX5_begins_74 : decode cX5_begins 74 = .ok (.invokevirtual 64, 3) := dk_182 0 64 (dk_at dksX5_begins_3 4 rfl rfl)
theorem dX5_begins_77 : decode cX5_begins 77 = .ok (.checkcast 68, 3) := dk_192 0 68 (dk_at dksX5_begins_3 7 rfl rfl)
theorem dX5_begins_80 : decode cX5_begins 80 = .ok (.getfield 72, 3) := dk_180 0 72 (dk_at dksX5_begins_3 10 rfl rfl)
theorem dX5_begins_83 : decode cX5_begins 83 = .ok (.iastore, 1) := dk_79 (dk_at dksX5_begins_3 13 rfl rfl)
theorem dX5_begins_84 : decode cX5_begins 84 = .ok (.aload_n 0, 1) := dk_42 (dk_at dksX5_begins_3 14 rfl rfl)
theorem dX5_begins_85 : decode cX5_begins 85 = .ok (.getfield 21, 3) := dk_180 0 21 (dk_at dksX5_begins_3 15 rfl rfl)
theorem dX5_begins_88 : decode cX5_begins 88 = .ok (.iload_n 2, 1) := dk_28 (dk_at dksX5_begins_3 18 rfl rfl)
theorem dX5_begins_89 : decode cX5_begins 89 = .ok (.aload_n 1, 1) := dk_43 (dk_at dksX5_begins_3 19 rfl rfl)
theorem dX5_begins_90 : decode cX5_begins 90 = .ok (.getfield 74, 3) := dk_180 0 74 (dk_at dksX5_begins_3 20 rfl rfl)
theorem dX5_begins_93 : decode cX5_begins 93 = .ok (.ifnonnull 8, 3) := dk_199 0 8 (dk_at dksX5_begins_4 0 rfl rfl)
theorem dX5_begins_96 : decode cX5_begins 96 = .ok (.bipush 30, 2) := dk_16 30 (dk_at dksX5_begins_4 3 rfl rfl)
theorem dX5_begins_98 : decode cX5_begins 98 = .ok (.goto 20, 3) := dk_167 0 20 (dk_at dksX5_begins_4 5 rfl rfl)
theorem dX5_begins_101 : decode cX5_begins 101 = .ok (.bipush 60, 2) := dk_16 60 (dk_at dksX5_begins_4 8 rfl rfl)
theorem dX5_begins_103 : decode cX5_begins 103 = .ok (.aload_n 0, 1) := dk_42 (dk_at dksX5_begins_4 10 rfl rfl)
theorem dX5_begins_104 : decode cX5_begins 104 = .ok (.aload_n 1, 1) := dk_43 (dk_at dksX5_begins_4 11 rfl rfl)
theorem dX5_begins_105 : decode cX5_begins 105 = .ok (.getfield 74, 3) := dk_180 0 74 (dk_at dksX5_begins_4 12 rfl rfl)
theorem dX5_begins_108 : decode cX5_begins 108 = .ok (.iload_n 2, 1) := dk_28 (dk_at dksX5_begins_4 15 rfl rfl)
theorem dX5_begins_109 : decode cX5_begins 109 = .ok (.iconst 0, 1) := dk_3 (dk_at dksX5_begins_4 16 rfl rfl)
theorem dX5_begins_110 : decode cX5_begins 110 = .ok (.iconst 0, 1) := dk_3 (dk_at dksX5_begins_4 17 rfl rfl)
theorem dX5_begins_111 : decode cX5_begins 111 = .ok (.iconst 0, 1) := dk_3 (dk_at dksX5_begins_4 18 rfl rfl)
theorem dX5_begins_112 : decode cX5_begins 112 = .ok (.invokevirtual 77, 3) := dk_182 0 77 (dk_at dksX5_begins_4 19 rfl rfl)
theorem dX5_begins_115 : decode cX5_begins 115 = .ok (.invokestatic 81, 3) := dk_184 0 81 (dk_at dksX5_begins_5 0 rfl rfl)
theorem dX5_begins_118 : decode cX5_begins 118 = .ok (.iastore, 1) := dk_79 (dk_at dksX5_begins_5 3 rfl rfl)
theorem dX5_begins_119 : decode cX5_begins 119 = .ok (.iinc 2 1, 3) := dk_132 2 1 (dk_at dksX5_begins_5 4 rfl rfl)
theorem dX5_begins_122 : decode cX5_begins 122 = .ok (.goto (-105), 3) := dk_167 255 151 (dk_at dksX5_begins_5 7 rfl rfl)
theorem dX5_begins_125 : decode cX5_begins 125 = .ok (.return_, 1) := dk_177 (dk_at dksX5_begins_5 10 rfl rfl)
abbrev cX5_asks : ByteArray := prog_8_method_4_code
def yX5_asks : MethodName := ⟨RX5, "asks", "(LThreadTown$Law;IIII)I"⟩
def dkwX5_asks_3 : List UInt8 := [43, 42, 180, 0, 38, 182, 0, 96, 172]
abbrev dktX5_asks_3 : List UInt8 := dkwX5_asks_3 ++ []
def dkwX5_asks_2 : List UInt8 := [21, 4, 79, 42, 180, 0, 38, 180, 0, 93, 7, 21, 5, 79, 42, 180, 0, 38, 180, 0, 93, 8, 28, 79]
abbrev dktX5_asks_2 : List UInt8 := dkwX5_asks_2 ++ dktX5_asks_3
def dkwX5_asks_1 : List UInt8 := [180, 0, 15, 28, 46, 79, 42, 180, 0, 38, 180, 0, 93, 5, 29, 79, 42, 180, 0, 38, 180, 0, 93, 6]
abbrev dktX5_asks_1 : List UInt8 := dkwX5_asks_1 ++ dktX5_asks_2
def dkwX5_asks_0 : List UInt8 := [42, 180, 0, 38, 180, 0, 93, 3, 42, 180, 0, 9, 28, 46, 79, 42, 180, 0, 38, 180, 0, 93, 4, 42]
abbrev dktX5_asks_0 : List UInt8 := dkwX5_asks_0 ++ dktX5_asks_1
theorem dksX5_asks_0 : cX5_asks.data.toList.drop 0 = dktX5_asks_0 := by decide +kernel
theorem dksX5_asks_1 : cX5_asks.data.toList.drop 24 = dktX5_asks_1 := dk_seg dksX5_asks_0 24 rfl rfl
theorem dksX5_asks_2 : cX5_asks.data.toList.drop 48 = dktX5_asks_2 := dk_seg dksX5_asks_1 24 rfl rfl
theorem dksX5_asks_3 : cX5_asks.data.toList.drop 72 = dktX5_asks_3 := dk_seg dksX5_asks_2 24 rfl rfl
theorem dX5_asks_0 : decode cX5_asks 0 = .ok (.aload_n 0, 1) := dk_42 (dk_at dksX5_asks_0 0 rfl rfl)
theorem dX5_asks_1 : decode cX5_asks 1 = .ok (.getfield 38, 3) := dk_180 0 38 (dk_at dksX5_asks_0 1 rfl rfl)
theorem dX5_asks_4 : decode cX5_asks 4 = .ok (.getfield 93, 3) := dk_180 0 93 (dk_at dksX5_asks_0 4 rfl rfl)
theorem dX5_asks_7 : decode cX5_asks 7 = .ok (.iconst 0, 1) := dk_3 (dk_at dksX5_asks_0 7 rfl rfl)
theorem dX5_asks_8 : decode cX5_asks 8 = .ok (.aload_n 0, 1) := dk_42 (dk_at dksX5_asks_0 8 rfl rfl)
theorem dX5_asks_9 : decode cX5_asks 9 = .ok (.getfield 9, 3) := dk_180 0 9 (dk_at dksX5_asks_0 9 rfl rfl)
theorem dX5_asks_12 : decode cX5_asks 12 = .ok (.iload_n 2, 1) := dk_28 (dk_at dksX5_asks_0 12 rfl rfl)
theorem dX5_asks_13 : decode cX5_asks 13 = .ok (.iaload, 1) := dk_46 (dk_at dksX5_asks_0 13 rfl rfl)
theorem dX5_asks_14 : decode cX5_asks 14 = .ok (.iastore, 1) := dk_79 (dk_at dksX5_asks_0 14 rfl rfl)
theorem dX5_asks_15 : decode cX5_asks 15 = .ok (.aload_n 0, 1) := dk_42 (dk_at dksX5_asks_0 15 rfl rfl)
theorem dX5_asks_16 : decode cX5_asks 16 = .ok (.getfield 38, 3) := dk_180 0 38 (dk_at dksX5_asks_0 16 rfl rfl)
theorem dX5_asks_19 : decode cX5_asks 19 = .ok (.getfield 93, 3) := dk_180 0 93 (dk_at dksX5_asks_0 19 rfl rfl)
theorem dX5_asks_22 : decode cX5_asks 22 = .ok (.iconst 1, 1) := dk_4 (dk_at dksX5_asks_0 22 rfl rfl)
theorem dX5_asks_23 : decode cX5_asks 23 = .ok (.aload_n 0, 1) := dk_42 (dk_at dksX5_asks_0 23 rfl rfl)
theorem dX5_asks_24 : decode cX5_asks 24 = .ok (.getfield 15, 3) := dk_180 0 15 (dk_at dksX5_asks_1 0 rfl rfl)
theorem dX5_asks_27 : decode cX5_asks 27 = .ok (.iload_n 2, 1) := dk_28 (dk_at dksX5_asks_1 3 rfl rfl)
theorem dX5_asks_28 : decode cX5_asks 28 = .ok (.iaload, 1) := dk_46 (dk_at dksX5_asks_1 4 rfl rfl)
theorem dX5_asks_29 : decode cX5_asks 29 = .ok (.iastore, 1) := dk_79 (dk_at dksX5_asks_1 5 rfl rfl)
theorem dX5_asks_30 : decode cX5_asks 30 = .ok (.aload_n 0, 1) := dk_42 (dk_at dksX5_asks_1 6 rfl rfl)
theorem dX5_asks_31 : decode cX5_asks 31 = .ok (.getfield 38, 3) := dk_180 0 38 (dk_at dksX5_asks_1 7 rfl rfl)
theorem dX5_asks_34 : decode cX5_asks 34 = .ok (.getfield 93, 3) := dk_180 0 93 (dk_at dksX5_asks_1 10 rfl rfl)
theorem dX5_asks_37 : decode cX5_asks 37 = .ok (.iconst 2, 1) := dk_5 (dk_at dksX5_asks_1 13 rfl rfl)
theorem dX5_asks_38 : decode cX5_asks 38 = .ok (.iload_n 3, 1) := dk_29 (dk_at dksX5_asks_1 14 rfl rfl)
theorem dX5_asks_39 : decode cX5_asks 39 = .ok (.iastore, 1) := dk_79 (dk_at dksX5_asks_1 15 rfl rfl)
theorem dX5_asks_40 : decode cX5_asks 40 = .ok (.aload_n 0, 1) := dk_42 (dk_at dksX5_asks_1 16 rfl rfl)
theorem dX5_asks_41 : decode cX5_asks 41 = .ok (.getfield 38, 3) := dk_180 0 38 (dk_at dksX5_asks_1 17 rfl rfl)
theorem dX5_asks_44 : decode cX5_asks 44 = .ok (.getfield 93, 3) := dk_180 0 93 (dk_at dksX5_asks_1 20 rfl rfl)
theorem dX5_asks_47 : decode cX5_asks 47 = .ok (.iconst 3, 1) := dk_6 (dk_at dksX5_asks_1 23 rfl rfl)
theorem dX5_asks_48 : decode cX5_asks 48 = .ok (.iload 4, 2) := dk_21 4 (dk_at dksX5_asks_2 0 rfl rfl)
theorem dX5_asks_50 : decode cX5_asks 50 = .ok (.iastore, 1) := dk_79 (dk_at dksX5_asks_2 2 rfl rfl)
theorem dX5_asks_51 : decode cX5_asks 51 = .ok (.aload_n 0, 1) := dk_42 (dk_at dksX5_asks_2 3 rfl rfl)
theorem dX5_asks_52 : decode cX5_asks 52 = .ok (.getfield 38, 3) := dk_180 0 38 (dk_at dksX5_asks_2 4 rfl rfl)
theorem dX5_asks_55 : decode cX5_asks 55 = .ok (.getfield 93, 3) := dk_180 0 93 (dk_at dksX5_asks_2 7 rfl rfl)
theorem dX5_asks_58 : decode cX5_asks 58 = .ok (.iconst 4, 1) := dk_7 (dk_at dksX5_asks_2 10 rfl rfl)
theorem dX5_asks_59 : decode cX5_asks 59 = .ok (.iload 5, 2) := dk_21 5 (dk_at dksX5_asks_2 11 rfl rfl)
theorem dX5_asks_61 : decode cX5_asks 61 = .ok (.iastore, 1) := dk_79 (dk_at dksX5_asks_2 13 rfl rfl)
theorem dX5_asks_62 : decode cX5_asks 62 = .ok (.aload_n 0, 1) := dk_42 (dk_at dksX5_asks_2 14 rfl rfl)
theorem dX5_asks_63 : decode cX5_asks 63 = .ok (.getfield 38, 3) := dk_180 0 38 (dk_at dksX5_asks_2 15 rfl rfl)
theorem dX5_asks_66 : decode cX5_asks 66 = .ok (.getfield 93, 3) := dk_180 0 93 (dk_at dksX5_asks_2 18 rfl rfl)
theorem dX5_asks_69 : decode cX5_asks 69 = .ok (.iconst 5, 1) := dk_8 (dk_at dksX5_asks_2 21 rfl rfl)
theorem dX5_asks_70 : decode cX5_asks 70 = .ok (.iload_n 2, 1) := dk_28 (dk_at dksX5_asks_2 22 rfl rfl)
theorem dX5_asks_71 : decode cX5_asks 71 = .ok (.iastore, 1) := dk_79 (dk_at dksX5_asks_2 23 rfl rfl)
theorem dX5_asks_72 : decode cX5_asks 72 = .ok (.aload_n 1, 1) := dk_43 (dk_at dksX5_asks_3 0 rfl rfl)
theorem dX5_asks_73 : decode cX5_asks 73 = .ok (.aload_n 0, 1) := dk_42 (dk_at dksX5_asks_3 1 rfl rfl)
theorem dX5_asks_74 : decode cX5_asks 74 = .ok (.getfield 38, 3) := dk_180 0 38 (dk_at dksX5_asks_3 2 rfl rfl)
theorem dX5_asks_77 : decode cX5_asks 77 = .ok (.invokevirtual 96, 3) := dk_182 0 96 (dk_at dksX5_asks_3 5 rfl rfl)
theorem dX5_asks_80 : decode cX5_asks 80 = .ok (.ireturn, 1) := dk_172 (dk_at dksX5_asks_3 8 rfl rfl)
abbrev cX5_isLost : ByteArray := prog_8_method_5_code
def yX5_isLost : MethodName := ⟨RX5, "isLost", "(I)Z"⟩
def dkwX5_isLost_0 : List UInt8 := [42, 180, 0, 42, 27, 122, 4, 126, 4, 160, 0, 7, 4, 167, 0, 4, 3, 172]
abbrev dktX5_isLost_0 : List UInt8 := dkwX5_isLost_0 ++ []
theorem dksX5_isLost_0 : cX5_isLost.data.toList.drop 0 = dktX5_isLost_0 := by decide +kernel
theorem dX5_isLost_0 : decode cX5_isLost 0 = .ok (.aload_n 0, 1) := dk_42 (dk_at dksX5_isLost_0 0 rfl rfl)
theorem dX5_isLost_1 : decode cX5_isLost 1 = .ok (.getfield 42, 3) := dk_180 0 42 (dk_at dksX5_isLost_0 1 rfl rfl)
theorem dX5_isLost_4 : decode cX5_isLost 4 = .ok (.iload_n 1, 1) := dk_27 (dk_at dksX5_isLost_0 4 rfl rfl)
theorem dX5_isLost_5 : decode cX5_isLost 5 = .ok (.ishr, 1) := dk_122 (dk_at dksX5_isLost_0 5 rfl rfl)
theorem dX5_isLost_6 : decode cX5_isLost 6 = .ok (.iconst 1, 1) := dk_4 (dk_at dksX5_isLost_0 6 rfl rfl)
theorem dX5_isLost_7 : decode cX5_isLost 7 = .ok (.iand, 1) := dk_126 (dk_at dksX5_isLost_0 7 rfl rfl)
theorem dX5_isLost_8 : decode cX5_isLost 8 = .ok (.iconst 1, 1) := dk_4 (dk_at dksX5_isLost_0 8 rfl rfl)
theorem dX5_isLost_9 : decode cX5_isLost 9 = .ok (.if_icmp .ne 7, 3) := dk_160 0 7 (dk_at dksX5_isLost_0 9 rfl rfl)
theorem dX5_isLost_12 : decode cX5_isLost 12 = .ok (.iconst 1, 1) := dk_4 (dk_at dksX5_isLost_0 12 rfl rfl)
theorem dX5_isLost_13 : decode cX5_isLost 13 = .ok (.goto 4, 3) := dk_167 0 4 (dk_at dksX5_isLost_0 13 rfl rfl)
theorem dX5_isLost_16 : decode cX5_isLost 16 = .ok (.iconst 0, 1) := dk_3 (dk_at dksX5_isLost_0 16 rfl rfl)
theorem dX5_isLost_17 : decode cX5_isLost 17 = .ok (.ireturn, 1) := dk_172 (dk_at dksX5_isLost_0 17 rfl rfl)
abbrev cX5_does : ByteArray := prog_8_method_11_code
def yX5_does : MethodName := ⟨RX5, "does", "(LThreadTown$Text;II)I"⟩
def dkwX5_does_3 : List UInt8 := [184, 0, 131, 182, 0, 77, 16, 6, 112, 172]
abbrev dktX5_does_3 : List UInt8 := dkwX5_does_3 ++ []
def dkwX5_does_2 : List UInt8 := [42, 180, 0, 18, 28, 46, 100, 43, 180, 0, 128, 16, 8, 42, 180, 0, 46, 29, 100, 104, 28, 96, 16, 100]
abbrev dktX5_does_2 : List UInt8 := dkwX5_does_2 ++ dktX5_does_3
def dkwX5_does_1 : List UInt8 := [182, 0, 102, 153, 0, 5, 3, 172, 42, 25, 4, 28, 42, 180, 0, 46, 29, 100, 42, 180, 0, 21, 28, 46]
abbrev dktX5_does_1 : List UInt8 := dkwX5_does_1 ++ dktX5_does_2
def dkwX5_does_0 : List UInt8 := [43, 180, 0, 52, 28, 182, 0, 64, 192, 0, 68, 180, 0, 125, 58, 4, 25, 4, 198, 0, 11, 42, 28]
abbrev dktX5_does_0 : List UInt8 := dkwX5_does_0 ++ dktX5_does_1
theorem dksX5_does_0 : cX5_does.data.toList.drop 0 = dktX5_does_0 := by decide +kernel
theorem dksX5_does_1 : cX5_does.data.toList.drop 23 = dktX5_does_1 := dk_seg dksX5_does_0 23 rfl rfl
theorem dksX5_does_2 : cX5_does.data.toList.drop 47 = dktX5_does_2 := dk_seg dksX5_does_1 24 rfl rfl
theorem dksX5_does_3 : cX5_does.data.toList.drop 71 = dktX5_does_3 := dk_seg dksX5_does_2 24 rfl rfl
theorem dX5_does_0 : decode cX5_does 0 = .ok (.aload_n 1, 1) := dk_43 (dk_at dksX5_does_0 0 rfl rfl)
theorem dX5_does_1 : decode cX5_does 1 = .ok (.getfield 52, 3) := dk_180 0 52 (dk_at dksX5_does_0 1 rfl rfl)
theorem dX5_does_4 : decode cX5_does 4 = .ok (.iload_n 2, 1) := dk_28 (dk_at dksX5_does_0 4 rfl rfl)
theorem dX5_does_5 : decode cX5_does 5 = .ok (.invokevirtual 64, 3) := dk_182 0 64 (dk_at dksX5_does_0 5 rfl rfl)
theorem dX5_does_8 : decode cX5_does 8 = .ok (.checkcast 68, 3) := dk_192 0 68 (dk_at dksX5_does_0 8 rfl rfl)
theorem dX5_does_11 : decode cX5_does 11 = .ok (.getfield 125, 3) := dk_180 0 125 (dk_at dksX5_does_0 11 rfl rfl)
theorem dX5_does_14 : decode cX5_does 14 = .ok (.astore 4, 2) := dk_58 4 (dk_at dksX5_does_0 14 rfl rfl)
theorem dX5_does_16 : decode cX5_does 16 = .ok (.aload 4, 2) := dk_25 4 (dk_at dksX5_does_0 16 rfl rfl)
theorem dX5_does_18 : decode cX5_does 18 = .ok (.ifnull 11, 3) := dk_198 0 11 (dk_at dksX5_does_0 18 rfl rfl)
theorem dX5_does_21 : decode cX5_does 21 = .ok (.aload_n 0, 1) := dk_42 (dk_at dksX5_does_0 21 rfl rfl)
theorem dX5_does_22 : decode cX5_does 22 = .ok (.iload_n 2, 1) := dk_28 (dk_at dksX5_does_0 22 rfl rfl)
theorem dX5_does_23 : decode cX5_does 23 = .ok (.invokevirtual 102, 3) := dk_182 0 102 (dk_at dksX5_does_1 0 rfl rfl)
theorem dX5_does_26 : decode cX5_does 26 = .ok (.ifCond .eq 5, 3) := dk_153 0 5 (dk_at dksX5_does_1 3 rfl rfl)
theorem dX5_does_29 : decode cX5_does 29 = .ok (.iconst 0, 1) := dk_3 (dk_at dksX5_does_1 6 rfl rfl)
theorem dX5_does_30 : decode cX5_does 30 = .ok (.ireturn, 1) := dk_172 (dk_at dksX5_does_1 7 rfl rfl)
theorem dX5_does_31 : decode cX5_does 31 = .ok (.aload_n 0, 1) := dk_42 (dk_at dksX5_does_1 8 rfl rfl)
theorem dX5_does_32 : decode cX5_does 32 = .ok (.aload 4, 2) := dk_25 4 (dk_at dksX5_does_1 9 rfl rfl)
theorem dX5_does_34 : decode cX5_does 34 = .ok (.iload_n 2, 1) := dk_28 (dk_at dksX5_does_1 11 rfl rfl)
theorem dX5_does_35 : decode cX5_does 35 = .ok (.aload_n 0, 1) := dk_42 (dk_at dksX5_does_1 12 rfl rfl)
theorem dX5_does_36 : decode cX5_does 36 = .ok (.getfield 46, 3) := dk_180 0 46 (dk_at dksX5_does_1 13 rfl rfl)
theorem dX5_does_39 : decode cX5_does 39 = .ok (.iload_n 3, 1) := dk_29 (dk_at dksX5_does_1 16 rfl rfl)
theorem dX5_does_40 : decode cX5_does 40 = .ok (.isub, 1) := dk_100 (dk_at dksX5_does_1 17 rfl rfl)
theorem dX5_does_41 : decode cX5_does 41 = .ok (.aload_n 0, 1) := dk_42 (dk_at dksX5_does_1 18 rfl rfl)
theorem dX5_does_42 : decode cX5_does 42 = .ok (.getfield 21, 3) := dk_180 0 21 (dk_at dksX5_does_1 19 rfl rfl)
theorem dX5_does_45 : decode cX5_does 45 = .ok (.iload_n 2, 1) := dk_28 (dk_at dksX5_does_1 22 rfl rfl)
theorem dX5_does_46 : decode cX5_does 46 = .ok (.iaload, 1) := dk_46 (dk_at dksX5_does_1 23 rfl rfl)
theorem dX5_does_47 : decode cX5_does 47 = .ok (.aload_n 0, 1) := dk_42 (dk_at dksX5_does_2 0 rfl rfl)
theorem dX5_does_48 : decode cX5_does 48 = .ok (.getfield 18, 3) := dk_180 0 18 (dk_at dksX5_does_2 1 rfl rfl)
theorem dX5_does_51 : decode cX5_does 51 = .ok (.iload_n 2, 1) := dk_28 (dk_at dksX5_does_2 4 rfl rfl)
theorem dX5_does_52 : decode cX5_does 52 = .ok (.iaload, 1) := dk_46 (dk_at dksX5_does_2 5 rfl rfl)
theorem dX5_does_53 : decode cX5_does 53 = .ok (.isub, 1) := dk_100 (dk_at dksX5_does_2 6 rfl rfl)
theorem dX5_does_54 : decode cX5_does 54 = .ok (.aload_n 1, 1) := dk_43 (dk_at dksX5_does_2 7 rfl rfl)
theorem dX5_does_55 : decode cX5_does 55 = .ok (.getfield 128, 3) := dk_180 0 128 (dk_at dksX5_does_2 8 rfl rfl)
theorem dX5_does_58 : decode cX5_does 58 = .ok (.bipush 8, 2) := dk_16 8 (dk_at dksX5_does_2 11 rfl rfl)
theorem dX5_does_60 : decode cX5_does 60 = .ok (.aload_n 0, 1) := dk_42 (dk_at dksX5_does_2 13 rfl rfl)
theorem dX5_does_61 : decode cX5_does 61 = .ok (.getfield 46, 3) := dk_180 0 46 (dk_at dksX5_does_2 14 rfl rfl)
theorem dX5_does_64 : decode cX5_does 64 = .ok (.iload_n 3, 1) := dk_29 (dk_at dksX5_does_2 17 rfl rfl)
theorem dX5_does_65 : decode cX5_does 65 = .ok (.isub, 1) := dk_100 (dk_at dksX5_does_2 18 rfl rfl)
theorem dX5_does_66 : decode cX5_does 66 = .ok (.imul, 1) := dk_104 (dk_at dksX5_does_2 19 rfl rfl)
theorem dX5_does_67 : decode cX5_does 67 = .ok (.iload_n 2, 1) := dk_28 (dk_at dksX5_does_2 20 rfl rfl)
theorem dX5_does_68 : decode cX5_does 68 = .ok (.iadd, 1) := dk_96 (dk_at dksX5_does_2 21 rfl rfl)
theorem dX5_does_69 : decode cX5_does 69 = .ok (.bipush 100, 2) := dk_16 100 (dk_at dksX5_does_2 22 rfl rfl)
theorem dX5_does_71 : decode cX5_does 71 = .ok (.invokestatic 131, 3) := dk_184 0 131 (dk_at dksX5_does_3 0 rfl rfl)
theorem dX5_does_74 : decode cX5_does 74 = .ok (.invokevirtual 77, 3) := dk_182 0 77 (dk_at dksX5_does_3 3 rfl rfl)
theorem dX5_does_77 : decode cX5_does 77 = .ok (.bipush 6, 2) := dk_16 6 (dk_at dksX5_does_3 6 rfl rfl)
theorem dX5_does_79 : decode cX5_does 79 = .ok (.irem, 1) := dk_112 (dk_at dksX5_does_3 8 rfl rfl)
theorem dX5_does_80 : decode cX5_does 80 = .ok (.ireturn, 1) := dk_172 (dk_at dksX5_does_3 9 rfl rfl)
abbrev cX5_around : ByteArray := prog_8_method_7_code
def yX5_around : MethodName := ⟨RX5, "around", "(IIZ)I"⟩
def dkwX5_around_5 : List UInt8 := [21, 4, 172]
abbrev dktX5_around_5 : List UInt8 := dkwX5_around_5 ++ []
def dkwX5_around_4 : List UInt8 := [46, 162, 0, 7, 4, 167, 0, 4, 3, 96, 54, 4, 132, 6, 1, 167, 255, 161, 132, 5, 1, 167, 255, 145]
abbrev dktX5_around_4 : List UInt8 := dkwX5_around_4 ++ dktX5_around_5
def dkwX5_around_3 : List UInt8 := [46, 164, 0, 31, 167, 0, 24, 42, 180, 0, 32, 21, 5, 50, 21, 6, 46, 42, 180, 0, 32, 27, 50, 28]
abbrev dktX5_around_3 : List UInt8 := dkwX5_around_3 ++ dktX5_around_4
def dkwX5_around_2 : List UInt8 := [160, 0, 56, 29, 153, 0, 27, 42, 180, 0, 32, 21, 5, 50, 21, 6, 46, 42, 180, 0, 32, 27, 50, 28]
abbrev dktX5_around_2 : List UInt8 := dkwX5_around_2 ++ dktX5_around_3
def dkwX5_around_1 : List UInt8 := [46, 162, 0, 89, 21, 4, 42, 180, 0, 29, 21, 5, 50, 21, 6, 46, 42, 180, 0, 29, 27, 50, 28, 46]
abbrev dktX5_around_1 : List UInt8 := dkwX5_around_1 ++ dktX5_around_2
def dkwX5_around_0 : List UInt8 := [3, 54, 4, 3, 54, 5, 21, 5, 16, 7, 162, 0, 110, 3, 54, 6, 21, 6, 42, 180, 0, 18, 21, 5]
abbrev dktX5_around_0 : List UInt8 := dkwX5_around_0 ++ dktX5_around_1
theorem dksX5_around_0 : cX5_around.data.toList.drop 0 = dktX5_around_0 := by decide +kernel
theorem dksX5_around_1 : cX5_around.data.toList.drop 24 = dktX5_around_1 := dk_seg dksX5_around_0 24 rfl rfl
theorem dksX5_around_2 : cX5_around.data.toList.drop 48 = dktX5_around_2 := dk_seg dksX5_around_1 24 rfl rfl
theorem dksX5_around_3 : cX5_around.data.toList.drop 72 = dktX5_around_3 := dk_seg dksX5_around_2 24 rfl rfl
theorem dksX5_around_4 : cX5_around.data.toList.drop 96 = dktX5_around_4 := dk_seg dksX5_around_3 24 rfl rfl
theorem dksX5_around_5 : cX5_around.data.toList.drop 120 = dktX5_around_5 := dk_seg dksX5_around_4 24 rfl rfl
theorem dX5_around_0 : decode cX5_around 0 = .ok (.iconst 0, 1) := dk_3 (dk_at dksX5_around_0 0 rfl rfl)
theorem dX5_around_1 : decode cX5_around 1 = .ok (.istore 4, 2) := dk_54 4 (dk_at dksX5_around_0 1 rfl rfl)
theorem dX5_around_3 : decode cX5_around 3 = .ok (.iconst 0, 1) := dk_3 (dk_at dksX5_around_0 3 rfl rfl)
theorem dX5_around_4 : decode cX5_around 4 = .ok (.istore 5, 2) := dk_54 5 (dk_at dksX5_around_0 4 rfl rfl)
theorem dX5_around_6 : decode cX5_around 6 = .ok (.iload 5, 2) := dk_21 5 (dk_at dksX5_around_0 6 rfl rfl)
theorem dX5_around_8 : decode cX5_around 8 = .ok (.bipush 7, 2) := dk_16 7 (dk_at dksX5_around_0 8 rfl rfl)
theorem dX5_around_10 : decode cX5_around 10 = .ok (.if_icmp .ge 110, 3) := dk_162 0 110 (dk_at dksX5_around_0 10 rfl rfl)
theorem dX5_around_13 : decode cX5_around 13 = .ok (.iconst 0, 1) := dk_3 (dk_at dksX5_around_0 13 rfl rfl)
theorem dX5_around_14 : decode cX5_around 14 = .ok (.istore 6, 2) := dk_54 6 (dk_at dksX5_around_0 14 rfl rfl)
theorem dX5_around_16 : decode cX5_around 16 = .ok (.iload 6, 2) := dk_21 6 (dk_at dksX5_around_0 16 rfl rfl)
theorem dX5_around_18 : decode cX5_around 18 = .ok (.aload_n 0, 1) := dk_42 (dk_at dksX5_around_0 18 rfl rfl)
theorem dX5_around_19 : decode cX5_around 19 = .ok (.getfield 18, 3) := dk_180 0 18 (dk_at dksX5_around_0 19 rfl rfl)
theorem dX5_around_22 : decode cX5_around 22 = .ok (.iload 5, 2) := dk_21 5 (dk_at dksX5_around_0 22 rfl rfl)
theorem dX5_around_24 : decode cX5_around 24 = .ok (.iaload, 1) := dk_46 (dk_at dksX5_around_1 0 rfl rfl)
theorem dX5_around_25 : decode cX5_around 25 = .ok (.if_icmp .ge 89, 3) := dk_162 0 89 (dk_at dksX5_around_1 1 rfl rfl)
theorem dX5_around_28 : decode cX5_around 28 = .ok (.iload 4, 2) := dk_21 4 (dk_at dksX5_around_1 4 rfl rfl)
theorem dX5_around_30 : decode cX5_around 30 = .ok (.aload_n 0, 1) := dk_42 (dk_at dksX5_around_1 6 rfl rfl)
theorem dX5_around_31 : decode cX5_around 31 = .ok (.getfield 29, 3) := dk_180 0 29 (dk_at dksX5_around_1 7 rfl rfl)
theorem dX5_around_34 : decode cX5_around 34 = .ok (.iload 5, 2) := dk_21 5 (dk_at dksX5_around_1 10 rfl rfl)
theorem dX5_around_36 : decode cX5_around 36 = .ok (.aaload, 1) := dk_50 (dk_at dksX5_around_1 12 rfl rfl)
theorem dX5_around_37 : decode cX5_around 37 = .ok (.iload 6, 2) := dk_21 6 (dk_at dksX5_around_1 13 rfl rfl)
theorem dX5_around_39 : decode cX5_around 39 = .ok (.iaload, 1) := dk_46 (dk_at dksX5_around_1 15 rfl rfl)
theorem dX5_around_40 : decode cX5_around 40 = .ok (.aload_n 0, 1) := dk_42 (dk_at dksX5_around_1 16 rfl rfl)
theorem dX5_around_41 : decode cX5_around 41 = .ok (.getfield 29, 3) := dk_180 0 29 (dk_at dksX5_around_1 17 rfl rfl)
theorem dX5_around_44 : decode cX5_around 44 = .ok (.iload_n 1, 1) := dk_27 (dk_at dksX5_around_1 20 rfl rfl)
theorem dX5_around_45 : decode cX5_around 45 = .ok (.aaload, 1) := dk_50 (dk_at dksX5_around_1 21 rfl rfl)
theorem dX5_around_46 : decode cX5_around 46 = .ok (.iload_n 2, 1) := dk_28 (dk_at dksX5_around_1 22 rfl rfl)
theorem dX5_around_47 : decode cX5_around 47 = .ok (.iaload, 1) := dk_46 (dk_at dksX5_around_1 23 rfl rfl)
theorem dX5_around_48 : decode cX5_around 48 = .ok (.if_icmp .ne 56, 3) := dk_160 0 56 (dk_at dksX5_around_2 0 rfl rfl)
theorem dX5_around_51 : decode cX5_around 51 = .ok (.iload_n 3, 1) := dk_29 (dk_at dksX5_around_2 3 rfl rfl)
theorem dX5_around_52 : decode cX5_around 52 = .ok (.ifCond .eq 27, 3) := dk_153 0 27 (dk_at dksX5_around_2 4 rfl rfl)
theorem dX5_around_55 : decode cX5_around 55 = .ok (.aload_n 0, 1) := dk_42 (dk_at dksX5_around_2 7 rfl rfl)
theorem dX5_around_56 : decode cX5_around 56 = .ok (.getfield 32, 3) := dk_180 0 32 (dk_at dksX5_around_2 8 rfl rfl)
theorem dX5_around_59 : decode cX5_around 59 = .ok (.iload 5, 2) := dk_21 5 (dk_at dksX5_around_2 11 rfl rfl)
theorem dX5_around_61 : decode cX5_around 61 = .ok (.aaload, 1) := dk_50 (dk_at dksX5_around_2 13 rfl rfl)
theorem dX5_around_62 : decode cX5_around 62 = .ok (.iload 6, 2) := dk_21 6 (dk_at dksX5_around_2 14 rfl rfl)
theorem dX5_around_64 : decode cX5_around 64 = .ok (.iaload, 1) := dk_46 (dk_at dksX5_around_2 16 rfl rfl)
theorem dX5_around_65 : decode cX5_around 65 = .ok (.aload_n 0, 1) := dk_42 (dk_at dksX5_around_2 17 rfl rfl)
theorem dX5_around_66 : decode cX5_around 66 = .ok (.getfield 32, 3) := dk_180 0 32 (dk_at dksX5_around_2 18 rfl rfl)
theorem dX5_around_69 : decode cX5_around 69 = .ok (.iload_n 1, 1) := dk_27 (dk_at dksX5_around_2 21 rfl rfl)
theorem dX5_around_70 : decode cX5_around 70 = .ok (.aaload, 1) := dk_50 (dk_at dksX5_around_2 22 rfl rfl)
theorem dX5_around_71 : decode cX5_around 71 = .ok (.iload_n 2, 1) := dk_28 (dk_at dksX5_around_2 23 rfl rfl)
theorem dX5_around_72 : decode cX5_around 72 = .ok (.iaload, 1) := dk_46 (dk_at dksX5_around_3 0 rfl rfl)
theorem dX5_around_73 : decode cX5_around 73 = .ok (.if_icmp .le 31, 3) := dk_164 0 31 (dk_at dksX5_around_3 1 rfl rfl)
theorem dX5_around_76 : decode cX5_around 76 = .ok (.goto 24, 3) := dk_167 0 24 (dk_at dksX5_around_3 4 rfl rfl)
theorem dX5_around_79 : decode cX5_around 79 = .ok (.aload_n 0, 1) := dk_42 (dk_at dksX5_around_3 7 rfl rfl)
theorem dX5_around_80 : decode cX5_around 80 = .ok (.getfield 32, 3) := dk_180 0 32 (dk_at dksX5_around_3 8 rfl rfl)
theorem dX5_around_83 : decode cX5_around 83 = .ok (.iload 5, 2) := dk_21 5 (dk_at dksX5_around_3 11 rfl rfl)
theorem dX5_around_85 : decode cX5_around 85 = .ok (.aaload, 1) := dk_50 (dk_at dksX5_around_3 13 rfl rfl)
theorem dX5_around_86 : decode cX5_around 86 = .ok (.iload 6, 2) := dk_21 6 (dk_at dksX5_around_3 14 rfl rfl)
theorem dX5_around_88 : decode cX5_around 88 = .ok (.iaload, 1) := dk_46 (dk_at dksX5_around_3 16 rfl rfl)
theorem dX5_around_89 : decode cX5_around 89 = .ok (.aload_n 0, 1) := dk_42 (dk_at dksX5_around_3 17 rfl rfl)
theorem dX5_around_90 : decode cX5_around 90 = .ok (.getfield 32, 3) := dk_180 0 32 (dk_at dksX5_around_3 18 rfl rfl)
theorem dX5_around_93 : decode cX5_around 93 = .ok (.iload_n 1, 1) := dk_27 (dk_at dksX5_around_3 21 rfl rfl)
theorem dX5_around_94 : decode cX5_around 94 = .ok (.aaload, 1) := dk_50 (dk_at dksX5_around_3 22 rfl rfl)
theorem dX5_around_95 : decode cX5_around 95 = .ok (.iload_n 2, 1) := dk_28 (dk_at dksX5_around_3 23 rfl rfl)
theorem dX5_around_96 : decode cX5_around 96 = .ok (.iaload, 1) := dk_46 (dk_at dksX5_around_4 0 rfl rfl)
theorem dX5_around_97 : decode cX5_around 97 = .ok (.if_icmp .ge 7, 3) := dk_162 0 7 (dk_at dksX5_around_4 1 rfl rfl)
theorem dX5_around_100 : decode cX5_around 100 = .ok (.iconst 1, 1) := dk_4 (dk_at dksX5_around_4 4 rfl rfl)
theorem dX5_around_101 : decode cX5_around 101 = .ok (.goto 4, 3) := dk_167 0 4 (dk_at dksX5_around_4 5 rfl rfl)
theorem dX5_around_104 : decode cX5_around 104 = .ok (.iconst 0, 1) := dk_3 (dk_at dksX5_around_4 8 rfl rfl)
theorem dX5_around_105 : decode cX5_around 105 = .ok (.iadd, 1) := dk_96 (dk_at dksX5_around_4 9 rfl rfl)
theorem dX5_around_106 : decode cX5_around 106 = .ok (.istore 4, 2) := dk_54 4 (dk_at dksX5_around_4 10 rfl rfl)
theorem dX5_around_108 : decode cX5_around 108 = .ok (.iinc 6 1, 3) := dk_132 6 1 (dk_at dksX5_around_4 12 rfl rfl)
theorem dX5_around_111 : decode cX5_around 111 = .ok (.goto (-95), 3) := dk_167 255 161 (dk_at dksX5_around_4 15 rfl rfl)
theorem dX5_around_114 : decode cX5_around 114 = .ok (.iinc 5 1, 3) := dk_132 5 1 (dk_at dksX5_around_4 18 rfl rfl)
theorem dX5_around_117 : decode cX5_around 117 = .ok (.goto (-111), 3) := dk_167 255 145 (dk_at dksX5_around_4 21 rfl rfl)
theorem dX5_around_120 : decode cX5_around 120 = .ok (.iload 4, 2) := dk_21 4 (dk_at dksX5_around_5 0 rfl rfl)
theorem dX5_around_122 : decode cX5_around 122 = .ok (.ireturn, 1) := dk_172 (dk_at dksX5_around_5 2 rfl rfl)
abbrev cX5_takes : ByteArray := prog_8_method_3_code
def yX5_takes : MethodName := ⟨RX5, "takes", "(LThreadTown$Cloth;)V"⟩
def dkwX5_takes_7 : List UInt8 := [180, 0, 49, 181, 0, 49, 177]
abbrev dktX5_takes_7 : List UInt8 := dkwX5_takes_7 ++ []
def dkwX5_takes_6 : List UInt8 := [132, 2, 1, 167, 255, 178, 42, 43, 180, 0, 42, 181, 0, 42, 42, 43, 180, 0, 46, 181, 0, 46, 42, 43]
abbrev dktX5_takes_6 : List UInt8 := dkwX5_takes_6 ++ dktX5_takes_7
def dkwX5_takes_5 : List UInt8 := [180, 0, 32, 28, 50, 3, 42, 180, 0, 32, 28, 50, 3, 43, 180, 0, 18, 28, 46, 184, 0, 87]
abbrev dktX5_takes_5 : List UInt8 := dkwX5_takes_5 ++ dktX5_takes_6
def dkwX5_takes_4 : List UInt8 := [180, 0, 29, 28, 50, 3, 42, 180, 0, 29, 28, 50, 3, 43, 180, 0, 18, 28, 46, 184, 0, 87, 43]
abbrev dktX5_takes_4 : List UInt8 := dkwX5_takes_4 ++ dktX5_takes_5
def dkwX5_takes_3 : List UInt8 := [180, 0, 26, 28, 50, 3, 42, 180, 0, 26, 28, 50, 3, 43, 180, 0, 18, 28, 46, 184, 0, 87, 43]
abbrev dktX5_takes_3 : List UInt8 := dkwX5_takes_3 ++ dktX5_takes_4
def dkwX5_takes_2 : List UInt8 := [180, 0, 21, 3, 42, 180, 0, 21, 3, 16, 7, 184, 0, 87, 3, 61, 28, 16, 7, 162, 0, 78, 43]
abbrev dktX5_takes_2 : List UInt8 := dkwX5_takes_2 ++ dktX5_takes_3
def dkwX5_takes_1 : List UInt8 := [3, 16, 7, 184, 0, 87, 43, 180, 0, 18, 3, 42, 180, 0, 18, 3, 16, 7, 184, 0, 87, 43]
abbrev dktX5_takes_1 : List UInt8 := dkwX5_takes_1 ++ dktX5_takes_2
def dkwX5_takes_0 : List UInt8 := [43, 180, 0, 9, 3, 42, 180, 0, 9, 3, 16, 7, 184, 0, 87, 43, 180, 0, 15, 3, 42, 180, 0, 15]
abbrev dktX5_takes_0 : List UInt8 := dkwX5_takes_0 ++ dktX5_takes_1
theorem dksX5_takes_0 : cX5_takes.data.toList.drop 0 = dktX5_takes_0 := by decide +kernel
theorem dksX5_takes_1 : cX5_takes.data.toList.drop 24 = dktX5_takes_1 := dk_seg dksX5_takes_0 24 rfl rfl
theorem dksX5_takes_2 : cX5_takes.data.toList.drop 46 = dktX5_takes_2 := dk_seg dksX5_takes_1 22 rfl rfl
theorem dksX5_takes_3 : cX5_takes.data.toList.drop 69 = dktX5_takes_3 := dk_seg dksX5_takes_2 23 rfl rfl
theorem dksX5_takes_4 : cX5_takes.data.toList.drop 92 = dktX5_takes_4 := dk_seg dksX5_takes_3 23 rfl rfl
theorem dksX5_takes_5 : cX5_takes.data.toList.drop 115 = dktX5_takes_5 := dk_seg dksX5_takes_4 23 rfl rfl
theorem dksX5_takes_6 : cX5_takes.data.toList.drop 137 = dktX5_takes_6 := dk_seg dksX5_takes_5 22 rfl rfl
theorem dksX5_takes_7 : cX5_takes.data.toList.drop 161 = dktX5_takes_7 := dk_seg dksX5_takes_6 24 rfl rfl
theorem dX5_takes_0 : decode cX5_takes 0 = .ok (.aload_n 1, 1) := dk_43 (dk_at dksX5_takes_0 0 rfl rfl)
theorem dX5_takes_1 : decode cX5_takes 1 = .ok (.getfield 9, 3) := dk_180 0 9 (dk_at dksX5_takes_0 1 rfl rfl)
theorem dX5_takes_4 : decode cX5_takes 4 = .ok (.iconst 0, 1) := dk_3 (dk_at dksX5_takes_0 4 rfl rfl)
theorem dX5_takes_5 : decode cX5_takes 5 = .ok (.aload_n 0, 1) := dk_42 (dk_at dksX5_takes_0 5 rfl rfl)
theorem dX5_takes_6 : decode cX5_takes 6 = .ok (.getfield 9, 3) := dk_180 0 9 (dk_at dksX5_takes_0 6 rfl rfl)
theorem dX5_takes_9 : decode cX5_takes 9 = .ok (.iconst 0, 1) := dk_3 (dk_at dksX5_takes_0 9 rfl rfl)
theorem dX5_takes_10 : decode cX5_takes 10 = .ok (.bipush 7, 2) := dk_16 7 (dk_at dksX5_takes_0 10 rfl rfl)
theorem dX5_takes_12 : decode cX5_takes 12 = .ok (.invokestatic 87, 3) := dk_184 0 87 (dk_at dksX5_takes_0 12 rfl rfl)
theorem dX5_takes_15 : decode cX5_takes 15 = .ok (.aload_n 1, 1) := dk_43 (dk_at dksX5_takes_0 15 rfl rfl)
theorem dX5_takes_16 : decode cX5_takes 16 = .ok (.getfield 15, 3) := dk_180 0 15 (dk_at dksX5_takes_0 16 rfl rfl)
theorem dX5_takes_19 : decode cX5_takes 19 = .ok (.iconst 0, 1) := dk_3 (dk_at dksX5_takes_0 19 rfl rfl)
theorem dX5_takes_20 : decode cX5_takes 20 = .ok (.aload_n 0, 1) := dk_42 (dk_at dksX5_takes_0 20 rfl rfl)
theorem dX5_takes_21 : decode cX5_takes 21 = .ok (.getfield 15, 3) := dk_180 0 15 (dk_at dksX5_takes_0 21 rfl rfl)
theorem dX5_takes_24 : decode cX5_takes 24 = .ok (.iconst 0, 1) := dk_3 (dk_at dksX5_takes_1 0 rfl rfl)
theorem dX5_takes_25 : decode cX5_takes 25 = .ok (.bipush 7, 2) := dk_16 7 (dk_at dksX5_takes_1 1 rfl rfl)
theorem dX5_takes_27 : decode cX5_takes 27 = .ok (.invokestatic 87, 3) := dk_184 0 87 (dk_at dksX5_takes_1 3 rfl rfl)
theorem dX5_takes_30 : decode cX5_takes 30 = .ok (.aload_n 1, 1) := dk_43 (dk_at dksX5_takes_1 6 rfl rfl)
theorem dX5_takes_31 : decode cX5_takes 31 = .ok (.getfield 18, 3) := dk_180 0 18 (dk_at dksX5_takes_1 7 rfl rfl)
theorem dX5_takes_34 : decode cX5_takes 34 = .ok (.iconst 0, 1) := dk_3 (dk_at dksX5_takes_1 10 rfl rfl)
theorem dX5_takes_35 : decode cX5_takes 35 = .ok (.aload_n 0, 1) := dk_42 (dk_at dksX5_takes_1 11 rfl rfl)
theorem dX5_takes_36 : decode cX5_takes 36 = .ok (.getfield 18, 3) := dk_180 0 18 (dk_at dksX5_takes_1 12 rfl rfl)
theorem dX5_takes_39 : decode cX5_takes 39 = .ok (.iconst 0, 1) := dk_3 (dk_at dksX5_takes_1 15 rfl rfl)
theorem dX5_takes_40 : decode cX5_takes 40 = .ok (.bipush 7, 2) := dk_16 7 (dk_at dksX5_takes_1 16 rfl rfl)
theorem dX5_takes_42 : decode cX5_takes 42 = .ok (.invokestatic 87, 3) := dk_184 0 87 (dk_at dksX5_takes_1 18 rfl rfl)
theorem dX5_takes_45 : decode cX5_takes 45 = .ok (.aload_n 1, 1) := dk_43 (dk_at dksX5_takes_1 21 rfl rfl)
theorem dX5_takes_46 : decode cX5_takes 46 = .ok (.getfield 21, 3) := dk_180 0 21 (dk_at dksX5_takes_2 0 rfl rfl)
theorem dX5_takes_49 : decode cX5_takes 49 = .ok (.iconst 0, 1) := dk_3 (dk_at dksX5_takes_2 3 rfl rfl)
theorem dX5_takes_50 : decode cX5_takes 50 = .ok (.aload_n 0, 1) := dk_42 (dk_at dksX5_takes_2 4 rfl rfl)
theorem dX5_takes_51 : decode cX5_takes 51 = .ok (.getfield 21, 3) := dk_180 0 21 (dk_at dksX5_takes_2 5 rfl rfl)
theorem dX5_takes_54 : decode cX5_takes 54 = .ok (.iconst 0, 1) := dk_3 (dk_at dksX5_takes_2 8 rfl rfl)
theorem dX5_takes_55 : decode cX5_takes 55 = .ok (.bipush 7, 2) := dk_16 7 (dk_at dksX5_takes_2 9 rfl rfl)
theorem dX5_takes_57 : decode cX5_takes 57 = .ok (.invokestatic 87, 3) := dk_184 0 87 (dk_at dksX5_takes_2 11 rfl rfl)
theorem dX5_takes_60 : decode cX5_takes 60 = .ok (.iconst 0, 1) := dk_3 (dk_at dksX5_takes_2 14 rfl rfl)
theorem dX5_takes_61 : decode cX5_takes 61 = .ok (.istore_n 2, 1) := dk_61 (dk_at dksX5_takes_2 15 rfl rfl)
theorem dX5_takes_62 : decode cX5_takes 62 = .ok (.iload_n 2, 1) := dk_28 (dk_at dksX5_takes_2 16 rfl rfl)
theorem dX5_takes_63 : decode cX5_takes 63 = .ok (.bipush 7, 2) := dk_16 7 (dk_at dksX5_takes_2 17 rfl rfl)
theorem dX5_takes_65 : decode cX5_takes 65 = .ok (.if_icmp .ge 78, 3) := dk_162 0 78 (dk_at dksX5_takes_2 19 rfl rfl)
theorem dX5_takes_68 : decode cX5_takes 68 = .ok (.aload_n 1, 1) := dk_43 (dk_at dksX5_takes_2 22 rfl rfl)
theorem dX5_takes_69 : decode cX5_takes 69 = .ok (.getfield 26, 3) := dk_180 0 26 (dk_at dksX5_takes_3 0 rfl rfl)
theorem dX5_takes_72 : decode cX5_takes 72 = .ok (.iload_n 2, 1) := dk_28 (dk_at dksX5_takes_3 3 rfl rfl)
theorem dX5_takes_73 : decode cX5_takes 73 = .ok (.aaload, 1) := dk_50 (dk_at dksX5_takes_3 4 rfl rfl)
theorem dX5_takes_74 : decode cX5_takes 74 = .ok (.iconst 0, 1) := dk_3 (dk_at dksX5_takes_3 5 rfl rfl)
theorem dX5_takes_75 : decode cX5_takes 75 = .ok (.aload_n 0, 1) := dk_42 (dk_at dksX5_takes_3 6 rfl rfl)
theorem dX5_takes_76 : decode cX5_takes 76 = .ok (.getfield 26, 3) := dk_180 0 26 (dk_at dksX5_takes_3 7 rfl rfl)
theorem dX5_takes_79 : decode cX5_takes 79 = .ok (.iload_n 2, 1) := dk_28 (dk_at dksX5_takes_3 10 rfl rfl)
theorem dX5_takes_80 : decode cX5_takes 80 = .ok (.aaload, 1) := dk_50 (dk_at dksX5_takes_3 11 rfl rfl)
theorem dX5_takes_81 : decode cX5_takes 81 = .ok (.iconst 0, 1) := dk_3 (dk_at dksX5_takes_3 12 rfl rfl)
theorem dX5_takes_82 : decode cX5_takes 82 = .ok (.aload_n 1, 1) := dk_43 (dk_at dksX5_takes_3 13 rfl rfl)
theorem dX5_takes_83 : decode cX5_takes 83 = .ok (.getfield 18, 3) := dk_180 0 18 (dk_at dksX5_takes_3 14 rfl rfl)
theorem dX5_takes_86 : decode cX5_takes 86 = .ok (.iload_n 2, 1) := dk_28 (dk_at dksX5_takes_3 17 rfl rfl)
theorem dX5_takes_87 : decode cX5_takes 87 = .ok (.iaload, 1) := dk_46 (dk_at dksX5_takes_3 18 rfl rfl)
theorem dX5_takes_88 : decode cX5_takes 88 = .ok (.invokestatic 87, 3) := dk_184 0 87 (dk_at dksX5_takes_3 19 rfl rfl)
theorem dX5_takes_91 : decode cX5_takes 91 = .ok (.aload_n 1, 1) := dk_43 (dk_at dksX5_takes_3 22 rfl rfl)
theorem dX5_takes_92 : decode cX5_takes 92 = .ok (.getfield 29, 3) := dk_180 0 29 (dk_at dksX5_takes_4 0 rfl rfl)
theorem dX5_takes_95 : decode cX5_takes 95 = .ok (.iload_n 2, 1) := dk_28 (dk_at dksX5_takes_4 3 rfl rfl)
theorem dX5_takes_96 : decode cX5_takes 96 = .ok (.aaload, 1) := dk_50 (dk_at dksX5_takes_4 4 rfl rfl)
theorem dX5_takes_97 : decode cX5_takes 97 = .ok (.iconst 0, 1) := dk_3 (dk_at dksX5_takes_4 5 rfl rfl)
theorem dX5_takes_98 : decode cX5_takes 98 = .ok (.aload_n 0, 1) := dk_42 (dk_at dksX5_takes_4 6 rfl rfl)
theorem dX5_takes_99 : decode cX5_takes 99 = .ok (.getfield 29, 3) := dk_180 0 29 (dk_at dksX5_takes_4 7 rfl rfl)
theorem dX5_takes_102 : decode cX5_takes 102 = .ok (.iload_n 2, 1) := dk_28 (dk_at dksX5_takes_4 10 rfl rfl)
theorem dX5_takes_103 : decode cX5_takes 103 = .ok (.aaload, 1) := dk_50 (dk_at dksX5_takes_4 11 rfl rfl)
theorem dX5_takes_104 : decode cX5_takes 104 = .ok (.iconst 0, 1) := dk_3 (dk_at dksX5_takes_4 12 rfl rfl)
theorem dX5_takes_105 : decode cX5_takes 105 = .ok (.aload_n 1, 1) := dk_43 (dk_at dksX5_takes_4 13 rfl rfl)
theorem dX5_takes_106 : decode cX5_takes 106 = .ok (.getfield 18, 3) := dk_180 0 18 (dk_at dksX5_takes_4 14 rfl rfl)
theorem dX5_takes_109 : decode cX5_takes 109 = .ok (.iload_n 2, 1) := dk_28 (dk_at dksX5_takes_4 17 rfl rfl)
theorem dX5_takes_110 : decode cX5_takes 110 = .ok (.iaload, 1) := dk_46 (dk_at dksX5_takes_4 18 rfl rfl)
theorem dX5_takes_111 : decode cX5_takes 111 = .ok (.invokestatic 87, 3) := dk_184 0 87 (dk_at dksX5_takes_4 19 rfl rfl)
theorem dX5_takes_114 : decode cX5_takes 114 = .ok (.aload_n 1, 1) := dk_43 (dk_at dksX5_takes_4 22 rfl rfl)
theorem dX5_takes_115 : decode cX5_takes 115 = .ok (.getfield 32, 3) := dk_180 0 32 (dk_at dksX5_takes_5 0 rfl rfl)
theorem dX5_takes_118 : decode cX5_takes 118 = .ok (.iload_n 2, 1) := dk_28 (dk_at dksX5_takes_5 3 rfl rfl)
theorem dX5_takes_119 : decode cX5_takes 119 = .ok (.aaload, 1) := dk_50 (dk_at dksX5_takes_5 4 rfl rfl)
theorem dX5_takes_120 : decode cX5_takes 120 = .ok (.iconst 0, 1) := dk_3 (dk_at dksX5_takes_5 5 rfl rfl)
theorem dX5_takes_121 : decode cX5_takes 121 = .ok (.aload_n 0, 1) := dk_42 (dk_at dksX5_takes_5 6 rfl rfl)
theorem dX5_takes_122 : decode cX5_takes 122 = .ok (.getfield 32, 3) := dk_180 0 32 (dk_at dksX5_takes_5 7 rfl rfl)
theorem dX5_takes_125 : decode cX5_takes 125 = .ok (.iload_n 2, 1) := dk_28 (dk_at dksX5_takes_5 10 rfl rfl)
theorem dX5_takes_126 : decode cX5_takes 126 = .ok (.aaload, 1) := dk_50 (dk_at dksX5_takes_5 11 rfl rfl)
theorem dX5_takes_127 : decode cX5_takes 127 = .ok (.iconst 0, 1) := dk_3 (dk_at dksX5_takes_5 12 rfl rfl)
theorem dX5_takes_128 : decode cX5_takes 128 = .ok (.aload_n 1, 1) := dk_43 (dk_at dksX5_takes_5 13 rfl rfl)
theorem dX5_takes_129 : decode cX5_takes 129 = .ok (.getfield 18, 3) := dk_180 0 18 (dk_at dksX5_takes_5 14 rfl rfl)
theorem dX5_takes_132 : decode cX5_takes 132 = .ok (.iload_n 2, 1) := dk_28 (dk_at dksX5_takes_5 17 rfl rfl)
theorem dX5_takes_133 : decode cX5_takes 133 = .ok (.iaload, 1) := dk_46 (dk_at dksX5_takes_5 18 rfl rfl)
theorem dX5_takes_134 : decode cX5_takes 134 = .ok (.invokestatic 87, 3) := dk_184 0 87 (dk_at dksX5_takes_5 19 rfl rfl)
theorem dX5_takes_137 : decode cX5_takes 137 = .ok (.iinc 2 1, 3) := dk_132 2 1 (dk_at dksX5_takes_6 0 rfl rfl)
theorem dX5_takes_140 : decode cX5_takes 140 = .ok (.goto (-78), 3) := dk_167 255 178 (dk_at dksX5_takes_6 3 rfl rfl)
theorem dX5_takes_143 : decode cX5_takes 143 = .ok (.aload_n 0, 1) := dk_42 (dk_at dksX5_takes_6 6 rfl rfl)
theorem dX5_takes_144 : decode cX5_takes 144 = .ok (.aload_n 1, 1) := dk_43 (dk_at dksX5_takes_6 7 rfl rfl)
theorem dX5_takes_145 : decode cX5_takes 145 = .ok (.getfield 42, 3) := dk_180 0 42 (dk_at dksX5_takes_6 8 rfl rfl)
theorem dX5_takes_148 : decode cX5_takes 148 = .ok (.putfield 42, 3) := dk_181 0 42 (dk_at dksX5_takes_6 11 rfl rfl)
theorem dX5_takes_151 : decode cX5_takes 151 = .ok (.aload_n 0, 1) := dk_42 (dk_at dksX5_takes_6 14 rfl rfl)
theorem dX5_takes_152 : decode cX5_takes 152 = .ok (.aload_n 1, 1) := dk_43 (dk_at dksX5_takes_6 15 rfl rfl)
theorem dX5_takes_153 : decode cX5_takes 153 = .ok (.getfield 46, 3) := dk_180 0 46 (dk_at dksX5_takes_6 16 rfl rfl)
theorem dX5_takes_156 : decode cX5_takes 156 = .ok (.putfield 46, 3) := dk_181 0 46 (dk_at dksX5_takes_6 19 rfl rfl)
theorem dX5_takes_159 : decode cX5_takes 159 = .ok (.aload_n 0, 1) := dk_42 (dk_at dksX5_takes_6 22 rfl rfl)
theorem dX5_takes_160 : decode cX5_takes 160 = .ok (.aload_n 1, 1) := dk_43 (dk_at dksX5_takes_6 23 rfl rfl)
theorem dX5_takes_161 : decode cX5_takes 161 = .ok (.getfield 49, 3) := dk_180 0 49 (dk_at dksX5_takes_7 0 rfl rfl)
theorem dX5_takes_164 : decode cX5_takes 164 = .ok (.putfield 49, 3) := dk_181 0 49 (dk_at dksX5_takes_7 3 rfl rfl)
theorem dX5_takes_167 : decode cX5_takes 167 = .ok (.return_, 1) := dk_177 (dk_at dksX5_takes_7 6 rfl rfl)
abbrev cX5_steps : ByteArray := prog_8_method_6_code
def yX5_steps : MethodName := ⟨RX5, "steps", "(LThreadTown$Text;II)Z"⟩
def dkwX5_steps_6 : List UInt8 := [92, 46, 29, 184, 0, 106, 96, 79, 42, 180, 0, 15, 28, 92, 46, 29, 184, 0, 110, 96, 79, 4, 172]
abbrev dktX5_steps_6 : List UInt8 := dkwX5_steps_6 ++ []
def dkwX5_steps_5 : List UInt8 := [180, 0, 18, 28, 92, 46, 4, 96, 79, 42, 89, 180, 0, 49, 4, 96, 181, 0, 49, 42, 180, 0, 9, 28]
abbrev dktX5_steps_5 : List UInt8 := dkwX5_steps_5 ++ dktX5_steps_6
def dkwX5_steps_4 : List UInt8 := [184, 0, 117, 79, 42, 180, 0, 32, 28, 50, 42, 180, 0, 18, 28, 46, 42, 180, 0, 49, 79, 42]
abbrev dktX5_steps_4 : List UInt8 := dkwX5_steps_4 ++ dktX5_steps_5
def dkwX5_steps_3 : List UInt8 := [180, 0, 29, 28, 50, 42, 180, 0, 18, 28, 46, 42, 180, 0, 9, 28, 46, 42, 180, 0, 15, 28, 46, 29]
abbrev dktX5_steps_3 : List UInt8 := dkwX5_steps_3 ++ dktX5_steps_4
def dkwX5_steps_2 : List UInt8 := [182, 0, 113, 154, 0, 5, 3, 172, 42, 180, 0, 26, 28, 50, 42, 180, 0, 18, 28, 46, 29, 79, 42]
abbrev dktX5_steps_2 : List UInt8 := dkwX5_steps_2 ++ dktX5_steps_3
def dkwX5_steps_1 : List UInt8 := [42, 180, 0, 9, 28, 46, 29, 184, 0, 106, 96, 42, 180, 0, 15, 28, 46, 29, 184, 0, 110, 96]
abbrev dktX5_steps_1 : List UInt8 := dkwX5_steps_1 ++ dktX5_steps_2
def dkwX5_steps_0 : List UInt8 := [42, 28, 182, 0, 102, 154, 0, 47, 42, 180, 0, 18, 28, 46, 42, 180, 0, 21, 28, 46, 159, 0, 32, 43]
abbrev dktX5_steps_0 : List UInt8 := dkwX5_steps_0 ++ dktX5_steps_1
theorem dksX5_steps_0 : cX5_steps.data.toList.drop 0 = dktX5_steps_0 := by decide +kernel
theorem dksX5_steps_1 : cX5_steps.data.toList.drop 24 = dktX5_steps_1 := dk_seg dksX5_steps_0 24 rfl rfl
theorem dksX5_steps_2 : cX5_steps.data.toList.drop 46 = dktX5_steps_2 := dk_seg dksX5_steps_1 22 rfl rfl
theorem dksX5_steps_3 : cX5_steps.data.toList.drop 69 = dktX5_steps_3 := dk_seg dksX5_steps_2 23 rfl rfl
theorem dksX5_steps_4 : cX5_steps.data.toList.drop 93 = dktX5_steps_4 := dk_seg dksX5_steps_3 24 rfl rfl
theorem dksX5_steps_5 : cX5_steps.data.toList.drop 115 = dktX5_steps_5 := dk_seg dksX5_steps_4 22 rfl rfl
theorem dksX5_steps_6 : cX5_steps.data.toList.drop 139 = dktX5_steps_6 := dk_seg dksX5_steps_5 24 rfl rfl
theorem dX5_steps_0 : decode cX5_steps 0 = .ok (.aload_n 0, 1) := dk_42 (dk_at dksX5_steps_0 0 rfl rfl)
theorem dX5_steps_1 : decode cX5_steps 1 = .ok (.iload_n 2, 1) := dk_28 (dk_at dksX5_steps_0 1 rfl rfl)
theorem dX5_steps_2 : decode cX5_steps 2 = .ok (.invokevirtual 102, 3) := dk_182 0 102 (dk_at dksX5_steps_0 2 rfl rfl)
theorem dX5_steps_5 : decode cX5_steps 5 = .ok (.ifCond .ne 47, 3) := dk_154 0 47 (dk_at dksX5_steps_0 5 rfl rfl)
theorem dX5_steps_8 : decode cX5_steps 8 = .ok (.aload_n 0, 1) := dk_42 (dk_at dksX5_steps_0 8 rfl rfl)
theorem dX5_steps_9 : decode cX5_steps 9 = .ok (.getfield 18, 3) := dk_180 0 18 (dk_at dksX5_steps_0 9 rfl rfl)
theorem dX5_steps_12 : decode cX5_steps 12 = .ok (.iload_n 2, 1) := dk_28 (dk_at dksX5_steps_0 12 rfl rfl)
theorem dX5_steps_13 : decode cX5_steps 13 = .ok (.iaload, 1) := dk_46 (dk_at dksX5_steps_0 13 rfl rfl)
theorem dX5_steps_14 : decode cX5_steps 14 = .ok (.aload_n 0, 1) := dk_42 (dk_at dksX5_steps_0 14 rfl rfl)
theorem dX5_steps_15 : decode cX5_steps 15 = .ok (.getfield 21, 3) := dk_180 0 21 (dk_at dksX5_steps_0 15 rfl rfl)
theorem dX5_steps_18 : decode cX5_steps 18 = .ok (.iload_n 2, 1) := dk_28 (dk_at dksX5_steps_0 18 rfl rfl)
theorem dX5_steps_19 : decode cX5_steps 19 = .ok (.iaload, 1) := dk_46 (dk_at dksX5_steps_0 19 rfl rfl)
theorem dX5_steps_20 : decode cX5_steps 20 = .ok (.if_icmp .eq 32, 3) := dk_159 0 32 (dk_at dksX5_steps_0 20 rfl rfl)
theorem dX5_steps_23 : decode cX5_steps 23 = .ok (.aload_n 1, 1) := dk_43 (dk_at dksX5_steps_0 23 rfl rfl)
theorem dX5_steps_24 : decode cX5_steps 24 = .ok (.aload_n 0, 1) := dk_42 (dk_at dksX5_steps_1 0 rfl rfl)
theorem dX5_steps_25 : decode cX5_steps 25 = .ok (.getfield 9, 3) := dk_180 0 9 (dk_at dksX5_steps_1 1 rfl rfl)
theorem dX5_steps_28 : decode cX5_steps 28 = .ok (.iload_n 2, 1) := dk_28 (dk_at dksX5_steps_1 4 rfl rfl)
theorem dX5_steps_29 : decode cX5_steps 29 = .ok (.iaload, 1) := dk_46 (dk_at dksX5_steps_1 5 rfl rfl)
theorem dX5_steps_30 : decode cX5_steps 30 = .ok (.iload_n 3, 1) := dk_29 (dk_at dksX5_steps_1 6 rfl rfl)
theorem dX5_steps_31 : decode cX5_steps 31 = .ok (.invokestatic 106, 3) := dk_184 0 106 (dk_at dksX5_steps_1 7 rfl rfl)
theorem dX5_steps_34 : decode cX5_steps 34 = .ok (.iadd, 1) := dk_96 (dk_at dksX5_steps_1 10 rfl rfl)
theorem dX5_steps_35 : decode cX5_steps 35 = .ok (.aload_n 0, 1) := dk_42 (dk_at dksX5_steps_1 11 rfl rfl)
theorem dX5_steps_36 : decode cX5_steps 36 = .ok (.getfield 15, 3) := dk_180 0 15 (dk_at dksX5_steps_1 12 rfl rfl)
theorem dX5_steps_39 : decode cX5_steps 39 = .ok (.iload_n 2, 1) := dk_28 (dk_at dksX5_steps_1 15 rfl rfl)
theorem dX5_steps_40 : decode cX5_steps 40 = .ok (.iaload, 1) := dk_46 (dk_at dksX5_steps_1 16 rfl rfl)
theorem dX5_steps_41 : decode cX5_steps 41 = .ok (.iload_n 3, 1) := dk_29 (dk_at dksX5_steps_1 17 rfl rfl)
theorem dX5_steps_42 : decode cX5_steps 42 = .ok (.invokestatic 110, 3) := dk_184 0 110 (dk_at dksX5_steps_1 18 rfl rfl)
theorem dX5_steps_45 : decode cX5_steps 45 = .ok (.iadd, 1) := dk_96 (dk_at dksX5_steps_1 21 rfl rfl)
theorem dX5_steps_46 : decode cX5_steps 46 = .ok (.invokevirtual 113, 3) := dk_182 0 113 (dk_at dksX5_steps_2 0 rfl rfl)
theorem dX5_steps_49 : decode cX5_steps 49 = .ok (.ifCond .ne 5, 3) := dk_154 0 5 (dk_at dksX5_steps_2 3 rfl rfl)
theorem dX5_steps_52 : decode cX5_steps 52 = .ok (.iconst 0, 1) := dk_3 (dk_at dksX5_steps_2 6 rfl rfl)
theorem dX5_steps_53 : decode cX5_steps 53 = .ok (.ireturn, 1) := dk_172 (dk_at dksX5_steps_2 7 rfl rfl)
theorem dX5_steps_54 : decode cX5_steps 54 = .ok (.aload_n 0, 1) := dk_42 (dk_at dksX5_steps_2 8 rfl rfl)
theorem dX5_steps_55 : decode cX5_steps 55 = .ok (.getfield 26, 3) := dk_180 0 26 (dk_at dksX5_steps_2 9 rfl rfl)
theorem dX5_steps_58 : decode cX5_steps 58 = .ok (.iload_n 2, 1) := dk_28 (dk_at dksX5_steps_2 12 rfl rfl)
theorem dX5_steps_59 : decode cX5_steps 59 = .ok (.aaload, 1) := dk_50 (dk_at dksX5_steps_2 13 rfl rfl)
theorem dX5_steps_60 : decode cX5_steps 60 = .ok (.aload_n 0, 1) := dk_42 (dk_at dksX5_steps_2 14 rfl rfl)
theorem dX5_steps_61 : decode cX5_steps 61 = .ok (.getfield 18, 3) := dk_180 0 18 (dk_at dksX5_steps_2 15 rfl rfl)
theorem dX5_steps_64 : decode cX5_steps 64 = .ok (.iload_n 2, 1) := dk_28 (dk_at dksX5_steps_2 18 rfl rfl)
theorem dX5_steps_65 : decode cX5_steps 65 = .ok (.iaload, 1) := dk_46 (dk_at dksX5_steps_2 19 rfl rfl)
theorem dX5_steps_66 : decode cX5_steps 66 = .ok (.iload_n 3, 1) := dk_29 (dk_at dksX5_steps_2 20 rfl rfl)
theorem dX5_steps_67 : decode cX5_steps 67 = .ok (.iastore, 1) := dk_79 (dk_at dksX5_steps_2 21 rfl rfl)
theorem dX5_steps_68 : decode cX5_steps 68 = .ok (.aload_n 0, 1) := dk_42 (dk_at dksX5_steps_2 22 rfl rfl)
theorem dX5_steps_69 : decode cX5_steps 69 = .ok (.getfield 29, 3) := dk_180 0 29 (dk_at dksX5_steps_3 0 rfl rfl)
theorem dX5_steps_72 : decode cX5_steps 72 = .ok (.iload_n 2, 1) := dk_28 (dk_at dksX5_steps_3 3 rfl rfl)
theorem dX5_steps_73 : decode cX5_steps 73 = .ok (.aaload, 1) := dk_50 (dk_at dksX5_steps_3 4 rfl rfl)
theorem dX5_steps_74 : decode cX5_steps 74 = .ok (.aload_n 0, 1) := dk_42 (dk_at dksX5_steps_3 5 rfl rfl)
theorem dX5_steps_75 : decode cX5_steps 75 = .ok (.getfield 18, 3) := dk_180 0 18 (dk_at dksX5_steps_3 6 rfl rfl)
theorem dX5_steps_78 : decode cX5_steps 78 = .ok (.iload_n 2, 1) := dk_28 (dk_at dksX5_steps_3 9 rfl rfl)
theorem dX5_steps_79 : decode cX5_steps 79 = .ok (.iaload, 1) := dk_46 (dk_at dksX5_steps_3 10 rfl rfl)
theorem dX5_steps_80 : decode cX5_steps 80 = .ok (.aload_n 0, 1) := dk_42 (dk_at dksX5_steps_3 11 rfl rfl)
theorem dX5_steps_81 : decode cX5_steps 81 = .ok (.getfield 9, 3) := dk_180 0 9 (dk_at dksX5_steps_3 12 rfl rfl)
theorem dX5_steps_84 : decode cX5_steps 84 = .ok (.iload_n 2, 1) := dk_28 (dk_at dksX5_steps_3 15 rfl rfl)
theorem dX5_steps_85 : decode cX5_steps 85 = .ok (.iaload, 1) := dk_46 (dk_at dksX5_steps_3 16 rfl rfl)
theorem dX5_steps_86 : decode cX5_steps 86 = .ok (.aload_n 0, 1) := dk_42 (dk_at dksX5_steps_3 17 rfl rfl)
theorem dX5_steps_87 : decode cX5_steps 87 = .ok (.getfield 15, 3) := dk_180 0 15 (dk_at dksX5_steps_3 18 rfl rfl)
theorem dX5_steps_90 : decode cX5_steps 90 = .ok (.iload_n 2, 1) := dk_28 (dk_at dksX5_steps_3 21 rfl rfl)
theorem dX5_steps_91 : decode cX5_steps 91 = .ok (.iaload, 1) := dk_46 (dk_at dksX5_steps_3 22 rfl rfl)
theorem dX5_steps_92 : decode cX5_steps 92 = .ok (.iload_n 3, 1) := dk_29 (dk_at dksX5_steps_3 23 rfl rfl)
theorem dX5_steps_93 : decode cX5_steps 93 = .ok (.invokestatic 117, 3) := dk_184 0 117 (dk_at dksX5_steps_4 0 rfl rfl)
theorem dX5_steps_96 : decode cX5_steps 96 = .ok (.iastore, 1) := dk_79 (dk_at dksX5_steps_4 3 rfl rfl)
theorem dX5_steps_97 : decode cX5_steps 97 = .ok (.aload_n 0, 1) := dk_42 (dk_at dksX5_steps_4 4 rfl rfl)
theorem dX5_steps_98 : decode cX5_steps 98 = .ok (.getfield 32, 3) := dk_180 0 32 (dk_at dksX5_steps_4 5 rfl rfl)
theorem dX5_steps_101 : decode cX5_steps 101 = .ok (.iload_n 2, 1) := dk_28 (dk_at dksX5_steps_4 8 rfl rfl)
theorem dX5_steps_102 : decode cX5_steps 102 = .ok (.aaload, 1) := dk_50 (dk_at dksX5_steps_4 9 rfl rfl)
theorem dX5_steps_103 : decode cX5_steps 103 = .ok (.aload_n 0, 1) := dk_42 (dk_at dksX5_steps_4 10 rfl rfl)
theorem dX5_steps_104 : decode cX5_steps 104 = .ok (.getfield 18, 3) := dk_180 0 18 (dk_at dksX5_steps_4 11 rfl rfl)
theorem dX5_steps_107 : decode cX5_steps 107 = .ok (.iload_n 2, 1) := dk_28 (dk_at dksX5_steps_4 14 rfl rfl)
theorem dX5_steps_108 : decode cX5_steps 108 = .ok (.iaload, 1) := dk_46 (dk_at dksX5_steps_4 15 rfl rfl)
theorem dX5_steps_109 : decode cX5_steps 109 = .ok (.aload_n 0, 1) := dk_42 (dk_at dksX5_steps_4 16 rfl rfl)
theorem dX5_steps_110 : decode cX5_steps 110 = .ok (.getfield 49, 3) := dk_180 0 49 (dk_at dksX5_steps_4 17 rfl rfl)
theorem dX5_steps_113 : decode cX5_steps 113 = .ok (.iastore, 1) := dk_79 (dk_at dksX5_steps_4 20 rfl rfl)
theorem dX5_steps_114 : decode cX5_steps 114 = .ok (.aload_n 0, 1) := dk_42 (dk_at dksX5_steps_4 21 rfl rfl)
theorem dX5_steps_115 : decode cX5_steps 115 = .ok (.getfield 18, 3) := dk_180 0 18 (dk_at dksX5_steps_5 0 rfl rfl)
theorem dX5_steps_118 : decode cX5_steps 118 = .ok (.iload_n 2, 1) := dk_28 (dk_at dksX5_steps_5 3 rfl rfl)
theorem dX5_steps_119 : decode cX5_steps 119 = .ok (.dup2, 1) := dk_92 (dk_at dksX5_steps_5 4 rfl rfl)
theorem dX5_steps_120 : decode cX5_steps 120 = .ok (.iaload, 1) := dk_46 (dk_at dksX5_steps_5 5 rfl rfl)
theorem dX5_steps_121 : decode cX5_steps 121 = .ok (.iconst 1, 1) := dk_4 (dk_at dksX5_steps_5 6 rfl rfl)
theorem dX5_steps_122 : decode cX5_steps 122 = .ok (.iadd, 1) := dk_96 (dk_at dksX5_steps_5 7 rfl rfl)
theorem dX5_steps_123 : decode cX5_steps 123 = .ok (.iastore, 1) := dk_79 (dk_at dksX5_steps_5 8 rfl rfl)
theorem dX5_steps_124 : decode cX5_steps 124 = .ok (.aload_n 0, 1) := dk_42 (dk_at dksX5_steps_5 9 rfl rfl)
theorem dX5_steps_125 : decode cX5_steps 125 = .ok (.dup, 1) := dk_89 (dk_at dksX5_steps_5 10 rfl rfl)
theorem dX5_steps_126 : decode cX5_steps 126 = .ok (.getfield 49, 3) := dk_180 0 49 (dk_at dksX5_steps_5 11 rfl rfl)
theorem dX5_steps_129 : decode cX5_steps 129 = .ok (.iconst 1, 1) := dk_4 (dk_at dksX5_steps_5 14 rfl rfl)
theorem dX5_steps_130 : decode cX5_steps 130 = .ok (.iadd, 1) := dk_96 (dk_at dksX5_steps_5 15 rfl rfl)
theorem dX5_steps_131 : decode cX5_steps 131 = .ok (.putfield 49, 3) := dk_181 0 49 (dk_at dksX5_steps_5 16 rfl rfl)
theorem dX5_steps_134 : decode cX5_steps 134 = .ok (.aload_n 0, 1) := dk_42 (dk_at dksX5_steps_5 19 rfl rfl)
theorem dX5_steps_135 : decode cX5_steps 135 = .ok (.getfield 9, 3) := dk_180 0 9 (dk_at dksX5_steps_5 20 rfl rfl)
theorem dX5_steps_138 : decode cX5_steps 138 = .ok (.iload_n 2, 1) := dk_28 (dk_at dksX5_steps_5 23 rfl rfl)
theorem dX5_steps_139 : decode cX5_steps 139 = .ok (.dup2, 1) := dk_92 (dk_at dksX5_steps_6 0 rfl rfl)
theorem dX5_steps_140 : decode cX5_steps 140 = .ok (.iaload, 1) := dk_46 (dk_at dksX5_steps_6 1 rfl rfl)
theorem dX5_steps_141 : decode cX5_steps 141 = .ok (.iload_n 3, 1) := dk_29 (dk_at dksX5_steps_6 2 rfl rfl)
theorem dX5_steps_142 : decode cX5_steps 142 = .ok (.invokestatic 106, 3) := dk_184 0 106 (dk_at dksX5_steps_6 3 rfl rfl)
theorem dX5_steps_145 : decode cX5_steps 145 = .ok (.iadd, 1) := dk_96 (dk_at dksX5_steps_6 6 rfl rfl)
theorem dX5_steps_146 : decode cX5_steps 146 = .ok (.iastore, 1) := dk_79 (dk_at dksX5_steps_6 7 rfl rfl)
theorem dX5_steps_147 : decode cX5_steps 147 = .ok (.aload_n 0, 1) := dk_42 (dk_at dksX5_steps_6 8 rfl rfl)
theorem dX5_steps_148 : decode cX5_steps 148 = .ok (.getfield 15, 3) := dk_180 0 15 (dk_at dksX5_steps_6 9 rfl rfl)
theorem dX5_steps_151 : decode cX5_steps 151 = .ok (.iload_n 2, 1) := dk_28 (dk_at dksX5_steps_6 12 rfl rfl)
theorem dX5_steps_152 : decode cX5_steps 152 = .ok (.dup2, 1) := dk_92 (dk_at dksX5_steps_6 13 rfl rfl)
theorem dX5_steps_153 : decode cX5_steps 153 = .ok (.iaload, 1) := dk_46 (dk_at dksX5_steps_6 14 rfl rfl)
theorem dX5_steps_154 : decode cX5_steps 154 = .ok (.iload_n 3, 1) := dk_29 (dk_at dksX5_steps_6 15 rfl rfl)
theorem dX5_steps_155 : decode cX5_steps 155 = .ok (.invokestatic 110, 3) := dk_184 0 110 (dk_at dksX5_steps_6 16 rfl rfl)
theorem dX5_steps_158 : decode cX5_steps 158 = .ok (.iadd, 1) := dk_96 (dk_at dksX5_steps_6 19 rfl rfl)
theorem dX5_steps_159 : decode cX5_steps 159 = .ok (.iastore, 1) := dk_79 (dk_at dksX5_steps_6 20 rfl rfl)
theorem dX5_steps_160 : decode cX5_steps 160 = .ok (.iconst 1, 1) := dk_4 (dk_at dksX5_steps_6 21 rfl rfl)
theorem dX5_steps_161 : decode cX5_steps 161 = .ok (.ireturn, 1) := dk_172 (dk_at dksX5_steps_6 22 rfl rfl)
abbrev cX5_winds : ByteArray := prog_8_method_8_code
def yX5_winds : MethodName := ⟨RX5, "winds", "(I)Z"⟩
def dkwX5_winds_3 : List UInt8 := [100, 79, 42, 180, 0, 15, 27, 92, 46, 28, 184, 0, 110, 100, 79, 4, 172]
abbrev dktX5_winds_3 : List UInt8 := dkwX5_winds_3 ++ []
def dkwX5_winds_2 : List UInt8 := [180, 0, 26, 27, 50, 42, 180, 0, 18, 27, 46, 46, 61, 42, 180, 0, 9, 27, 92, 46, 28, 184, 0, 106]
abbrev dktX5_winds_2 : List UInt8 := dkwX5_winds_2 ++ dktX5_winds_3
def dkwX5_winds_1 : List UInt8 := [46, 4, 100, 4, 182, 0, 121, 158, 0, 5, 3, 172, 42, 180, 0, 18, 27, 92, 46, 4, 100, 79, 42]
abbrev dktX5_winds_1 : List UInt8 := dkwX5_winds_1 ++ dktX5_winds_2
def dkwX5_winds_0 : List UInt8 := [42, 27, 182, 0, 102, 154, 0, 29, 42, 180, 0, 18, 27, 46, 153, 0, 20, 42, 27, 42, 180, 0, 18, 27]
abbrev dktX5_winds_0 : List UInt8 := dkwX5_winds_0 ++ dktX5_winds_1
theorem dksX5_winds_0 : cX5_winds.data.toList.drop 0 = dktX5_winds_0 := by decide +kernel
theorem dksX5_winds_1 : cX5_winds.data.toList.drop 24 = dktX5_winds_1 := dk_seg dksX5_winds_0 24 rfl rfl
theorem dksX5_winds_2 : cX5_winds.data.toList.drop 47 = dktX5_winds_2 := dk_seg dksX5_winds_1 23 rfl rfl
theorem dksX5_winds_3 : cX5_winds.data.toList.drop 71 = dktX5_winds_3 := dk_seg dksX5_winds_2 24 rfl rfl
theorem dX5_winds_0 : decode cX5_winds 0 = .ok (.aload_n 0, 1) := dk_42 (dk_at dksX5_winds_0 0 rfl rfl)
theorem dX5_winds_1 : decode cX5_winds 1 = .ok (.iload_n 1, 1) := dk_27 (dk_at dksX5_winds_0 1 rfl rfl)
theorem dX5_winds_2 : decode cX5_winds 2 = .ok (.invokevirtual 102, 3) := dk_182 0 102 (dk_at dksX5_winds_0 2 rfl rfl)
theorem dX5_winds_5 : decode cX5_winds 5 = .ok (.ifCond .ne 29, 3) := dk_154 0 29 (dk_at dksX5_winds_0 5 rfl rfl)
theorem dX5_winds_8 : decode cX5_winds 8 = .ok (.aload_n 0, 1) := dk_42 (dk_at dksX5_winds_0 8 rfl rfl)
theorem dX5_winds_9 : decode cX5_winds 9 = .ok (.getfield 18, 3) := dk_180 0 18 (dk_at dksX5_winds_0 9 rfl rfl)
theorem dX5_winds_12 : decode cX5_winds 12 = .ok (.iload_n 1, 1) := dk_27 (dk_at dksX5_winds_0 12 rfl rfl)
theorem dX5_winds_13 : decode cX5_winds 13 = .ok (.iaload, 1) := dk_46 (dk_at dksX5_winds_0 13 rfl rfl)
theorem dX5_winds_14 : decode cX5_winds 14 = .ok (.ifCond .eq 20, 3) := dk_153 0 20 (dk_at dksX5_winds_0 14 rfl rfl)
theorem dX5_winds_17 : decode cX5_winds 17 = .ok (.aload_n 0, 1) := dk_42 (dk_at dksX5_winds_0 17 rfl rfl)
theorem dX5_winds_18 : decode cX5_winds 18 = .ok (.iload_n 1, 1) := dk_27 (dk_at dksX5_winds_0 18 rfl rfl)
theorem dX5_winds_19 : decode cX5_winds 19 = .ok (.aload_n 0, 1) := dk_42 (dk_at dksX5_winds_0 19 rfl rfl)
theorem dX5_winds_20 : decode cX5_winds 20 = .ok (.getfield 18, 3) := dk_180 0 18 (dk_at dksX5_winds_0 20 rfl rfl)
theorem dX5_winds_23 : decode cX5_winds 23 = .ok (.iload_n 1, 1) := dk_27 (dk_at dksX5_winds_0 23 rfl rfl)
theorem dX5_winds_24 : decode cX5_winds 24 = .ok (.iaload, 1) := dk_46 (dk_at dksX5_winds_1 0 rfl rfl)
theorem dX5_winds_25 : decode cX5_winds 25 = .ok (.iconst 1, 1) := dk_4 (dk_at dksX5_winds_1 1 rfl rfl)
theorem dX5_winds_26 : decode cX5_winds 26 = .ok (.isub, 1) := dk_100 (dk_at dksX5_winds_1 2 rfl rfl)
theorem dX5_winds_27 : decode cX5_winds 27 = .ok (.iconst 1, 1) := dk_4 (dk_at dksX5_winds_1 3 rfl rfl)
theorem dX5_winds_28 : decode cX5_winds 28 = .ok (.invokevirtual 121, 3) := dk_182 0 121 (dk_at dksX5_winds_1 4 rfl rfl)
theorem dX5_winds_31 : decode cX5_winds 31 = .ok (.ifCond .le 5, 3) := dk_158 0 5 (dk_at dksX5_winds_1 7 rfl rfl)
theorem dX5_winds_34 : decode cX5_winds 34 = .ok (.iconst 0, 1) := dk_3 (dk_at dksX5_winds_1 10 rfl rfl)
theorem dX5_winds_35 : decode cX5_winds 35 = .ok (.ireturn, 1) := dk_172 (dk_at dksX5_winds_1 11 rfl rfl)
theorem dX5_winds_36 : decode cX5_winds 36 = .ok (.aload_n 0, 1) := dk_42 (dk_at dksX5_winds_1 12 rfl rfl)
theorem dX5_winds_37 : decode cX5_winds 37 = .ok (.getfield 18, 3) := dk_180 0 18 (dk_at dksX5_winds_1 13 rfl rfl)
theorem dX5_winds_40 : decode cX5_winds 40 = .ok (.iload_n 1, 1) := dk_27 (dk_at dksX5_winds_1 16 rfl rfl)
theorem dX5_winds_41 : decode cX5_winds 41 = .ok (.dup2, 1) := dk_92 (dk_at dksX5_winds_1 17 rfl rfl)
theorem dX5_winds_42 : decode cX5_winds 42 = .ok (.iaload, 1) := dk_46 (dk_at dksX5_winds_1 18 rfl rfl)
theorem dX5_winds_43 : decode cX5_winds 43 = .ok (.iconst 1, 1) := dk_4 (dk_at dksX5_winds_1 19 rfl rfl)
theorem dX5_winds_44 : decode cX5_winds 44 = .ok (.isub, 1) := dk_100 (dk_at dksX5_winds_1 20 rfl rfl)
theorem dX5_winds_45 : decode cX5_winds 45 = .ok (.iastore, 1) := dk_79 (dk_at dksX5_winds_1 21 rfl rfl)
theorem dX5_winds_46 : decode cX5_winds 46 = .ok (.aload_n 0, 1) := dk_42 (dk_at dksX5_winds_1 22 rfl rfl)
theorem dX5_winds_47 : decode cX5_winds 47 = .ok (.getfield 26, 3) := dk_180 0 26 (dk_at dksX5_winds_2 0 rfl rfl)
theorem dX5_winds_50 : decode cX5_winds 50 = .ok (.iload_n 1, 1) := dk_27 (dk_at dksX5_winds_2 3 rfl rfl)
theorem dX5_winds_51 : decode cX5_winds 51 = .ok (.aaload, 1) := dk_50 (dk_at dksX5_winds_2 4 rfl rfl)
theorem dX5_winds_52 : decode cX5_winds 52 = .ok (.aload_n 0, 1) := dk_42 (dk_at dksX5_winds_2 5 rfl rfl)
theorem dX5_winds_53 : decode cX5_winds 53 = .ok (.getfield 18, 3) := dk_180 0 18 (dk_at dksX5_winds_2 6 rfl rfl)
theorem dX5_winds_56 : decode cX5_winds 56 = .ok (.iload_n 1, 1) := dk_27 (dk_at dksX5_winds_2 9 rfl rfl)
theorem dX5_winds_57 : decode cX5_winds 57 = .ok (.iaload, 1) := dk_46 (dk_at dksX5_winds_2 10 rfl rfl)
theorem dX5_winds_58 : decode cX5_winds 58 = .ok (.iaload, 1) := dk_46 (dk_at dksX5_winds_2 11 rfl rfl)
theorem dX5_winds_59 : decode cX5_winds 59 = .ok (.istore_n 2, 1) := dk_61 (dk_at dksX5_winds_2 12 rfl rfl)
theorem dX5_winds_60 : decode cX5_winds 60 = .ok (.aload_n 0, 1) := dk_42 (dk_at dksX5_winds_2 13 rfl rfl)
theorem dX5_winds_61 : decode cX5_winds 61 = .ok (.getfield 9, 3) := dk_180 0 9 (dk_at dksX5_winds_2 14 rfl rfl)
theorem dX5_winds_64 : decode cX5_winds 64 = .ok (.iload_n 1, 1) := dk_27 (dk_at dksX5_winds_2 17 rfl rfl)
theorem dX5_winds_65 : decode cX5_winds 65 = .ok (.dup2, 1) := dk_92 (dk_at dksX5_winds_2 18 rfl rfl)
theorem dX5_winds_66 : decode cX5_winds 66 = .ok (.iaload, 1) := dk_46 (dk_at dksX5_winds_2 19 rfl rfl)
theorem dX5_winds_67 : decode cX5_winds 67 = .ok (.iload_n 2, 1) := dk_28 (dk_at dksX5_winds_2 20 rfl rfl)
theorem dX5_winds_68 : decode cX5_winds 68 = .ok (.invokestatic 106, 3) := dk_184 0 106 (dk_at dksX5_winds_2 21 rfl rfl)
theorem dX5_winds_71 : decode cX5_winds 71 = .ok (.isub, 1) := dk_100 (dk_at dksX5_winds_3 0 rfl rfl)
theorem dX5_winds_72 : decode cX5_winds 72 = .ok (.iastore, 1) := dk_79 (dk_at dksX5_winds_3 1 rfl rfl)
theorem dX5_winds_73 : decode cX5_winds 73 = .ok (.aload_n 0, 1) := dk_42 (dk_at dksX5_winds_3 2 rfl rfl)
theorem dX5_winds_74 : decode cX5_winds 74 = .ok (.getfield 15, 3) := dk_180 0 15 (dk_at dksX5_winds_3 3 rfl rfl)
theorem dX5_winds_77 : decode cX5_winds 77 = .ok (.iload_n 1, 1) := dk_27 (dk_at dksX5_winds_3 6 rfl rfl)
theorem dX5_winds_78 : decode cX5_winds 78 = .ok (.dup2, 1) := dk_92 (dk_at dksX5_winds_3 7 rfl rfl)
theorem dX5_winds_79 : decode cX5_winds 79 = .ok (.iaload, 1) := dk_46 (dk_at dksX5_winds_3 8 rfl rfl)
theorem dX5_winds_80 : decode cX5_winds 80 = .ok (.iload_n 2, 1) := dk_28 (dk_at dksX5_winds_3 9 rfl rfl)
theorem dX5_winds_81 : decode cX5_winds 81 = .ok (.invokestatic 110, 3) := dk_184 0 110 (dk_at dksX5_winds_3 10 rfl rfl)
theorem dX5_winds_84 : decode cX5_winds 84 = .ok (.isub, 1) := dk_100 (dk_at dksX5_winds_3 13 rfl rfl)
theorem dX5_winds_85 : decode cX5_winds 85 = .ok (.iastore, 1) := dk_79 (dk_at dksX5_winds_3 14 rfl rfl)
theorem dX5_winds_86 : decode cX5_winds 86 = .ok (.iconst 1, 1) := dk_4 (dk_at dksX5_winds_3 15 rfl rfl)
theorem dX5_winds_87 : decode cX5_winds 87 = .ok (.ireturn, 1) := dk_172 (dk_at dksX5_winds_3 16 rfl rfl)
abbrev cX5_cuts : ByteArray := prog_8_method_10_code
def yX5_cuts : MethodName := ⟨RX5, "cuts", "(I)I"⟩
def dkwX5_cuts_1 : List UInt8 := [181, 0, 42, 28, 172]
abbrev dktX5_cuts_1 : List UInt8 := dkwX5_cuts_1 ++ []
def dkwX5_cuts_0 : List UInt8 := [42, 180, 0, 18, 27, 46, 61, 42, 180, 0, 18, 27, 3, 79, 42, 89, 180, 0, 42, 4, 27, 120, 128]
abbrev dktX5_cuts_0 : List UInt8 := dkwX5_cuts_0 ++ dktX5_cuts_1
theorem dksX5_cuts_0 : cX5_cuts.data.toList.drop 0 = dktX5_cuts_0 := by decide +kernel
theorem dksX5_cuts_1 : cX5_cuts.data.toList.drop 23 = dktX5_cuts_1 := dk_seg dksX5_cuts_0 23 rfl rfl
theorem dX5_cuts_0 : decode cX5_cuts 0 = .ok (.aload_n 0, 1) := dk_42 (dk_at dksX5_cuts_0 0 rfl rfl)
theorem dX5_cuts_1 : decode cX5_cuts 1 = .ok (.getfield 18, 3) := dk_180 0 18 (dk_at dksX5_cuts_0 1 rfl rfl)
theorem dX5_cuts_4 : decode cX5_cuts 4 = .ok (.iload_n 1, 1) := dk_27 (dk_at dksX5_cuts_0 4 rfl rfl)
theorem dX5_cuts_5 : decode cX5_cuts 5 = .ok (.iaload, 1) := dk_46 (dk_at dksX5_cuts_0 5 rfl rfl)
theorem dX5_cuts_6 : decode cX5_cuts 6 = .ok (.istore_n 2, 1) := dk_61 (dk_at dksX5_cuts_0 6 rfl rfl)
theorem dX5_cuts_7 : decode cX5_cuts 7 = .ok (.aload_n 0, 1) := dk_42 (dk_at dksX5_cuts_0 7 rfl rfl)
theorem dX5_cuts_8 : decode cX5_cuts 8 = .ok (.getfield 18, 3) := dk_180 0 18 (dk_at dksX5_cuts_0 8 rfl rfl)
theorem dX5_cuts_11 : decode cX5_cuts 11 = .ok (.iload_n 1, 1) := dk_27 (dk_at dksX5_cuts_0 11 rfl rfl)
theorem dX5_cuts_12 : decode cX5_cuts 12 = .ok (.iconst 0, 1) := dk_3 (dk_at dksX5_cuts_0 12 rfl rfl)
theorem dX5_cuts_13 : decode cX5_cuts 13 = .ok (.iastore, 1) := dk_79 (dk_at dksX5_cuts_0 13 rfl rfl)
theorem dX5_cuts_14 : decode cX5_cuts 14 = .ok (.aload_n 0, 1) := dk_42 (dk_at dksX5_cuts_0 14 rfl rfl)
theorem dX5_cuts_15 : decode cX5_cuts 15 = .ok (.dup, 1) := dk_89 (dk_at dksX5_cuts_0 15 rfl rfl)
theorem dX5_cuts_16 : decode cX5_cuts 16 = .ok (.getfield 42, 3) := dk_180 0 42 (dk_at dksX5_cuts_0 16 rfl rfl)
theorem dX5_cuts_19 : decode cX5_cuts 19 = .ok (.iconst 1, 1) := dk_4 (dk_at dksX5_cuts_0 19 rfl rfl)
theorem dX5_cuts_20 : decode cX5_cuts 20 = .ok (.iload_n 1, 1) := dk_27 (dk_at dksX5_cuts_0 20 rfl rfl)
theorem dX5_cuts_21 : decode cX5_cuts 21 = .ok (.ishl, 1) := dk_120 (dk_at dksX5_cuts_0 21 rfl rfl)
theorem dX5_cuts_22 : decode cX5_cuts 22 = .ok (.ior, 1) := dk_128 (dk_at dksX5_cuts_0 22 rfl rfl)
theorem dX5_cuts_23 : decode cX5_cuts 23 = .ok (.putfield 42, 3) := dk_181 0 42 (dk_at dksX5_cuts_1 0 rfl rfl)
theorem dX5_cuts_26 : decode cX5_cuts 26 = .ok (.iload_n 2, 1) := dk_28 (dk_at dksX5_cuts_1 3 rfl rfl)
theorem dX5_cuts_27 : decode cX5_cuts 27 = .ok (.ireturn, 1) := dk_172 (dk_at dksX5_cuts_1 4 rfl rfl)
abbrev cX5_minute : ByteArray := prog_8_method_13_code
def yX5_minute : MethodName := ⟨RX5, "minute", "(LThreadTown$Text;)V"⟩
def dkwX5_minute_1 : List UInt8 := [167, 255, 235, 42, 89, 180, 0, 46, 4, 96, 181, 0, 46, 177]
abbrev dktX5_minute_1 : List UInt8 := dkwX5_minute_1 ++ []
def dkwX5_minute_0 : List UInt8 := [3, 61, 28, 43, 180, 0, 52, 182, 0, 58, 162, 0, 16, 42, 43, 28, 3, 182, 0, 145, 132, 2, 1]
abbrev dktX5_minute_0 : List UInt8 := dkwX5_minute_0 ++ dktX5_minute_1
theorem dksX5_minute_0 : cX5_minute.data.toList.drop 0 = dktX5_minute_0 := by decide +kernel
theorem dksX5_minute_1 : cX5_minute.data.toList.drop 23 = dktX5_minute_1 := dk_seg dksX5_minute_0 23 rfl rfl
theorem dX5_minute_0 : decode cX5_minute 0 = .ok (.iconst 0, 1) := dk_3 (dk_at dksX5_minute_0 0 rfl rfl)
theorem dX5_minute_1 : decode cX5_minute 1 = .ok (.istore_n 2, 1) := dk_61 (dk_at dksX5_minute_0 1 rfl rfl)
theorem dX5_minute_2 : decode cX5_minute 2 = .ok (.iload_n 2, 1) := dk_28 (dk_at dksX5_minute_0 2 rfl rfl)
theorem dX5_minute_3 : decode cX5_minute 3 = .ok (.aload_n 1, 1) := dk_43 (dk_at dksX5_minute_0 3 rfl rfl)
theorem dX5_minute_4 : decode cX5_minute 4 = .ok (.getfield 52, 3) := dk_180 0 52 (dk_at dksX5_minute_0 4 rfl rfl)
theorem dX5_minute_7 : decode cX5_minute 7 = .ok (.invokevirtual 58, 3) := dk_182 0 58 (dk_at dksX5_minute_0 7 rfl rfl)
theorem dX5_minute_10 : decode cX5_minute 10 = .ok (.if_icmp .ge 16, 3) := dk_162 0 16 (dk_at dksX5_minute_0 10 rfl rfl)
theorem dX5_minute_13 : decode cX5_minute 13 = .ok (.aload_n 0, 1) := dk_42 (dk_at dksX5_minute_0 13 rfl rfl)
theorem dX5_minute_14 : decode cX5_minute 14 = .ok (.aload_n 1, 1) := dk_43 (dk_at dksX5_minute_0 14 rfl rfl)
theorem dX5_minute_15 : decode cX5_minute 15 = .ok (.iload_n 2, 1) := dk_28 (dk_at dksX5_minute_0 15 rfl rfl)
theorem dX5_minute_16 : decode cX5_minute 16 = .ok (.iconst 0, 1) := dk_3 (dk_at dksX5_minute_0 16 rfl rfl)
theorem dX5_minute_17 : decode cX5_minute 17 = .ok (.invokevirtual 145, 3) := dk_182 0 145 (dk_at dksX5_minute_0 17 rfl rfl)
theorem dX5_minute_20 : decode cX5_minute 20 = .ok (.iinc 2 1, 3) := dk_132 2 1 (dk_at dksX5_minute_0 20 rfl rfl)
theorem dX5_minute_23 : decode cX5_minute 23 = .ok (.goto (-21), 3) := dk_167 255 235 (dk_at dksX5_minute_1 0 rfl rfl)
theorem dX5_minute_26 : decode cX5_minute 26 = .ok (.aload_n 0, 1) := dk_42 (dk_at dksX5_minute_1 3 rfl rfl)
theorem dX5_minute_27 : decode cX5_minute 27 = .ok (.dup, 1) := dk_89 (dk_at dksX5_minute_1 4 rfl rfl)
theorem dX5_minute_28 : decode cX5_minute 28 = .ok (.getfield 46, 3) := dk_180 0 46 (dk_at dksX5_minute_1 5 rfl rfl)
theorem dX5_minute_31 : decode cX5_minute 31 = .ok (.iconst 1, 1) := dk_4 (dk_at dksX5_minute_1 8 rfl rfl)
theorem dX5_minute_32 : decode cX5_minute 32 = .ok (.iadd, 1) := dk_96 (dk_at dksX5_minute_1 9 rfl rfl)
theorem dX5_minute_33 : decode cX5_minute 33 = .ok (.putfield 46, 3) := dk_181 0 46 (dk_at dksX5_minute_1 10 rfl rfl)
theorem dX5_minute_36 : decode cX5_minute 36 = .ok (.return_, 1) := dk_177 (dk_at dksX5_minute_1 13 rfl rfl)
abbrev cX5_goes : ByteArray := prog_8_method_12_code
def yX5_goes : MethodName := ⟨RX5, "goes", "(LThreadTown$Text;II)V"⟩
def dkwX5_goes_1 : List UInt8 := [167, 0, 18, 21, 4, 158, 0, 13, 42, 43, 28, 21, 4, 182, 0, 141, 54, 5, 177]
abbrev dktX5_goes_1 : List UInt8 := dkwX5_goes_1 ++ []
def dkwX5_goes_0 : List UInt8 := [42, 43, 28, 29, 182, 0, 134, 54, 4, 21, 4, 8, 160, 0, 13, 42, 28, 182, 0, 138, 54, 5]
abbrev dktX5_goes_0 : List UInt8 := dkwX5_goes_0 ++ dktX5_goes_1
theorem dksX5_goes_0 : cX5_goes.data.toList.drop 0 = dktX5_goes_0 := by decide +kernel
theorem dksX5_goes_1 : cX5_goes.data.toList.drop 22 = dktX5_goes_1 := dk_seg dksX5_goes_0 22 rfl rfl
theorem dX5_goes_0 : decode cX5_goes 0 = .ok (.aload_n 0, 1) := dk_42 (dk_at dksX5_goes_0 0 rfl rfl)
theorem dX5_goes_1 : decode cX5_goes 1 = .ok (.aload_n 1, 1) := dk_43 (dk_at dksX5_goes_0 1 rfl rfl)
theorem dX5_goes_2 : decode cX5_goes 2 = .ok (.iload_n 2, 1) := dk_28 (dk_at dksX5_goes_0 2 rfl rfl)
theorem dX5_goes_3 : decode cX5_goes 3 = .ok (.iload_n 3, 1) := dk_29 (dk_at dksX5_goes_0 3 rfl rfl)
theorem dX5_goes_4 : decode cX5_goes 4 = .ok (.invokevirtual 134, 3) := dk_182 0 134 (dk_at dksX5_goes_0 4 rfl rfl)
theorem dX5_goes_7 : decode cX5_goes 7 = .ok (.istore 4, 2) := dk_54 4 (dk_at dksX5_goes_0 7 rfl rfl)
theorem dX5_goes_9 : decode cX5_goes 9 = .ok (.iload 4, 2) := dk_21 4 (dk_at dksX5_goes_0 9 rfl rfl)
theorem dX5_goes_11 : decode cX5_goes 11 = .ok (.iconst 5, 1) := dk_8 (dk_at dksX5_goes_0 11 rfl rfl)
theorem dX5_goes_12 : decode cX5_goes 12 = .ok (.if_icmp .ne 13, 3) := dk_160 0 13 (dk_at dksX5_goes_0 12 rfl rfl)
theorem dX5_goes_15 : decode cX5_goes 15 = .ok (.aload_n 0, 1) := dk_42 (dk_at dksX5_goes_0 15 rfl rfl)
theorem dX5_goes_16 : decode cX5_goes 16 = .ok (.iload_n 2, 1) := dk_28 (dk_at dksX5_goes_0 16 rfl rfl)
theorem dX5_goes_17 : decode cX5_goes 17 = .ok (.invokevirtual 138, 3) := dk_182 0 138 (dk_at dksX5_goes_0 17 rfl rfl)
theorem dX5_goes_20 : decode cX5_goes 20 = .ok (.istore 5, 2) := dk_54 5 (dk_at dksX5_goes_0 20 rfl rfl)
theorem dX5_goes_22 : decode cX5_goes 22 = .ok (.goto 18, 3) := dk_167 0 18 (dk_at dksX5_goes_1 0 rfl rfl)
theorem dX5_goes_25 : decode cX5_goes 25 = .ok (.iload 4, 2) := dk_21 4 (dk_at dksX5_goes_1 3 rfl rfl)
theorem dX5_goes_27 : decode cX5_goes 27 = .ok (.ifCond .le 13, 3) := dk_158 0 13 (dk_at dksX5_goes_1 5 rfl rfl)
theorem dX5_goes_30 : decode cX5_goes 30 = .ok (.aload_n 0, 1) := dk_42 (dk_at dksX5_goes_1 8 rfl rfl)
theorem dX5_goes_31 : decode cX5_goes 31 = .ok (.aload_n 1, 1) := dk_43 (dk_at dksX5_goes_1 9 rfl rfl)
theorem dX5_goes_32 : decode cX5_goes 32 = .ok (.iload_n 2, 1) := dk_28 (dk_at dksX5_goes_1 10 rfl rfl)
theorem dX5_goes_33 : decode cX5_goes 33 = .ok (.iload 4, 2) := dk_21 4 (dk_at dksX5_goes_1 11 rfl rfl)
theorem dX5_goes_35 : decode cX5_goes 35 = .ok (.invokevirtual 141, 3) := dk_182 0 141 (dk_at dksX5_goes_1 13 rfl rfl)
theorem dX5_goes_38 : decode cX5_goes 38 = .ok (.istore 5, 2) := dk_54 5 (dk_at dksX5_goes_1 16 rfl rfl)
theorem dX5_goes_40 : decode cX5_goes 40 = .ok (.return_, 1) := dk_177 (dk_at dksX5_goes_1 18 rfl rfl)
abbrev cX5_over : ByteArray := prog_8_method_9_code
def yX5_over : MethodName := ⟨RX5, "over", "(II)I"⟩
def dkwX5_over_3 : List UInt8 := [164, 0, 7, 4, 167, 0, 4, 3, 96, 62, 132, 5, 1, 167, 255, 192, 132, 4, 1, 167, 255, 172, 29, 172]
abbrev dktX5_over_3 : List UInt8 := dkwX5_over_3 ++ []
def dkwX5_over_2 : List UInt8 := [21, 5, 46, 160, 0, 28, 42, 180, 0, 32, 27, 50, 21, 4, 46, 42, 180, 0, 32, 28, 50, 21, 5, 46]
abbrev dktX5_over_2 : List UInt8 := dkwX5_over_2 ++ dktX5_over_3
def dkwX5_over_1 : List UInt8 := [180, 0, 18, 28, 46, 162, 0, 59, 29, 42, 180, 0, 29, 27, 50, 21, 4, 46, 42, 180, 0, 29, 28, 50]
abbrev dktX5_over_1 : List UInt8 := dkwX5_over_1 ++ dktX5_over_2
def dkwX5_over_0 : List UInt8 := [3, 62, 3, 54, 4, 21, 4, 42, 180, 0, 18, 27, 46, 162, 0, 79, 3, 54, 5, 21, 5, 42]
abbrev dktX5_over_0 : List UInt8 := dkwX5_over_0 ++ dktX5_over_1
theorem dksX5_over_0 : cX5_over.data.toList.drop 0 = dktX5_over_0 := by decide +kernel
theorem dksX5_over_1 : cX5_over.data.toList.drop 22 = dktX5_over_1 := dk_seg dksX5_over_0 22 rfl rfl
theorem dksX5_over_2 : cX5_over.data.toList.drop 46 = dktX5_over_2 := dk_seg dksX5_over_1 24 rfl rfl
theorem dksX5_over_3 : cX5_over.data.toList.drop 70 = dktX5_over_3 := dk_seg dksX5_over_2 24 rfl rfl
theorem dX5_over_0 : decode cX5_over 0 = .ok (.iconst 0, 1) := dk_3 (dk_at dksX5_over_0 0 rfl rfl)
theorem dX5_over_1 : decode cX5_over 1 = .ok (.istore_n 3, 1) := dk_62 (dk_at dksX5_over_0 1 rfl rfl)
theorem dX5_over_2 : decode cX5_over 2 = .ok (.iconst 0, 1) := dk_3 (dk_at dksX5_over_0 2 rfl rfl)
theorem dX5_over_3 : decode cX5_over 3 = .ok (.istore 4, 2) := dk_54 4 (dk_at dksX5_over_0 3 rfl rfl)
theorem dX5_over_5 : decode cX5_over 5 = .ok (.iload 4, 2) := dk_21 4 (dk_at dksX5_over_0 5 rfl rfl)
theorem dX5_over_7 : decode cX5_over 7 = .ok (.aload_n 0, 1) := dk_42 (dk_at dksX5_over_0 7 rfl rfl)
theorem dX5_over_8 : decode cX5_over 8 = .ok (.getfield 18, 3) := dk_180 0 18 (dk_at dksX5_over_0 8 rfl rfl)
theorem dX5_over_11 : decode cX5_over 11 = .ok (.iload_n 1, 1) := dk_27 (dk_at dksX5_over_0 11 rfl rfl)
theorem dX5_over_12 : decode cX5_over 12 = .ok (.iaload, 1) := dk_46 (dk_at dksX5_over_0 12 rfl rfl)
theorem dX5_over_13 : decode cX5_over 13 = .ok (.if_icmp .ge 79, 3) := dk_162 0 79 (dk_at dksX5_over_0 13 rfl rfl)
theorem dX5_over_16 : decode cX5_over 16 = .ok (.iconst 0, 1) := dk_3 (dk_at dksX5_over_0 16 rfl rfl)
theorem dX5_over_17 : decode cX5_over 17 = .ok (.istore 5, 2) := dk_54 5 (dk_at dksX5_over_0 17 rfl rfl)
theorem dX5_over_19 : decode cX5_over 19 = .ok (.iload 5, 2) := dk_21 5 (dk_at dksX5_over_0 19 rfl rfl)
theorem dX5_over_21 : decode cX5_over 21 = .ok (.aload_n 0, 1) := dk_42 (dk_at dksX5_over_0 21 rfl rfl)
theorem dX5_over_22 : decode cX5_over 22 = .ok (.getfield 18, 3) := dk_180 0 18 (dk_at dksX5_over_1 0 rfl rfl)
theorem dX5_over_25 : decode cX5_over 25 = .ok (.iload_n 2, 1) := dk_28 (dk_at dksX5_over_1 3 rfl rfl)
theorem dX5_over_26 : decode cX5_over 26 = .ok (.iaload, 1) := dk_46 (dk_at dksX5_over_1 4 rfl rfl)
theorem dX5_over_27 : decode cX5_over 27 = .ok (.if_icmp .ge 59, 3) := dk_162 0 59 (dk_at dksX5_over_1 5 rfl rfl)
theorem dX5_over_30 : decode cX5_over 30 = .ok (.iload_n 3, 1) := dk_29 (dk_at dksX5_over_1 8 rfl rfl)
theorem dX5_over_31 : decode cX5_over 31 = .ok (.aload_n 0, 1) := dk_42 (dk_at dksX5_over_1 9 rfl rfl)
theorem dX5_over_32 : decode cX5_over 32 = .ok (.getfield 29, 3) := dk_180 0 29 (dk_at dksX5_over_1 10 rfl rfl)
theorem dX5_over_35 : decode cX5_over 35 = .ok (.iload_n 1, 1) := dk_27 (dk_at dksX5_over_1 13 rfl rfl)
theorem dX5_over_36 : decode cX5_over 36 = .ok (.aaload, 1) := dk_50 (dk_at dksX5_over_1 14 rfl rfl)
theorem dX5_over_37 : decode cX5_over 37 = .ok (.iload 4, 2) := dk_21 4 (dk_at dksX5_over_1 15 rfl rfl)
theorem dX5_over_39 : decode cX5_over 39 = .ok (.iaload, 1) := dk_46 (dk_at dksX5_over_1 17 rfl rfl)
theorem dX5_over_40 : decode cX5_over 40 = .ok (.aload_n 0, 1) := dk_42 (dk_at dksX5_over_1 18 rfl rfl)
theorem dX5_over_41 : decode cX5_over 41 = .ok (.getfield 29, 3) := dk_180 0 29 (dk_at dksX5_over_1 19 rfl rfl)
theorem dX5_over_44 : decode cX5_over 44 = .ok (.iload_n 2, 1) := dk_28 (dk_at dksX5_over_1 22 rfl rfl)
theorem dX5_over_45 : decode cX5_over 45 = .ok (.aaload, 1) := dk_50 (dk_at dksX5_over_1 23 rfl rfl)
theorem dX5_over_46 : decode cX5_over 46 = .ok (.iload 5, 2) := dk_21 5 (dk_at dksX5_over_2 0 rfl rfl)
theorem dX5_over_48 : decode cX5_over 48 = .ok (.iaload, 1) := dk_46 (dk_at dksX5_over_2 2 rfl rfl)
theorem dX5_over_49 : decode cX5_over 49 = .ok (.if_icmp .ne 28, 3) := dk_160 0 28 (dk_at dksX5_over_2 3 rfl rfl)
theorem dX5_over_52 : decode cX5_over 52 = .ok (.aload_n 0, 1) := dk_42 (dk_at dksX5_over_2 6 rfl rfl)
theorem dX5_over_53 : decode cX5_over 53 = .ok (.getfield 32, 3) := dk_180 0 32 (dk_at dksX5_over_2 7 rfl rfl)
theorem dX5_over_56 : decode cX5_over 56 = .ok (.iload_n 1, 1) := dk_27 (dk_at dksX5_over_2 10 rfl rfl)
theorem dX5_over_57 : decode cX5_over 57 = .ok (.aaload, 1) := dk_50 (dk_at dksX5_over_2 11 rfl rfl)
theorem dX5_over_58 : decode cX5_over 58 = .ok (.iload 4, 2) := dk_21 4 (dk_at dksX5_over_2 12 rfl rfl)
theorem dX5_over_60 : decode cX5_over 60 = .ok (.iaload, 1) := dk_46 (dk_at dksX5_over_2 14 rfl rfl)
theorem dX5_over_61 : decode cX5_over 61 = .ok (.aload_n 0, 1) := dk_42 (dk_at dksX5_over_2 15 rfl rfl)
theorem dX5_over_62 : decode cX5_over 62 = .ok (.getfield 32, 3) := dk_180 0 32 (dk_at dksX5_over_2 16 rfl rfl)
theorem dX5_over_65 : decode cX5_over 65 = .ok (.iload_n 2, 1) := dk_28 (dk_at dksX5_over_2 19 rfl rfl)
theorem dX5_over_66 : decode cX5_over 66 = .ok (.aaload, 1) := dk_50 (dk_at dksX5_over_2 20 rfl rfl)
theorem dX5_over_67 : decode cX5_over 67 = .ok (.iload 5, 2) := dk_21 5 (dk_at dksX5_over_2 21 rfl rfl)
theorem dX5_over_69 : decode cX5_over 69 = .ok (.iaload, 1) := dk_46 (dk_at dksX5_over_2 23 rfl rfl)
theorem dX5_over_70 : decode cX5_over 70 = .ok (.if_icmp .le 7, 3) := dk_164 0 7 (dk_at dksX5_over_3 0 rfl rfl)
theorem dX5_over_73 : decode cX5_over 73 = .ok (.iconst 1, 1) := dk_4 (dk_at dksX5_over_3 3 rfl rfl)
theorem dX5_over_74 : decode cX5_over 74 = .ok (.goto 4, 3) := dk_167 0 4 (dk_at dksX5_over_3 4 rfl rfl)
theorem dX5_over_77 : decode cX5_over 77 = .ok (.iconst 0, 1) := dk_3 (dk_at dksX5_over_3 7 rfl rfl)
theorem dX5_over_78 : decode cX5_over 78 = .ok (.iadd, 1) := dk_96 (dk_at dksX5_over_3 8 rfl rfl)
theorem dX5_over_79 : decode cX5_over 79 = .ok (.istore_n 3, 1) := dk_62 (dk_at dksX5_over_3 9 rfl rfl)
theorem dX5_over_80 : decode cX5_over 80 = .ok (.iinc 5 1, 3) := dk_132 5 1 (dk_at dksX5_over_3 10 rfl rfl)
theorem dX5_over_83 : decode cX5_over 83 = .ok (.goto (-64), 3) := dk_167 255 192 (dk_at dksX5_over_3 13 rfl rfl)
theorem dX5_over_86 : decode cX5_over 86 = .ok (.iinc 4 1, 3) := dk_132 4 1 (dk_at dksX5_over_3 16 rfl rfl)
theorem dX5_over_89 : decode cX5_over 89 = .ok (.goto (-84), 3) := dk_167 255 172 (dk_at dksX5_over_3 19 rfl rfl)
theorem dX5_over_92 : decode cX5_over 92 = .ok (.iload_n 3, 1) := dk_29 (dk_at dksX5_over_3 22 rfl rfl)
theorem dX5_over_93 : decode cX5_over 93 = .ok (.ireturn, 1) := dk_172 (dk_at dksX5_over_3 23 rfl rfl)
abbrev cX5_lastLaid : ByteArray := prog_8_method_14_code
def yX5_lastLaid : MethodName := ⟨RX5, "lastLaid", "(I)I"⟩
def dkwX5_lastLaid_1 : List UInt8 := [46, 4, 100, 46, 172]
abbrev dktX5_lastLaid_1 : List UInt8 := dkwX5_lastLaid_1 ++ []
def dkwX5_lastLaid_0 : List UInt8 := [42, 180, 0, 18, 27, 46, 154, 0, 7, 2, 167, 0, 18, 42, 180, 0, 32, 27, 50, 42, 180, 0, 18, 27]
abbrev dktX5_lastLaid_0 : List UInt8 := dkwX5_lastLaid_0 ++ dktX5_lastLaid_1
theorem dksX5_lastLaid_0 : cX5_lastLaid.data.toList.drop 0 = dktX5_lastLaid_0 := by decide +kernel
theorem dksX5_lastLaid_1 : cX5_lastLaid.data.toList.drop 24 = dktX5_lastLaid_1 := dk_seg dksX5_lastLaid_0 24 rfl rfl
theorem dX5_lastLaid_0 : decode cX5_lastLaid 0 = .ok (.aload_n 0, 1) := dk_42 (dk_at dksX5_lastLaid_0 0 rfl rfl)
theorem dX5_lastLaid_1 : decode cX5_lastLaid 1 = .ok (.getfield 18, 3) := dk_180 0 18 (dk_at dksX5_lastLaid_0 1 rfl rfl)
theorem dX5_lastLaid_4 : decode cX5_lastLaid 4 = .ok (.iload_n 1, 1) := dk_27 (dk_at dksX5_lastLaid_0 4 rfl rfl)
theorem dX5_lastLaid_5 : decode cX5_lastLaid 5 = .ok (.iaload, 1) := dk_46 (dk_at dksX5_lastLaid_0 5 rfl rfl)
theorem dX5_lastLaid_6 : decode cX5_lastLaid 6 = .ok (.ifCond .ne 7, 3) := dk_154 0 7 (dk_at dksX5_lastLaid_0 6 rfl rfl)
theorem dX5_lastLaid_9 : decode cX5_lastLaid 9 = .ok (.iconst (-1), 1) := dk_2 (dk_at dksX5_lastLaid_0 9 rfl rfl)
theorem dX5_lastLaid_10 : decode cX5_lastLaid 10 = .ok (.goto 18, 3) := dk_167 0 18 (dk_at dksX5_lastLaid_0 10 rfl rfl)
theorem dX5_lastLaid_13 : decode cX5_lastLaid 13 = .ok (.aload_n 0, 1) := dk_42 (dk_at dksX5_lastLaid_0 13 rfl rfl)
theorem dX5_lastLaid_14 : decode cX5_lastLaid 14 = .ok (.getfield 32, 3) := dk_180 0 32 (dk_at dksX5_lastLaid_0 14 rfl rfl)
theorem dX5_lastLaid_17 : decode cX5_lastLaid 17 = .ok (.iload_n 1, 1) := dk_27 (dk_at dksX5_lastLaid_0 17 rfl rfl)
theorem dX5_lastLaid_18 : decode cX5_lastLaid 18 = .ok (.aaload, 1) := dk_50 (dk_at dksX5_lastLaid_0 18 rfl rfl)
theorem dX5_lastLaid_19 : decode cX5_lastLaid 19 = .ok (.aload_n 0, 1) := dk_42 (dk_at dksX5_lastLaid_0 19 rfl rfl)
theorem dX5_lastLaid_20 : decode cX5_lastLaid 20 = .ok (.getfield 18, 3) := dk_180 0 18 (dk_at dksX5_lastLaid_0 20 rfl rfl)
theorem dX5_lastLaid_23 : decode cX5_lastLaid 23 = .ok (.iload_n 1, 1) := dk_27 (dk_at dksX5_lastLaid_0 23 rfl rfl)
theorem dX5_lastLaid_24 : decode cX5_lastLaid 24 = .ok (.iaload, 1) := dk_46 (dk_at dksX5_lastLaid_1 0 rfl rfl)
theorem dX5_lastLaid_25 : decode cX5_lastLaid 25 = .ok (.iconst 1, 1) := dk_4 (dk_at dksX5_lastLaid_1 1 rfl rfl)
theorem dX5_lastLaid_26 : decode cX5_lastLaid 26 = .ok (.isub, 1) := dk_100 (dk_at dksX5_lastLaid_1 2 rfl rfl)
theorem dX5_lastLaid_27 : decode cX5_lastLaid 27 = .ok (.iaload, 1) := dk_46 (dk_at dksX5_lastLaid_1 3 rfl rfl)
theorem dX5_lastLaid_28 : decode cX5_lastLaid 28 = .ok (.ireturn, 1) := dk_172 (dk_at dksX5_lastLaid_1 4 rfl rfl)
abbrev cX5_top : ByteArray := prog_8_method_15_code
def yX5_top : MethodName := ⟨RX5, "top", "(I)I"⟩
def dkwX5_top_3 : List UInt8 := [21, 5, 46, 62, 132, 5, 1, 167, 255, 196, 132, 4, 1, 167, 255, 180, 28, 172]
abbrev dktX5_top_3 : List UInt8 := dkwX5_top_3 ++ []
def dkwX5_top_2 : List UInt8 := [21, 4, 50, 21, 5, 46, 29, 162, 0, 6, 167, 0, 17, 21, 4, 61, 42, 180, 0, 32, 21, 4, 50]
abbrev dktX5_top_2 : List UInt8 := dkwX5_top_2 ++ dktX5_top_3
def dkwX5_top_1 : List UInt8 := [21, 4, 46, 162, 0, 54, 42, 180, 0, 29, 21, 4, 50, 21, 5, 46, 27, 160, 0, 34, 42, 180, 0, 32]
abbrev dktX5_top_1 : List UInt8 := dkwX5_top_1 ++ dktX5_top_2
def dkwX5_top_0 : List UInt8 := [16, 254, 61, 2, 62, 3, 54, 4, 21, 4, 16, 7, 162, 0, 75, 3, 54, 5, 21, 5, 42, 180, 0, 18]
abbrev dktX5_top_0 : List UInt8 := dkwX5_top_0 ++ dktX5_top_1
theorem dksX5_top_0 : cX5_top.data.toList.drop 0 = dktX5_top_0 := by decide +kernel
theorem dksX5_top_1 : cX5_top.data.toList.drop 24 = dktX5_top_1 := dk_seg dksX5_top_0 24 rfl rfl
theorem dksX5_top_2 : cX5_top.data.toList.drop 48 = dktX5_top_2 := dk_seg dksX5_top_1 24 rfl rfl
theorem dksX5_top_3 : cX5_top.data.toList.drop 71 = dktX5_top_3 := dk_seg dksX5_top_2 23 rfl rfl
theorem dX5_top_0 : decode cX5_top 0 = .ok (.bipush (-2), 2) := dk_16 254 (dk_at dksX5_top_0 0 rfl rfl)
theorem dX5_top_2 : decode cX5_top 2 = .ok (.istore_n 2, 1) := dk_61 (dk_at dksX5_top_0 2 rfl rfl)
theorem dX5_top_3 : decode cX5_top 3 = .ok (.iconst (-1), 1) := dk_2 (dk_at dksX5_top_0 3 rfl rfl)
theorem dX5_top_4 : decode cX5_top 4 = .ok (.istore_n 3, 1) := dk_62 (dk_at dksX5_top_0 4 rfl rfl)
theorem dX5_top_5 : decode cX5_top 5 = .ok (.iconst 0, 1) := dk_3 (dk_at dksX5_top_0 5 rfl rfl)
theorem dX5_top_6 : decode cX5_top 6 = .ok (.istore 4, 2) := dk_54 4 (dk_at dksX5_top_0 6 rfl rfl)
theorem dX5_top_8 : decode cX5_top 8 = .ok (.iload 4, 2) := dk_21 4 (dk_at dksX5_top_0 8 rfl rfl)
theorem dX5_top_10 : decode cX5_top 10 = .ok (.bipush 7, 2) := dk_16 7 (dk_at dksX5_top_0 10 rfl rfl)
theorem dX5_top_12 : decode cX5_top 12 = .ok (.if_icmp .ge 75, 3) := dk_162 0 75 (dk_at dksX5_top_0 12 rfl rfl)
theorem dX5_top_15 : decode cX5_top 15 = .ok (.iconst 0, 1) := dk_3 (dk_at dksX5_top_0 15 rfl rfl)
theorem dX5_top_16 : decode cX5_top 16 = .ok (.istore 5, 2) := dk_54 5 (dk_at dksX5_top_0 16 rfl rfl)
theorem dX5_top_18 : decode cX5_top 18 = .ok (.iload 5, 2) := dk_21 5 (dk_at dksX5_top_0 18 rfl rfl)
theorem dX5_top_20 : decode cX5_top 20 = .ok (.aload_n 0, 1) := dk_42 (dk_at dksX5_top_0 20 rfl rfl)
theorem dX5_top_21 : decode cX5_top 21 = .ok (.getfield 18, 3) := dk_180 0 18 (dk_at dksX5_top_0 21 rfl rfl)
theorem dX5_top_24 : decode cX5_top 24 = .ok (.iload 4, 2) := dk_21 4 (dk_at dksX5_top_1 0 rfl rfl)
theorem dX5_top_26 : decode cX5_top 26 = .ok (.iaload, 1) := dk_46 (dk_at dksX5_top_1 2 rfl rfl)
theorem dX5_top_27 : decode cX5_top 27 = .ok (.if_icmp .ge 54, 3) := dk_162 0 54 (dk_at dksX5_top_1 3 rfl rfl)
theorem dX5_top_30 : decode cX5_top 30 = .ok (.aload_n 0, 1) := dk_42 (dk_at dksX5_top_1 6 rfl rfl)
theorem dX5_top_31 : decode cX5_top 31 = .ok (.getfield 29, 3) := dk_180 0 29 (dk_at dksX5_top_1 7 rfl rfl)
theorem dX5_top_34 : decode cX5_top 34 = .ok (.iload 4, 2) := dk_21 4 (dk_at dksX5_top_1 10 rfl rfl)
theorem dX5_top_36 : decode cX5_top 36 = .ok (.aaload, 1) := dk_50 (dk_at dksX5_top_1 12 rfl rfl)
theorem dX5_top_37 : decode cX5_top 37 = .ok (.iload 5, 2) := dk_21 5 (dk_at dksX5_top_1 13 rfl rfl)
theorem dX5_top_39 : decode cX5_top 39 = .ok (.iaload, 1) := dk_46 (dk_at dksX5_top_1 15 rfl rfl)
theorem dX5_top_40 : decode cX5_top 40 = .ok (.iload_n 1, 1) := dk_27 (dk_at dksX5_top_1 16 rfl rfl)
theorem dX5_top_41 : decode cX5_top 41 = .ok (.if_icmp .ne 34, 3) := dk_160 0 34 (dk_at dksX5_top_1 17 rfl rfl)
theorem dX5_top_44 : decode cX5_top 44 = .ok (.aload_n 0, 1) := dk_42 (dk_at dksX5_top_1 20 rfl rfl)
theorem dX5_top_45 : decode cX5_top 45 = .ok (.getfield 32, 3) := dk_180 0 32 (dk_at dksX5_top_1 21 rfl rfl)
theorem dX5_top_48 : decode cX5_top 48 = .ok (.iload 4, 2) := dk_21 4 (dk_at dksX5_top_2 0 rfl rfl)
theorem dX5_top_50 : decode cX5_top 50 = .ok (.aaload, 1) := dk_50 (dk_at dksX5_top_2 2 rfl rfl)
theorem dX5_top_51 : decode cX5_top 51 = .ok (.iload 5, 2) := dk_21 5 (dk_at dksX5_top_2 3 rfl rfl)
theorem dX5_top_53 : decode cX5_top 53 = .ok (.iaload, 1) := dk_46 (dk_at dksX5_top_2 5 rfl rfl)
theorem dX5_top_54 : decode cX5_top 54 = .ok (.iload_n 3, 1) := dk_29 (dk_at dksX5_top_2 6 rfl rfl)
theorem dX5_top_55 : decode cX5_top 55 = .ok (.if_icmp .ge 6, 3) := dk_162 0 6 (dk_at dksX5_top_2 7 rfl rfl)
theorem dX5_top_58 : decode cX5_top 58 = .ok (.goto 17, 3) := dk_167 0 17 (dk_at dksX5_top_2 10 rfl rfl)
theorem dX5_top_61 : decode cX5_top 61 = .ok (.iload 4, 2) := dk_21 4 (dk_at dksX5_top_2 13 rfl rfl)
theorem dX5_top_63 : decode cX5_top 63 = .ok (.istore_n 2, 1) := dk_61 (dk_at dksX5_top_2 15 rfl rfl)
theorem dX5_top_64 : decode cX5_top 64 = .ok (.aload_n 0, 1) := dk_42 (dk_at dksX5_top_2 16 rfl rfl)
theorem dX5_top_65 : decode cX5_top 65 = .ok (.getfield 32, 3) := dk_180 0 32 (dk_at dksX5_top_2 17 rfl rfl)
theorem dX5_top_68 : decode cX5_top 68 = .ok (.iload 4, 2) := dk_21 4 (dk_at dksX5_top_2 20 rfl rfl)
theorem dX5_top_70 : decode cX5_top 70 = .ok (.aaload, 1) := dk_50 (dk_at dksX5_top_2 22 rfl rfl)
theorem dX5_top_71 : decode cX5_top 71 = .ok (.iload 5, 2) := dk_21 5 (dk_at dksX5_top_3 0 rfl rfl)
theorem dX5_top_73 : decode cX5_top 73 = .ok (.iaload, 1) := dk_46 (dk_at dksX5_top_3 2 rfl rfl)
theorem dX5_top_74 : decode cX5_top 74 = .ok (.istore_n 3, 1) := dk_62 (dk_at dksX5_top_3 3 rfl rfl)
theorem dX5_top_75 : decode cX5_top 75 = .ok (.iinc 5 1, 3) := dk_132 5 1 (dk_at dksX5_top_3 4 rfl rfl)
theorem dX5_top_78 : decode cX5_top 78 = .ok (.goto (-60), 3) := dk_167 255 196 (dk_at dksX5_top_3 7 rfl rfl)
theorem dX5_top_81 : decode cX5_top 81 = .ok (.iinc 4 1, 3) := dk_132 4 1 (dk_at dksX5_top_3 10 rfl rfl)
theorem dX5_top_84 : decode cX5_top 84 = .ok (.goto (-76), 3) := dk_167 255 180 (dk_at dksX5_top_3 13 rfl rfl)
theorem dX5_top_87 : decode cX5_top 87 = .ok (.iload_n 2, 1) := dk_28 (dk_at dksX5_top_3 16 rfl rfl)
theorem dX5_top_88 : decode cX5_top 88 = .ok (.ireturn, 1) := dk_172 (dk_at dksX5_top_3 17 rfl rfl)
abbrev cX5_pieces : ByteArray := prog_8_method_16_code
def yX5_pieces : MethodName := ⟨RX5, "pieces", "()I"⟩
def dkwX5_pieces_1 : List UInt8 := [167, 255, 238, 27, 172]
abbrev dktX5_pieces_1 : List UInt8 := dkwX5_pieces_1 ++ []
def dkwX5_pieces_0 : List UInt8 := [3, 60, 3, 61, 28, 16, 7, 162, 0, 18, 27, 42, 180, 0, 18, 28, 46, 96, 60, 132, 2, 1]
abbrev dktX5_pieces_0 : List UInt8 := dkwX5_pieces_0 ++ dktX5_pieces_1
theorem dksX5_pieces_0 : cX5_pieces.data.toList.drop 0 = dktX5_pieces_0 := by decide +kernel
theorem dksX5_pieces_1 : cX5_pieces.data.toList.drop 22 = dktX5_pieces_1 := dk_seg dksX5_pieces_0 22 rfl rfl
theorem dX5_pieces_0 : decode cX5_pieces 0 = .ok (.iconst 0, 1) := dk_3 (dk_at dksX5_pieces_0 0 rfl rfl)
theorem dX5_pieces_1 : decode cX5_pieces 1 = .ok (.istore_n 1, 1) := dk_60 (dk_at dksX5_pieces_0 1 rfl rfl)
theorem dX5_pieces_2 : decode cX5_pieces 2 = .ok (.iconst 0, 1) := dk_3 (dk_at dksX5_pieces_0 2 rfl rfl)
theorem dX5_pieces_3 : decode cX5_pieces 3 = .ok (.istore_n 2, 1) := dk_61 (dk_at dksX5_pieces_0 3 rfl rfl)
theorem dX5_pieces_4 : decode cX5_pieces 4 = .ok (.iload_n 2, 1) := dk_28 (dk_at dksX5_pieces_0 4 rfl rfl)
theorem dX5_pieces_5 : decode cX5_pieces 5 = .ok (.bipush 7, 2) := dk_16 7 (dk_at dksX5_pieces_0 5 rfl rfl)
theorem dX5_pieces_7 : decode cX5_pieces 7 = .ok (.if_icmp .ge 18, 3) := dk_162 0 18 (dk_at dksX5_pieces_0 7 rfl rfl)
theorem dX5_pieces_10 : decode cX5_pieces 10 = .ok (.iload_n 1, 1) := dk_27 (dk_at dksX5_pieces_0 10 rfl rfl)
theorem dX5_pieces_11 : decode cX5_pieces 11 = .ok (.aload_n 0, 1) := dk_42 (dk_at dksX5_pieces_0 11 rfl rfl)
theorem dX5_pieces_12 : decode cX5_pieces 12 = .ok (.getfield 18, 3) := dk_180 0 18 (dk_at dksX5_pieces_0 12 rfl rfl)
theorem dX5_pieces_15 : decode cX5_pieces 15 = .ok (.iload_n 2, 1) := dk_28 (dk_at dksX5_pieces_0 15 rfl rfl)
theorem dX5_pieces_16 : decode cX5_pieces 16 = .ok (.iaload, 1) := dk_46 (dk_at dksX5_pieces_0 16 rfl rfl)
theorem dX5_pieces_17 : decode cX5_pieces 17 = .ok (.iadd, 1) := dk_96 (dk_at dksX5_pieces_0 17 rfl rfl)
theorem dX5_pieces_18 : decode cX5_pieces 18 = .ok (.istore_n 1, 1) := dk_60 (dk_at dksX5_pieces_0 18 rfl rfl)
theorem dX5_pieces_19 : decode cX5_pieces 19 = .ok (.iinc 2 1, 3) := dk_132 2 1 (dk_at dksX5_pieces_0 19 rfl rfl)
theorem dX5_pieces_22 : decode cX5_pieces 22 = .ok (.goto (-18), 3) := dk_167 255 238 (dk_at dksX5_pieces_1 0 rfl rfl)
theorem dX5_pieces_25 : decode cX5_pieces 25 = .ok (.iload_n 1, 1) := dk_27 (dk_at dksX5_pieces_1 3 rfl rfl)
theorem dX5_pieces_26 : decode cX5_pieces 26 = .ok (.ireturn, 1) := dk_172 (dk_at dksX5_pieces_1 4 rfl rfl)
def mX5_init : am_M := (yX5_init, cX5_init, 1, none, [])
theorem okX5_init : am_Ok mX5_init 0 := ⟨rfl, q411, q125, ⟨by decide +kernel, by decide +kernel, by decide +kernel⟩, by decide, by decide +kernel⟩
def mX5_begins : am_M := (yX5_begins, cX5_begins, 3, none, [])
theorem okX5_begins : am_Ok mX5_begins 1 := ⟨rfl, q524, q125, ⟨by decide +kernel, by decide +kernel, by decide +kernel⟩, by decide, by decide +kernel⟩
def mX5_asks : am_M := (yX5_asks, cX5_asks, 6, (some .int), [])
theorem okX5_asks : am_Ok mX5_asks 5 := ⟨rfl, q547, q125, ⟨by decide +kernel, by decide +kernel, by decide +kernel⟩, by decide, by decide +kernel⟩
def mX5_isLost : am_M := (yX5_isLost, cX5_isLost, 2, (some .boolean), [])
theorem okX5_isLost : am_Ok mX5_isLost 1 := ⟨rfl, q1209, q125, ⟨by decide +kernel, by decide +kernel, by decide +kernel⟩, by decide, by decide +kernel⟩
def mX5_does : am_M := (yX5_does, cX5_does, 5, (some .int), [])
theorem okX5_does : am_Ok mX5_does 3 := ⟨rfl, q1216, q125, ⟨by decide +kernel, by decide +kernel, by decide +kernel⟩, by decide, by decide +kernel⟩
def mX5_around : am_M := (yX5_around, cX5_around, 7, (some .int), [])
theorem okX5_around : am_Ok mX5_around 3 := ⟨rfl, q1232, q125, ⟨by decide +kernel, by decide +kernel, by decide +kernel⟩, by decide, by decide +kernel⟩
def mX5_takes : am_M := (yX5_takes, cX5_takes, 3, none, [])
theorem okX5_takes : am_Ok mX5_takes 1 := ⟨rfl, q1240, q125, ⟨by decide +kernel, by decide +kernel, by decide +kernel⟩, by decide, by decide +kernel⟩
def mX5_steps : am_M := (yX5_steps, cX5_steps, 4, (some .boolean), [])
theorem okX5_steps : am_Ok mX5_steps 3 := ⟨rfl, q1245, q125, ⟨by decide +kernel, by decide +kernel, by decide +kernel⟩, by decide, by decide +kernel⟩
def mX5_winds : am_M := (yX5_winds, cX5_winds, 3, (some .boolean), [])
theorem okX5_winds : am_Ok mX5_winds 1 := ⟨rfl, q1270, q125, ⟨by decide +kernel, by decide +kernel, by decide +kernel⟩, by decide, by decide +kernel⟩
def mX5_cuts : am_M := (yX5_cuts, cX5_cuts, 3, (some .int), [])
theorem okX5_cuts : am_Ok mX5_cuts 1 := ⟨rfl, q1283, q125, ⟨by decide +kernel, by decide +kernel, by decide +kernel⟩, by decide, by decide +kernel⟩
def mX5_minute : am_M := (yX5_minute, cX5_minute, 3, none, [])
theorem okX5_minute : am_Ok mX5_minute 1 := ⟨rfl, q1291, q125, ⟨by decide +kernel, by decide +kernel, by decide +kernel⟩, by decide, by decide +kernel⟩
def mX5_goes : am_M := (yX5_goes, cX5_goes, 6, none, [])
theorem okX5_goes : am_Ok mX5_goes 3 := ⟨rfl, q1295, q125, ⟨by decide +kernel, by decide +kernel, by decide +kernel⟩, by decide, by decide +kernel⟩
def mX5_over : am_M := (yX5_over, cX5_over, 6, (some .int), [])
theorem okX5_over : am_Ok mX5_over 2 := ⟨rfl, q1314, q125, ⟨by decide +kernel, by decide +kernel, by decide +kernel⟩, by decide, by decide +kernel⟩
def mX5_lastLaid : am_M := (yX5_lastLaid, cX5_lastLaid, 2, (some .int), [])
theorem okX5_lastLaid : am_Ok mX5_lastLaid 1 := ⟨rfl, q1422, q125, ⟨by decide +kernel, by decide +kernel, by decide +kernel⟩, by decide, by decide +kernel⟩
def mX5_top : am_M := (yX5_top, cX5_top, 6, (some .int), [])
theorem okX5_top : am_Ok mX5_top 1 := ⟨rfl, q1451, q125, ⟨by decide +kernel, by decide +kernel, by decide +kernel⟩, by decide, by decide +kernel⟩
def mX5_pieces : am_M := (yX5_pieces, cX5_pieces, 3, (some .int), [])
theorem okX5_pieces : am_Ok mX5_pieces 0 := ⟨rfl, q1548, q125, ⟨by decide +kernel, by decide +kernel, by decide +kernel⟩, by decide, by decide +kernel⟩
/-! ThreadTown$Asked -/
abbrev cX6_init : ByteArray := prog_2_method_1_code
def yX6_init : MethodName := ⟨RX6, "<init>", "()V"⟩
def dkwX6_init_0 : List UInt8 := [42, 183, 0, 1, 42, 16, 6, 188, 10, 181, 0, 7, 177]
abbrev dktX6_init_0 : List UInt8 := dkwX6_init_0 ++ []
theorem dksX6_init_0 : cX6_init.data.toList.drop 0 = dktX6_init_0 := by decide +kernel
theorem dX6_init_0 : decode cX6_init 0 = .ok (.aload_n 0, 1) := dk_42 (dk_at dksX6_init_0 0 rfl rfl)
theorem dX6_init_1 : decode cX6_init 1 = .ok (.invokespecial 1, 3) := dk_183 0 1 (dk_at dksX6_init_0 1 rfl rfl)
theorem dX6_init_4 : decode cX6_init 4 = .ok (.aload_n 0, 1) := dk_42 (dk_at dksX6_init_0 4 rfl rfl)
theorem dX6_init_5 : decode cX6_init 5 = .ok (.bipush 6, 2) := dk_16 6 (dk_at dksX6_init_0 5 rfl rfl)
theorem dX6_init_7 : decode cX6_init 7 = .ok (.newarray .int, 2) := dk_188_10 (dk_at dksX6_init_0 7 rfl rfl)
theorem dX6_init_9 : decode cX6_init 9 = .ok (.putfield 7, 3) := dk_181 0 7 (dk_at dksX6_init_0 9 rfl rfl)
theorem dX6_init_12 : decode cX6_init 12 = .ok (.return_, 1) := dk_177 (dk_at dksX6_init_0 12 rfl rfl)
def mX6_init : am_M := (yX6_init, cX6_init, 1, none, [])
theorem okX6_init : am_Ok mX6_init 0 := ⟨rfl, q419, q126, ⟨by decide +kernel, by decide +kernel, by decide +kernel⟩, by decide, by decide +kernel⟩
/-! ThreadTown$Dusk -/
abbrev cX7_init : ByteArray := prog_9_method_1_code
def yX7_init : MethodName := ⟨RX7, "<init>", "()V"⟩
theorem dX7_init_0 : decode cX7_init 0 = .ok (.aload_n 0, 1) := by decide +kernel
theorem dX7_init_1 : decode cX7_init 1 = .ok (.invokespecial 1, 3) := by decide +kernel
theorem dX7_init_4 : decode cX7_init 4 = .ok (.return_, 1) := by decide +kernel
def mX7_init : am_M := (yX7_init, cX7_init, 1, none, [])
theorem okX7_init : am_Ok mX7_init 0 := ⟨rfl, q487, q127, ⟨by decide +kernel, by decide +kernel, by decide +kernel⟩, by decide, by decide +kernel⟩
/-! ThreadTown$ByNumber -/
abbrev cX8_init : ByteArray := prog_7_method_1_code
def yX8_init : MethodName := ⟨RX8, "<init>", "()V"⟩
theorem dX8_init_0 : decode cX8_init 0 = .ok (.aload_n 0, 1) := by decide +kernel
theorem dX8_init_1 : decode cX8_init 1 = .ok (.invokespecial 1, 3) := by decide +kernel
theorem dX8_init_4 : decode cX8_init 4 = .ok (.return_, 1) := by decide +kernel
abbrev cX8_tells : ByteArray := prog_7_method_2_code
def yX8_tells : MethodName := ⟨RX8, "tells", "(LThreadTown$Cloth;LThreadTown$Text;II)I"⟩
theorem dX8_tells_0 : decode cX8_tells 0 = .ok (.iconst 0, 1) := by decide +kernel
theorem dX8_tells_1 : decode cX8_tells 1 = .ok (.ireturn, 1) := by decide +kernel
def mX8_init : am_M := (yX8_init, cX8_init, 1, none, [])
theorem okX8_init : am_Ok mX8_init 0 := ⟨rfl, q484, q128, ⟨by decide +kernel, by decide +kernel, by decide +kernel⟩, by decide, by decide +kernel⟩
def mX8_tells : am_M := (yX8_tells, cX8_tells, 5, (some .int), [])
theorem okX8_tells : am_Ok mX8_tells 4 := ⟨rfl, q1435, q128, ⟨by decide +kernel, by decide +kernel, by decide +kernel⟩, by decide, by decide +kernel⟩
/-! ThreadTown$ByLying -/
abbrev cX9_init : ByteArray := prog_6_method_1_code
def yX9_init : MethodName := ⟨RX9, "<init>", "()V"⟩
theorem dX9_init_0 : decode cX9_init 0 = .ok (.aload_n 0, 1) := by decide +kernel
theorem dX9_init_1 : decode cX9_init 1 = .ok (.invokespecial 1, 3) := by decide +kernel
theorem dX9_init_4 : decode cX9_init 4 = .ok (.return_, 1) := by decide +kernel
abbrev cX9_tells : ByteArray := prog_6_method_2_code
def yX9_tells : MethodName := ⟨RX9, "tells", "(LThreadTown$Cloth;LThreadTown$Text;II)I"⟩
def dkwX9_tells_0 : List UInt8 := [43, 180, 0, 7, 29, 46, 172]
abbrev dktX9_tells_0 : List UInt8 := dkwX9_tells_0 ++ []
theorem dksX9_tells_0 : cX9_tells.data.toList.drop 0 = dktX9_tells_0 := by decide +kernel
theorem dX9_tells_0 : decode cX9_tells 0 = .ok (.aload_n 1, 1) := dk_43 (dk_at dksX9_tells_0 0 rfl rfl)
theorem dX9_tells_1 : decode cX9_tells 1 = .ok (.getfield 7, 3) := dk_180 0 7 (dk_at dksX9_tells_0 1 rfl rfl)
theorem dX9_tells_4 : decode cX9_tells 4 = .ok (.iload_n 3, 1) := dk_29 (dk_at dksX9_tells_0 4 rfl rfl)
theorem dX9_tells_5 : decode cX9_tells 5 = .ok (.iaload, 1) := dk_46 (dk_at dksX9_tells_0 5 rfl rfl)
theorem dX9_tells_6 : decode cX9_tells 6 = .ok (.ireturn, 1) := dk_172 (dk_at dksX9_tells_0 6 rfl rfl)
def mX9_init : am_M := (yX9_init, cX9_init, 1, none, [])
theorem okX9_init : am_Ok mX9_init 0 := ⟨rfl, q494, q129, ⟨by decide +kernel, by decide +kernel, by decide +kernel⟩, by decide, by decide +kernel⟩
def mX9_tells : am_M := (yX9_tells, cX9_tells, 5, (some .int), [])
theorem okX9_tells : am_Ok mX9_tells 4 := ⟨rfl, q1432, q129, ⟨by decide +kernel, by decide +kernel, by decide +kernel⟩, by decide, by decide +kernel⟩
/-! ThreadTown$ByLeft -/
abbrev cX10_init : ByteArray := prog_4_method_1_code
def yX10_init : MethodName := ⟨RX10, "<init>", "()V"⟩
theorem dX10_init_0 : decode cX10_init 0 = .ok (.aload_n 0, 1) := by decide +kernel
theorem dX10_init_1 : decode cX10_init 1 = .ok (.invokespecial 1, 3) := by decide +kernel
theorem dX10_init_4 : decode cX10_init 4 = .ok (.return_, 1) := by decide +kernel
abbrev cX10_tells : ByteArray := prog_4_method_2_code
def yX10_tells : MethodName := ⟨RX10, "tells", "(LThreadTown$Cloth;LThreadTown$Text;II)I"⟩
def dkwX10_tells_0 : List UInt8 := [43, 180, 0, 7, 29, 46, 43, 180, 0, 13, 29, 46, 100, 172]
abbrev dktX10_tells_0 : List UInt8 := dkwX10_tells_0 ++ []
theorem dksX10_tells_0 : cX10_tells.data.toList.drop 0 = dktX10_tells_0 := by decide +kernel
theorem dX10_tells_0 : decode cX10_tells 0 = .ok (.aload_n 1, 1) := dk_43 (dk_at dksX10_tells_0 0 rfl rfl)
theorem dX10_tells_1 : decode cX10_tells 1 = .ok (.getfield 7, 3) := dk_180 0 7 (dk_at dksX10_tells_0 1 rfl rfl)
theorem dX10_tells_4 : decode cX10_tells 4 = .ok (.iload_n 3, 1) := dk_29 (dk_at dksX10_tells_0 4 rfl rfl)
theorem dX10_tells_5 : decode cX10_tells 5 = .ok (.iaload, 1) := dk_46 (dk_at dksX10_tells_0 5 rfl rfl)
theorem dX10_tells_6 : decode cX10_tells 6 = .ok (.aload_n 1, 1) := dk_43 (dk_at dksX10_tells_0 6 rfl rfl)
theorem dX10_tells_7 : decode cX10_tells 7 = .ok (.getfield 13, 3) := dk_180 0 13 (dk_at dksX10_tells_0 7 rfl rfl)
theorem dX10_tells_10 : decode cX10_tells 10 = .ok (.iload_n 3, 1) := dk_29 (dk_at dksX10_tells_0 10 rfl rfl)
theorem dX10_tells_11 : decode cX10_tells 11 = .ok (.iaload, 1) := dk_46 (dk_at dksX10_tells_0 11 rfl rfl)
theorem dX10_tells_12 : decode cX10_tells 12 = .ok (.isub, 1) := dk_100 (dk_at dksX10_tells_0 12 rfl rfl)
theorem dX10_tells_13 : decode cX10_tells 13 = .ok (.ireturn, 1) := dk_172 (dk_at dksX10_tells_0 13 rfl rfl)
def mX10_init : am_M := (yX10_init, cX10_init, 1, none, [])
theorem okX10_init : am_Ok mX10_init 0 := ⟨rfl, q501, q130, ⟨by decide +kernel, by decide +kernel, by decide +kernel⟩, by decide, by decide +kernel⟩
def mX10_tells : am_M := (yX10_tells, cX10_tells, 5, (some .int), [])
theorem okX10_tells : am_Ok mX10_tells 4 := ⟨rfl, q1425, q130, ⟨by decide +kernel, by decide +kernel, by decide +kernel⟩, by decide, by decide +kernel⟩
/-! ThreadTown$ByLaid -/
abbrev cX11_init : ByteArray := prog_3_method_1_code
def yX11_init : MethodName := ⟨RX11, "<init>", "()V"⟩
theorem dX11_init_0 : decode cX11_init 0 = .ok (.aload_n 0, 1) := by decide +kernel
theorem dX11_init_1 : decode cX11_init 1 = .ok (.invokespecial 1, 3) := by decide +kernel
theorem dX11_init_4 : decode cX11_init 4 = .ok (.return_, 1) := by decide +kernel
abbrev cX11_tells : ByteArray := prog_3_method_2_code
def yX11_tells : MethodName := ⟨RX11, "tells", "(LThreadTown$Cloth;LThreadTown$Text;II)I"⟩
def dkwX11_tells_0 : List UInt8 := [43, 29, 182, 0, 7, 172]
abbrev dktX11_tells_0 : List UInt8 := dkwX11_tells_0 ++ []
theorem dksX11_tells_0 : cX11_tells.data.toList.drop 0 = dktX11_tells_0 := by decide +kernel
theorem dX11_tells_0 : decode cX11_tells 0 = .ok (.aload_n 1, 1) := dk_43 (dk_at dksX11_tells_0 0 rfl rfl)
theorem dX11_tells_1 : decode cX11_tells 1 = .ok (.iload_n 3, 1) := dk_29 (dk_at dksX11_tells_0 1 rfl rfl)
theorem dX11_tells_2 : decode cX11_tells 2 = .ok (.invokevirtual 7, 3) := dk_182 0 7 (dk_at dksX11_tells_0 2 rfl rfl)
theorem dX11_tells_5 : decode cX11_tells 5 = .ok (.ireturn, 1) := dk_172 (dk_at dksX11_tells_0 5 rfl rfl)
def mX11_init : am_M := (yX11_init, cX11_init, 1, none, [])
theorem okX11_init : am_Ok mX11_init 0 := ⟨rfl, q508, q131, ⟨by decide +kernel, by decide +kernel, by decide +kernel⟩, by decide, by decide +kernel⟩
def mX11_tells : am_M := (yX11_tells, cX11_tells, 5, (some .int), [])
theorem okX11_tells : am_Ok mX11_tells 4 := ⟨rfl, q1418, q131, ⟨by decide +kernel, by decide +kernel, by decide +kernel⟩, by decide, by decide +kernel⟩
/-! ThreadTown$ByLot -/
abbrev cX12_init : ByteArray := prog_5_method_1_code
def yX12_init : MethodName := ⟨RX12, "<init>", "()V"⟩
theorem dX12_init_0 : decode cX12_init 0 = .ok (.aload_n 0, 1) := by decide +kernel
theorem dX12_init_1 : decode cX12_init 1 = .ok (.invokespecial 1, 3) := by decide +kernel
theorem dX12_init_4 : decode cX12_init 4 = .ok (.return_, 1) := by decide +kernel
abbrev cX12_tells : ByteArray := prog_5_method_2_code
def yX12_tells : MethodName := ⟨RX12, "tells", "(LThreadTown$Cloth;LThreadTown$Text;II)I"⟩
def dkwX12_tells_1 : List UInt8 := [184, 0, 18, 172]
abbrev dktX12_tells_1 : List UInt8 := dkwX12_tells_1 ++ []
def dkwX12_tells_0 : List UInt8 := [44, 180, 0, 7, 17, 7, 208, 16, 8, 43, 180, 0, 13, 21, 4, 96, 104, 96, 29, 96, 17, 3, 232]
abbrev dktX12_tells_0 : List UInt8 := dkwX12_tells_0 ++ dktX12_tells_1
theorem dksX12_tells_0 : cX12_tells.data.toList.drop 0 = dktX12_tells_0 := by decide +kernel
theorem dksX12_tells_1 : cX12_tells.data.toList.drop 23 = dktX12_tells_1 := dk_seg dksX12_tells_0 23 rfl rfl
theorem dX12_tells_0 : decode cX12_tells 0 = .ok (.aload_n 2, 1) := dk_44 (dk_at dksX12_tells_0 0 rfl rfl)
theorem dX12_tells_1 : decode cX12_tells 1 = .ok (.getfield 7, 3) := dk_180 0 7 (dk_at dksX12_tells_0 1 rfl rfl)
theorem dX12_tells_4 : decode cX12_tells 4 = .ok (.sipush 2000, 3) := dk_17 7 208 (dk_at dksX12_tells_0 4 rfl rfl)
theorem dX12_tells_7 : decode cX12_tells 7 = .ok (.bipush 8, 2) := dk_16 8 (dk_at dksX12_tells_0 7 rfl rfl)
theorem dX12_tells_9 : decode cX12_tells 9 = .ok (.aload_n 1, 1) := dk_43 (dk_at dksX12_tells_0 9 rfl rfl)
theorem dX12_tells_10 : decode cX12_tells 10 = .ok (.getfield 13, 3) := dk_180 0 13 (dk_at dksX12_tells_0 10 rfl rfl)
theorem dX12_tells_13 : decode cX12_tells 13 = .ok (.iload 4, 2) := dk_21 4 (dk_at dksX12_tells_0 13 rfl rfl)
theorem dX12_tells_15 : decode cX12_tells 15 = .ok (.iadd, 1) := dk_96 (dk_at dksX12_tells_0 15 rfl rfl)
theorem dX12_tells_16 : decode cX12_tells 16 = .ok (.imul, 1) := dk_104 (dk_at dksX12_tells_0 16 rfl rfl)
theorem dX12_tells_17 : decode cX12_tells 17 = .ok (.iadd, 1) := dk_96 (dk_at dksX12_tells_0 17 rfl rfl)
theorem dX12_tells_18 : decode cX12_tells 18 = .ok (.iload_n 3, 1) := dk_29 (dk_at dksX12_tells_0 18 rfl rfl)
theorem dX12_tells_19 : decode cX12_tells 19 = .ok (.iadd, 1) := dk_96 (dk_at dksX12_tells_0 19 rfl rfl)
theorem dX12_tells_20 : decode cX12_tells 20 = .ok (.sipush 1000, 3) := dk_17 3 232 (dk_at dksX12_tells_0 20 rfl rfl)
theorem dX12_tells_23 : decode cX12_tells 23 = .ok (.invokestatic 18, 3) := dk_184 0 18 (dk_at dksX12_tells_1 0 rfl rfl)
theorem dX12_tells_26 : decode cX12_tells 26 = .ok (.ireturn, 1) := dk_172 (dk_at dksX12_tells_1 3 rfl rfl)
def mX12_init : am_M := (yX12_init, cX12_init, 1, none, [])
theorem okX12_init : am_Ok mX12_init 0 := ⟨rfl, q515, q132, ⟨by decide +kernel, by decide +kernel, by decide +kernel⟩, by decide, by decide +kernel⟩
def mX12_tells : am_M := (yX12_tells, cX12_tells, 5, (some .int), [])
theorem okX12_tells : am_Ok mX12_tells 4 := ⟨rfl, q1428, q132, ⟨by decide +kernel, by decide +kernel, by decide +kernel⟩, by decide, by decide +kernel⟩
/-! ThreadTown$Man -/
abbrev cX14_init : ByteArray := prog_13_method_1_code
def yX14_init : MethodName := ⟨RX14, "<init>", "(Ljava/lang/String;)V"⟩
def dkwX14_init_1 : List UInt8 := [181, 0, 18, 177]
abbrev dktX14_init_1 : List UInt8 := dkwX14_init_1 ++ []
def dkwX14_init_0 : List UInt8 := [42, 183, 0, 3, 42, 16, 6, 188, 10, 181, 0, 9, 42, 16, 6, 188, 10, 181, 0, 15, 42, 43]
abbrev dktX14_init_0 : List UInt8 := dkwX14_init_0 ++ dktX14_init_1
theorem dksX14_init_0 : cX14_init.data.toList.drop 0 = dktX14_init_0 := by decide +kernel
theorem dksX14_init_1 : cX14_init.data.toList.drop 22 = dktX14_init_1 := dk_seg dksX14_init_0 22 rfl rfl
theorem dX14_init_0 : decode cX14_init 0 = .ok (.aload_n 0, 1) := dk_42 (dk_at dksX14_init_0 0 rfl rfl)
theorem dX14_init_1 : decode cX14_init 1 = .ok (.invokespecial 3, 3) := dk_183 0 3 (dk_at dksX14_init_0 1 rfl rfl)
theorem dX14_init_4 : decode cX14_init 4 = .ok (.aload_n 0, 1) := dk_42 (dk_at dksX14_init_0 4 rfl rfl)
theorem dX14_init_5 : decode cX14_init 5 = .ok (.bipush 6, 2) := dk_16 6 (dk_at dksX14_init_0 5 rfl rfl)
theorem dX14_init_7 : decode cX14_init 7 = .ok (.newarray .int, 2) := dk_188_10 (dk_at dksX14_init_0 7 rfl rfl)
theorem dX14_init_9 : decode cX14_init 9 = .ok (.putfield 9, 3) := dk_181 0 9 (dk_at dksX14_init_0 9 rfl rfl)
theorem dX14_init_12 : decode cX14_init 12 = .ok (.aload_n 0, 1) := dk_42 (dk_at dksX14_init_0 12 rfl rfl)
theorem dX14_init_13 : decode cX14_init 13 = .ok (.bipush 6, 2) := dk_16 6 (dk_at dksX14_init_0 13 rfl rfl)
theorem dX14_init_15 : decode cX14_init 15 = .ok (.newarray .int, 2) := dk_188_10 (dk_at dksX14_init_0 15 rfl rfl)
theorem dX14_init_17 : decode cX14_init 17 = .ok (.putfield 15, 3) := dk_181 0 15 (dk_at dksX14_init_0 17 rfl rfl)
theorem dX14_init_20 : decode cX14_init 20 = .ok (.aload_n 0, 1) := dk_42 (dk_at dksX14_init_0 20 rfl rfl)
theorem dX14_init_21 : decode cX14_init 21 = .ok (.aload_n 1, 1) := dk_43 (dk_at dksX14_init_0 21 rfl rfl)
theorem dX14_init_22 : decode cX14_init 22 = .ok (.putfield 18, 3) := dk_181 0 18 (dk_at dksX14_init_1 0 rfl rfl)
theorem dX14_init_25 : decode cX14_init 25 = .ok (.return_, 1) := dk_177 (dk_at dksX14_init_1 3 rfl rfl)
def mX14_init : am_M := (yX14_init, cX14_init, 2, none, [])
theorem okX14_init : am_Ok mX14_init 1 := ⟨rfl, q978, q140, ⟨by decide +kernel, by decide +kernel, by decide +kernel⟩, by decide, by decide +kernel⟩
/-! ThreadTown$Law -/
abbrev cX15_of : ByteArray := prog_12_method_2_code
def yX15_of : MethodName := ⟨RX15, "of", "(LThreadTown$Asked;)I"⟩
def dkwX15_of_3 : List UInt8 := [184, 0, 37, 172]
abbrev dktX15_of_3 : List UInt8 := dkwX15_of_3 ++ []
def dkwX15_of_2 : List UInt8 := [180, 0, 20, 28, 50, 43, 182, 0, 33, 62, 43, 180, 0, 23, 153, 0, 7, 3, 167, 0, 8, 3, 29]
abbrev dktX15_of_2 : List UInt8 := dkwX15_of_2 ++ dktX15_of_3
def dkwX15_of_1 : List UInt8 := [182, 0, 33, 42, 180, 0, 17, 28, 50, 43, 182, 0, 33, 161, 0, 9, 132, 2, 1, 167, 255, 222, 42]
abbrev dktX15_of_1 : List UInt8 := dkwX15_of_1 ++ dktX15_of_2
def dkwX15_of_0 : List UInt8 := [43, 3, 181, 0, 23, 3, 61, 28, 42, 180, 0, 29, 162, 0, 32, 42, 180, 0, 11, 28, 50, 43]
abbrev dktX15_of_0 : List UInt8 := dkwX15_of_0 ++ dktX15_of_1
theorem dksX15_of_0 : cX15_of.data.toList.drop 0 = dktX15_of_0 := by decide +kernel
theorem dksX15_of_1 : cX15_of.data.toList.drop 22 = dktX15_of_1 := dk_seg dksX15_of_0 22 rfl rfl
theorem dksX15_of_2 : cX15_of.data.toList.drop 45 = dktX15_of_2 := dk_seg dksX15_of_1 23 rfl rfl
theorem dksX15_of_3 : cX15_of.data.toList.drop 68 = dktX15_of_3 := dk_seg dksX15_of_2 23 rfl rfl
theorem dX15_of_0 : decode cX15_of 0 = .ok (.aload_n 1, 1) := dk_43 (dk_at dksX15_of_0 0 rfl rfl)
theorem dX15_of_1 : decode cX15_of 1 = .ok (.iconst 0, 1) := dk_3 (dk_at dksX15_of_0 1 rfl rfl)
theorem dX15_of_2 : decode cX15_of 2 = .ok (.putfield 23, 3) := dk_181 0 23 (dk_at dksX15_of_0 2 rfl rfl)
theorem dX15_of_5 : decode cX15_of 5 = .ok (.iconst 0, 1) := dk_3 (dk_at dksX15_of_0 5 rfl rfl)
theorem dX15_of_6 : decode cX15_of 6 = .ok (.istore_n 2, 1) := dk_61 (dk_at dksX15_of_0 6 rfl rfl)
theorem dX15_of_7 : decode cX15_of 7 = .ok (.iload_n 2, 1) := dk_28 (dk_at dksX15_of_0 7 rfl rfl)
theorem dX15_of_8 : decode cX15_of 8 = .ok (.aload_n 0, 1) := dk_42 (dk_at dksX15_of_0 8 rfl rfl)
theorem dX15_of_9 : decode cX15_of 9 = .ok (.getfield 29, 3) := dk_180 0 29 (dk_at dksX15_of_0 9 rfl rfl)
theorem dX15_of_12 : decode cX15_of 12 = .ok (.if_icmp .ge 32, 3) := dk_162 0 32 (dk_at dksX15_of_0 12 rfl rfl)
theorem dX15_of_15 : decode cX15_of 15 = .ok (.aload_n 0, 1) := dk_42 (dk_at dksX15_of_0 15 rfl rfl)
theorem dX15_of_16 : decode cX15_of 16 = .ok (.getfield 11, 3) := dk_180 0 11 (dk_at dksX15_of_0 16 rfl rfl)
theorem dX15_of_19 : decode cX15_of 19 = .ok (.iload_n 2, 1) := dk_28 (dk_at dksX15_of_0 19 rfl rfl)
theorem dX15_of_20 : decode cX15_of 20 = .ok (.aaload, 1) := dk_50 (dk_at dksX15_of_0 20 rfl rfl)
theorem dX15_of_21 : decode cX15_of 21 = .ok (.aload_n 1, 1) := dk_43 (dk_at dksX15_of_0 21 rfl rfl)
theorem dX15_of_22 : decode cX15_of 22 = .ok (.invokevirtual 33, 3) := dk_182 0 33 (dk_at dksX15_of_1 0 rfl rfl)
theorem dX15_of_25 : decode cX15_of 25 = .ok (.aload_n 0, 1) := dk_42 (dk_at dksX15_of_1 3 rfl rfl)
theorem dX15_of_26 : decode cX15_of 26 = .ok (.getfield 17, 3) := dk_180 0 17 (dk_at dksX15_of_1 4 rfl rfl)
theorem dX15_of_29 : decode cX15_of 29 = .ok (.iload_n 2, 1) := dk_28 (dk_at dksX15_of_1 7 rfl rfl)
theorem dX15_of_30 : decode cX15_of 30 = .ok (.aaload, 1) := dk_50 (dk_at dksX15_of_1 8 rfl rfl)
theorem dX15_of_31 : decode cX15_of 31 = .ok (.aload_n 1, 1) := dk_43 (dk_at dksX15_of_1 9 rfl rfl)
theorem dX15_of_32 : decode cX15_of 32 = .ok (.invokevirtual 33, 3) := dk_182 0 33 (dk_at dksX15_of_1 10 rfl rfl)
theorem dX15_of_35 : decode cX15_of 35 = .ok (.if_icmp .lt 9, 3) := dk_161 0 9 (dk_at dksX15_of_1 13 rfl rfl)
theorem dX15_of_38 : decode cX15_of 38 = .ok (.iinc 2 1, 3) := dk_132 2 1 (dk_at dksX15_of_1 16 rfl rfl)
theorem dX15_of_41 : decode cX15_of 41 = .ok (.goto (-34), 3) := dk_167 255 222 (dk_at dksX15_of_1 19 rfl rfl)
theorem dX15_of_44 : decode cX15_of 44 = .ok (.aload_n 0, 1) := dk_42 (dk_at dksX15_of_1 22 rfl rfl)
theorem dX15_of_45 : decode cX15_of 45 = .ok (.getfield 20, 3) := dk_180 0 20 (dk_at dksX15_of_2 0 rfl rfl)
theorem dX15_of_48 : decode cX15_of 48 = .ok (.iload_n 2, 1) := dk_28 (dk_at dksX15_of_2 3 rfl rfl)
theorem dX15_of_49 : decode cX15_of 49 = .ok (.aaload, 1) := dk_50 (dk_at dksX15_of_2 4 rfl rfl)
theorem dX15_of_50 : decode cX15_of 50 = .ok (.aload_n 1, 1) := dk_43 (dk_at dksX15_of_2 5 rfl rfl)
theorem dX15_of_51 : decode cX15_of 51 = .ok (.invokevirtual 33, 3) := dk_182 0 33 (dk_at dksX15_of_2 6 rfl rfl)
theorem dX15_of_54 : decode cX15_of 54 = .ok (.istore_n 3, 1) := dk_62 (dk_at dksX15_of_2 9 rfl rfl)
theorem dX15_of_55 : decode cX15_of 55 = .ok (.aload_n 1, 1) := dk_43 (dk_at dksX15_of_2 10 rfl rfl)
theorem dX15_of_56 : decode cX15_of 56 = .ok (.getfield 23, 3) := dk_180 0 23 (dk_at dksX15_of_2 11 rfl rfl)
theorem dX15_of_59 : decode cX15_of 59 = .ok (.ifCond .eq 7, 3) := dk_153 0 7 (dk_at dksX15_of_2 14 rfl rfl)
theorem dX15_of_62 : decode cX15_of 62 = .ok (.iconst 0, 1) := dk_3 (dk_at dksX15_of_2 17 rfl rfl)
theorem dX15_of_63 : decode cX15_of 63 = .ok (.goto 8, 3) := dk_167 0 8 (dk_at dksX15_of_2 18 rfl rfl)
theorem dX15_of_66 : decode cX15_of 66 = .ok (.iconst 0, 1) := dk_3 (dk_at dksX15_of_2 21 rfl rfl)
theorem dX15_of_67 : decode cX15_of 67 = .ok (.iload_n 3, 1) := dk_29 (dk_at dksX15_of_2 22 rfl rfl)
theorem dX15_of_68 : decode cX15_of 68 = .ok (.invokestatic 37, 3) := dk_184 0 37 (dk_at dksX15_of_3 0 rfl rfl)
theorem dX15_of_71 : decode cX15_of 71 = .ok (.ireturn, 1) := dk_172 (dk_at dksX15_of_3 3 rfl rfl)
abbrev cX15_init : ByteArray := prog_12_method_1_code
def yX15_init : MethodName := ⟨RX15, "<init>", "()V"⟩
def dkwX15_init_1 : List UInt8 := [189, 0, 9, 181, 0, 20, 177]
abbrev dktX15_init_1 : List UInt8 := dkwX15_init_1 ++ []
def dkwX15_init_0 : List UInt8 := [42, 183, 0, 3, 42, 7, 189, 0, 9, 181, 0, 11, 42, 7, 189, 0, 9, 181, 0, 17, 42, 8]
abbrev dktX15_init_0 : List UInt8 := dkwX15_init_0 ++ dktX15_init_1
theorem dksX15_init_0 : cX15_init.data.toList.drop 0 = dktX15_init_0 := by decide +kernel
theorem dksX15_init_1 : cX15_init.data.toList.drop 22 = dktX15_init_1 := dk_seg dksX15_init_0 22 rfl rfl
theorem dX15_init_0 : decode cX15_init 0 = .ok (.aload_n 0, 1) := dk_42 (dk_at dksX15_init_0 0 rfl rfl)
theorem dX15_init_1 : decode cX15_init 1 = .ok (.invokespecial 3, 3) := dk_183 0 3 (dk_at dksX15_init_0 1 rfl rfl)
theorem dX15_init_4 : decode cX15_init 4 = .ok (.aload_n 0, 1) := dk_42 (dk_at dksX15_init_0 4 rfl rfl)
theorem dX15_init_5 : decode cX15_init 5 = .ok (.iconst 4, 1) := dk_7 (dk_at dksX15_init_0 5 rfl rfl)
theorem dX15_init_6 : decode cX15_init 6 = .ok (.anewarray 9, 3) := dk_189 0 9 (dk_at dksX15_init_0 6 rfl rfl)
theorem dX15_init_9 : decode cX15_init 9 = .ok (.putfield 11, 3) := dk_181 0 11 (dk_at dksX15_init_0 9 rfl rfl)
theorem dX15_init_12 : decode cX15_init 12 = .ok (.aload_n 0, 1) := dk_42 (dk_at dksX15_init_0 12 rfl rfl)
theorem dX15_init_13 : decode cX15_init 13 = .ok (.iconst 4, 1) := dk_7 (dk_at dksX15_init_0 13 rfl rfl)
theorem dX15_init_14 : decode cX15_init 14 = .ok (.anewarray 9, 3) := dk_189 0 9 (dk_at dksX15_init_0 14 rfl rfl)
theorem dX15_init_17 : decode cX15_init 17 = .ok (.putfield 17, 3) := dk_181 0 17 (dk_at dksX15_init_0 17 rfl rfl)
theorem dX15_init_20 : decode cX15_init 20 = .ok (.aload_n 0, 1) := dk_42 (dk_at dksX15_init_0 20 rfl rfl)
theorem dX15_init_21 : decode cX15_init 21 = .ok (.iconst 5, 1) := dk_8 (dk_at dksX15_init_0 21 rfl rfl)
theorem dX15_init_22 : decode cX15_init 22 = .ok (.anewarray 9, 3) := dk_189 0 9 (dk_at dksX15_init_1 0 rfl rfl)
theorem dX15_init_25 : decode cX15_init 25 = .ok (.putfield 20, 3) := dk_181 0 20 (dk_at dksX15_init_1 3 rfl rfl)
theorem dX15_init_28 : decode cX15_init 28 = .ok (.return_, 1) := dk_177 (dk_at dksX15_init_1 6 rfl rfl)
def mX15_of : am_M := (yX15_of, cX15_of, 4, (some .int), [])
theorem okX15_of : am_Ok mX15_of 1 := ⟨rfl, q551, q146, ⟨by decide +kernel, by decide +kernel, by decide +kernel⟩, by decide, by decide +kernel⟩
def mX15_init : am_M := (yX15_init, cX15_init, 1, none, [])
theorem okX15_init : am_Ok mX15_init 0 := ⟨rfl, q1087, q146, ⟨by decide +kernel, by decide +kernel, by decide +kernel⟩, by decide, by decide +kernel⟩
/-! ThreadTown$Sum -/
abbrev cX16_init : ByteArray := prog_16_method_1_code
def yX16_init : MethodName := ⟨RX16, "<init>", "()V"⟩
theorem dX16_init_0 : decode cX16_init 0 = .ok (.aload_n 0, 1) := by decide +kernel
theorem dX16_init_1 : decode cX16_init 1 = .ok (.invokespecial 1, 3) := by decide +kernel
theorem dX16_init_4 : decode cX16_init 4 = .ok (.return_, 1) := by decide +kernel
def mX16_init : am_M := (yX16_init, cX16_init, 1, none, [])
theorem okX16_init : am_Ok mX16_init 0 := ⟨rfl, q1139, q147, ⟨by decide +kernel, by decide +kernel, by decide +kernel⟩, by decide, by decide +kernel⟩
/-! ThreadTown$Number -/
abbrev cX17_of : ByteArray := prog_14_method_2_code
def yX17_of : MethodName := ⟨RX17, "of", "(LThreadTown$Asked;)I"⟩
theorem dX17_of_0 : decode cX17_of 0 = .ok (.aload_n 0, 1) := by decide +kernel
theorem dX17_of_1 : decode cX17_of 1 = .ok (.getfield 7, 3) := by decide +kernel
theorem dX17_of_4 : decode cX17_of 4 = .ok (.ireturn, 1) := by decide +kernel
abbrev cX17_init : ByteArray := prog_14_method_1_code
def yX17_init : MethodName := ⟨RX17, "<init>", "(I)V"⟩
def dkwX17_init_0 : List UInt8 := [42, 183, 0, 1, 42, 27, 181, 0, 7, 177]
abbrev dktX17_init_0 : List UInt8 := dkwX17_init_0 ++ []
theorem dksX17_init_0 : cX17_init.data.toList.drop 0 = dktX17_init_0 := by decide +kernel
theorem dX17_init_0 : decode cX17_init 0 = .ok (.aload_n 0, 1) := dk_42 (dk_at dksX17_init_0 0 rfl rfl)
theorem dX17_init_1 : decode cX17_init 1 = .ok (.invokespecial 1, 3) := dk_183 0 1 (dk_at dksX17_init_0 1 rfl rfl)
theorem dX17_init_4 : decode cX17_init 4 = .ok (.aload_n 0, 1) := dk_42 (dk_at dksX17_init_0 4 rfl rfl)
theorem dX17_init_5 : decode cX17_init 5 = .ok (.iload_n 1, 1) := dk_27 (dk_at dksX17_init_0 5 rfl rfl)
theorem dX17_init_6 : decode cX17_init 6 = .ok (.putfield 7, 3) := dk_181 0 7 (dk_at dksX17_init_0 6 rfl rfl)
theorem dX17_init_9 : decode cX17_init 9 = .ok (.return_, 1) := dk_177 (dk_at dksX17_init_0 9 rfl rfl)
def mX17_of : am_M := (yX17_of, cX17_of, 2, (some .int), [])
theorem okX17_of : am_Ok mX17_of 1 := ⟨rfl, q560, q148, ⟨by decide +kernel, by decide +kernel, by decide +kernel⟩, by decide, by decide +kernel⟩
def mX17_init : am_M := (yX17_init, cX17_init, 2, none, [])
theorem okX17_init : am_Ok mX17_init 1 := ⟨rfl, q1136, q148, ⟨by decide +kernel, by decide +kernel, by decide +kernel⟩, by decide, by decide +kernel⟩
/-! ThreadTown$Var -/
abbrev cX18_of : ByteArray := prog_19_method_2_code
def yX18_of : MethodName := ⟨RX18, "of", "(LThreadTown$Asked;)I"⟩
def dkwX18_of_0 : List UInt8 := [43, 180, 0, 13, 42, 180, 0, 7, 46, 172]
abbrev dktX18_of_0 : List UInt8 := dkwX18_of_0 ++ []
theorem dksX18_of_0 : cX18_of.data.toList.drop 0 = dktX18_of_0 := by decide +kernel
theorem dX18_of_0 : decode cX18_of 0 = .ok (.aload_n 1, 1) := dk_43 (dk_at dksX18_of_0 0 rfl rfl)
theorem dX18_of_1 : decode cX18_of 1 = .ok (.getfield 13, 3) := dk_180 0 13 (dk_at dksX18_of_0 1 rfl rfl)
theorem dX18_of_4 : decode cX18_of 4 = .ok (.aload_n 0, 1) := dk_42 (dk_at dksX18_of_0 4 rfl rfl)
theorem dX18_of_5 : decode cX18_of 5 = .ok (.getfield 7, 3) := dk_180 0 7 (dk_at dksX18_of_0 5 rfl rfl)
theorem dX18_of_8 : decode cX18_of 8 = .ok (.iaload, 1) := dk_46 (dk_at dksX18_of_0 8 rfl rfl)
theorem dX18_of_9 : decode cX18_of 9 = .ok (.ireturn, 1) := dk_172 (dk_at dksX18_of_0 9 rfl rfl)
abbrev cX18_init : ByteArray := prog_19_method_1_code
def yX18_init : MethodName := ⟨RX18, "<init>", "(I)V"⟩
def dkwX18_init_0 : List UInt8 := [42, 183, 0, 1, 42, 27, 181, 0, 7, 177]
abbrev dktX18_init_0 : List UInt8 := dkwX18_init_0 ++ []
theorem dksX18_init_0 : cX18_init.data.toList.drop 0 = dktX18_init_0 := by decide +kernel
theorem dX18_init_0 : decode cX18_init 0 = .ok (.aload_n 0, 1) := dk_42 (dk_at dksX18_init_0 0 rfl rfl)
theorem dX18_init_1 : decode cX18_init 1 = .ok (.invokespecial 1, 3) := dk_183 0 1 (dk_at dksX18_init_0 1 rfl rfl)
theorem dX18_init_4 : decode cX18_init 4 = .ok (.aload_n 0, 1) := dk_42 (dk_at dksX18_init_0 4 rfl rfl)
theorem dX18_init_5 : decode cX18_init 5 = .ok (.iload_n 1, 1) := dk_27 (dk_at dksX18_init_0 5 rfl rfl)
theorem dX18_init_6 : decode cX18_init 6 = .ok (.putfield 7, 3) := dk_181 0 7 (dk_at dksX18_init_0 6 rfl rfl)
theorem dX18_init_9 : decode cX18_init 9 = .ok (.return_, 1) := dk_177 (dk_at dksX18_init_0 9 rfl rfl)
def mX18_of : am_M := (yX18_of, cX18_of, 2, (some .int), [])
theorem okX18_of : am_Ok mX18_of 1 := ⟨rfl, q562, q149, ⟨by decide +kernel, by decide +kernel, by decide +kernel⟩, by decide, by decide +kernel⟩
def mX18_init : am_M := (yX18_init, cX18_init, 2, none, [])
theorem okX18_init : am_Ok mX18_init 1 := ⟨rfl, q1149, q149, ⟨by decide +kernel, by decide +kernel, by decide +kernel⟩, by decide, by decide +kernel⟩
/-! ThreadTown$Joined -/
abbrev cX19_of : ByteArray := prog_11_method_2_code
def yX19_of : MethodName := ⟨RX19, "of", "(LThreadTown$Asked;)I"⟩
def dkwX19_of_3 : List UInt8 := [181, 0, 24, 3, 172]
abbrev dktX19_of_3 : List UInt8 := dkwX19_of_3 ++ []
def dkwX19_of_2 : List UInt8 := [28, 29, 96, 172, 28, 29, 100, 172, 28, 29, 104, 172, 29, 153, 0, 7, 28, 29, 108, 172, 43, 4]
abbrev dktX19_of_2 : List UInt8 := dkwX19_of_2 ++ dktX19_of_3
def dkwX19_of_1 : List UInt8 := [170, 0, 0, 0, 0, 42, 0, 0, 0, 42, 0, 0, 0, 45, 0, 0, 0, 38, 0, 0, 0, 30, 0, 0, 0, 42, 0, 0, 0, 34]
abbrev dktX19_of_1 : List UInt8 := dkwX19_of_1 ++ dktX19_of_2
def dkwX19_of_0 : List UInt8 := [42, 180, 0, 13, 43, 182, 0, 20, 61, 42, 180, 0, 17, 43, 182, 0, 20, 62, 42, 180, 0, 7]
abbrev dktX19_of_0 : List UInt8 := dkwX19_of_0 ++ dktX19_of_1
theorem dksX19_of_0 : cX19_of.data.toList.drop 0 = dktX19_of_0 := by decide +kernel
theorem dksX19_of_1 : cX19_of.data.toList.drop 22 = dktX19_of_1 := dk_seg dksX19_of_0 22 rfl rfl
theorem dksX19_of_2 : cX19_of.data.toList.drop 52 = dktX19_of_2 := dk_seg dksX19_of_1 30 rfl rfl
theorem dksX19_of_3 : cX19_of.data.toList.drop 74 = dktX19_of_3 := dk_seg dksX19_of_2 22 rfl rfl
theorem dX19_of_0 : decode cX19_of 0 = .ok (.aload_n 0, 1) := dk_42 (dk_at dksX19_of_0 0 rfl rfl)
theorem dX19_of_1 : decode cX19_of 1 = .ok (.getfield 13, 3) := dk_180 0 13 (dk_at dksX19_of_0 1 rfl rfl)
theorem dX19_of_4 : decode cX19_of 4 = .ok (.aload_n 1, 1) := dk_43 (dk_at dksX19_of_0 4 rfl rfl)
theorem dX19_of_5 : decode cX19_of 5 = .ok (.invokevirtual 20, 3) := dk_182 0 20 (dk_at dksX19_of_0 5 rfl rfl)
theorem dX19_of_8 : decode cX19_of 8 = .ok (.istore_n 2, 1) := dk_61 (dk_at dksX19_of_0 8 rfl rfl)
theorem dX19_of_9 : decode cX19_of 9 = .ok (.aload_n 0, 1) := dk_42 (dk_at dksX19_of_0 9 rfl rfl)
theorem dX19_of_10 : decode cX19_of 10 = .ok (.getfield 17, 3) := dk_180 0 17 (dk_at dksX19_of_0 10 rfl rfl)
theorem dX19_of_13 : decode cX19_of 13 = .ok (.aload_n 1, 1) := dk_43 (dk_at dksX19_of_0 13 rfl rfl)
theorem dX19_of_14 : decode cX19_of 14 = .ok (.invokevirtual 20, 3) := dk_182 0 20 (dk_at dksX19_of_0 14 rfl rfl)
theorem dX19_of_17 : decode cX19_of 17 = .ok (.istore_n 3, 1) := dk_62 (dk_at dksX19_of_0 17 rfl rfl)
theorem dX19_of_18 : decode cX19_of 18 = .ok (.aload_n 0, 1) := dk_42 (dk_at dksX19_of_0 18 rfl rfl)
theorem dX19_of_19 : decode cX19_of 19 = .ok (.getfield 7, 3) := dk_180 0 7 (dk_at dksX19_of_0 19 rfl rfl)
theorem dX19_of_22 : decode cX19_of 22 = .ok (.tableswitch 42 42 45 #[38, 30, 42, 34], 30) := by decide +kernel
theorem dX19_of_52 : decode cX19_of 52 = .ok (.iload_n 2, 1) := dk_28 (dk_at dksX19_of_2 0 rfl rfl)
theorem dX19_of_53 : decode cX19_of 53 = .ok (.iload_n 3, 1) := dk_29 (dk_at dksX19_of_2 1 rfl rfl)
theorem dX19_of_54 : decode cX19_of 54 = .ok (.iadd, 1) := dk_96 (dk_at dksX19_of_2 2 rfl rfl)
theorem dX19_of_55 : decode cX19_of 55 = .ok (.ireturn, 1) := dk_172 (dk_at dksX19_of_2 3 rfl rfl)
theorem dX19_of_56 : decode cX19_of 56 = .ok (.iload_n 2, 1) := dk_28 (dk_at dksX19_of_2 4 rfl rfl)
theorem dX19_of_57 : decode cX19_of 57 = .ok (.iload_n 3, 1) := dk_29 (dk_at dksX19_of_2 5 rfl rfl)
theorem dX19_of_58 : decode cX19_of 58 = .ok (.isub, 1) := dk_100 (dk_at dksX19_of_2 6 rfl rfl)
theorem dX19_of_59 : decode cX19_of 59 = .ok (.ireturn, 1) := dk_172 (dk_at dksX19_of_2 7 rfl rfl)
theorem dX19_of_60 : decode cX19_of 60 = .ok (.iload_n 2, 1) := dk_28 (dk_at dksX19_of_2 8 rfl rfl)
theorem dX19_of_61 : decode cX19_of 61 = .ok (.iload_n 3, 1) := dk_29 (dk_at dksX19_of_2 9 rfl rfl)
theorem dX19_of_62 : decode cX19_of 62 = .ok (.imul, 1) := dk_104 (dk_at dksX19_of_2 10 rfl rfl)
theorem dX19_of_63 : decode cX19_of 63 = .ok (.ireturn, 1) := dk_172 (dk_at dksX19_of_2 11 rfl rfl)
theorem dX19_of_64 : decode cX19_of 64 = .ok (.iload_n 3, 1) := dk_29 (dk_at dksX19_of_2 12 rfl rfl)
theorem dX19_of_65 : decode cX19_of 65 = .ok (.ifCond .eq 7, 3) := dk_153 0 7 (dk_at dksX19_of_2 13 rfl rfl)
theorem dX19_of_68 : decode cX19_of 68 = .ok (.iload_n 2, 1) := dk_28 (dk_at dksX19_of_2 16 rfl rfl)
theorem dX19_of_69 : decode cX19_of 69 = .ok (.iload_n 3, 1) := dk_29 (dk_at dksX19_of_2 17 rfl rfl)
theorem dX19_of_70 : decode cX19_of 70 = .ok (.idiv, 1) := dk_108 (dk_at dksX19_of_2 18 rfl rfl)
theorem dX19_of_71 : decode cX19_of 71 = .ok (.ireturn, 1) := dk_172 (dk_at dksX19_of_2 19 rfl rfl)
theorem dX19_of_72 : decode cX19_of 72 = .ok (.aload_n 1, 1) := dk_43 (dk_at dksX19_of_2 20 rfl rfl)
theorem dX19_of_73 : decode cX19_of 73 = .ok (.iconst 1, 1) := dk_4 (dk_at dksX19_of_2 21 rfl rfl)
theorem dX19_of_74 : decode cX19_of 74 = .ok (.putfield 24, 3) := dk_181 0 24 (dk_at dksX19_of_3 0 rfl rfl)
theorem dX19_of_77 : decode cX19_of 77 = .ok (.iconst 0, 1) := dk_3 (dk_at dksX19_of_3 3 rfl rfl)
theorem dX19_of_78 : decode cX19_of 78 = .ok (.ireturn, 1) := dk_172 (dk_at dksX19_of_3 4 rfl rfl)
abbrev cX19_init : ByteArray := prog_11_method_1_code
def yX19_init : MethodName := ⟨RX19, "<init>", "(ILThreadTown$Sum;LThreadTown$Sum;)V"⟩
def dkwX19_init_0 : List UInt8 := [42, 183, 0, 1, 42, 27, 181, 0, 7, 42, 44, 181, 0, 13, 42, 45, 181, 0, 17, 177]
abbrev dktX19_init_0 : List UInt8 := dkwX19_init_0 ++ []
theorem dksX19_init_0 : cX19_init.data.toList.drop 0 = dktX19_init_0 := by decide +kernel
theorem dX19_init_0 : decode cX19_init 0 = .ok (.aload_n 0, 1) := dk_42 (dk_at dksX19_init_0 0 rfl rfl)
theorem dX19_init_1 : decode cX19_init 1 = .ok (.invokespecial 1, 3) := dk_183 0 1 (dk_at dksX19_init_0 1 rfl rfl)
theorem dX19_init_4 : decode cX19_init 4 = .ok (.aload_n 0, 1) := dk_42 (dk_at dksX19_init_0 4 rfl rfl)
theorem dX19_init_5 : decode cX19_init 5 = .ok (.iload_n 1, 1) := dk_27 (dk_at dksX19_init_0 5 rfl rfl)
theorem dX19_init_6 : decode cX19_init 6 = .ok (.putfield 7, 3) := dk_181 0 7 (dk_at dksX19_init_0 6 rfl rfl)
theorem dX19_init_9 : decode cX19_init 9 = .ok (.aload_n 0, 1) := dk_42 (dk_at dksX19_init_0 9 rfl rfl)
theorem dX19_init_10 : decode cX19_init 10 = .ok (.aload_n 2, 1) := dk_44 (dk_at dksX19_init_0 10 rfl rfl)
theorem dX19_init_11 : decode cX19_init 11 = .ok (.putfield 13, 3) := dk_181 0 13 (dk_at dksX19_init_0 11 rfl rfl)
theorem dX19_init_14 : decode cX19_init 14 = .ok (.aload_n 0, 1) := dk_42 (dk_at dksX19_init_0 14 rfl rfl)
theorem dX19_init_15 : decode cX19_init 15 = .ok (.aload_n 3, 1) := dk_45 (dk_at dksX19_init_0 15 rfl rfl)
theorem dX19_init_16 : decode cX19_init 16 = .ok (.putfield 17, 3) := dk_181 0 17 (dk_at dksX19_init_0 16 rfl rfl)
theorem dX19_init_19 : decode cX19_init 19 = .ok (.return_, 1) := dk_177 (dk_at dksX19_init_0 19 rfl rfl)
def mX19_of : am_M := (yX19_of, cX19_of, 4, (some .int), [])
theorem okX19_of : am_Ok mX19_of 1 := ⟨rfl, q557, q150, ⟨by decide +kernel, by decide +kernel, by decide +kernel⟩, by decide, by decide +kernel⟩
def mX19_init : am_M := (yX19_init, cX19_init, 4, none, [])
theorem okX19_init : am_Ok mX19_init 3 := ⟨rfl, q1159, q150, ⟨by decide +kernel, by decide +kernel, by decide +kernel⟩, by decide, by decide +kernel⟩
