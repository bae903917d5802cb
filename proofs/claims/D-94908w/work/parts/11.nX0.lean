set_option maxRecDepth 100000
/-! ThreadTown -/
abbrev cX0_init : ByteArray := prog_1_method_6_code
def yX0_init : MethodName := ⟨RX0, "<init>", "()V"⟩
def dkwX0_init_13 : List UInt8 := [180, 0, 63, 42, 180, 0, 52, 182, 0, 134, 177]
abbrev dktX0_init_13 : List UInt8 := dkwX0_init_13 ++ []
def dkwX0_init_12 : List UInt8 := [162, 0, 22, 42, 180, 0, 70, 27, 187, 0, 60, 89, 183, 0, 62, 83, 132, 1, 1, 167, 255, 234, 42]
abbrev dktX0_init_12 : List UInt8 := dkwX0_init_12 ++ dktX0_init_13
def dkwX0_init_11 : List UInt8 := [181, 0, 125, 42, 16, 7, 188, 10, 181, 0, 128, 42, 16, 12, 188, 4, 181, 0, 131, 3, 60, 27, 16, 30]
abbrev dktX0_init_11 : List UInt8 := dkwX0_init_11 ++ dktX0_init_12
def dkwX0_init_10 : List UInt8 := [17, 1, 32, 197, 0, 117, 3, 181, 0, 119, 42, 16, 12, 188, 10, 181, 0, 122, 42, 16, 12, 188, 10]
abbrev dktX0_init_10 : List UInt8 := dkwX0_init_10 ++ dktX0_init_11
def dkwX0_init_9 : List UInt8 := [16, 64, 16, 6, 197, 0, 109, 2, 181, 0, 111, 42, 16, 7, 188, 10, 181, 0, 114, 42, 16, 7, 5]
abbrev dktX0_init_9 : List UInt8 := dkwX0_init_9 ++ dktX0_init_10
def dkwX0_init_8 : List UInt8 := [6, 188, 4, 181, 0, 98, 42, 16, 7, 188, 10, 181, 0, 102, 42, 17, 0, 128, 188, 10, 181, 0, 106, 42]
abbrev dktX0_init_8 : List UInt8 := dkwX0_init_8 ++ dktX0_init_9
def dkwX0_init_7 : List UInt8 := [89, 6, 187, 0, 88, 89, 183, 0, 90, 83, 89, 7, 187, 0, 91, 89, 183, 0, 93, 83, 181, 0, 94, 42]
abbrev dktX0_init_7 : List UInt8 := dkwX0_init_7 ++ dktX0_init_8
def dkwX0_init_6 : List UInt8 := [183, 0, 81, 83, 89, 4, 187, 0, 82, 89, 183, 0, 84, 83, 89, 5, 187, 0, 85, 89, 183, 0, 87, 83]
abbrev dktX0_init_6 : List UInt8 := dkwX0_init_6 ++ dktX0_init_7
def dkwX0_init_5 : List UInt8 := [89, 5, 187, 0, 60, 89, 183, 0, 62, 83, 181, 0, 74, 42, 8, 189, 0, 77, 89, 3, 187, 0, 79, 89]
abbrev dktX0_init_5 : List UInt8 := dkwX0_init_5 ++ dktX0_init_6
def dkwX0_init_4 : List UInt8 := [6, 189, 0, 60, 89, 3, 187, 0, 60, 89, 183, 0, 62, 83, 89, 4, 187, 0, 60, 89, 183, 0, 62, 83]
abbrev dktX0_init_4 : List UInt8 := dkwX0_init_4 ++ dktX0_init_5
def dkwX0_init_3 : List UInt8 := [181, 0, 63, 42, 187, 0, 60, 89, 183, 0, 62, 181, 0, 67, 42, 16, 30, 189, 0, 60, 181, 0, 70, 42]
abbrev dktX0_init_3 : List UInt8 := dkwX0_init_3 ++ dktX0_init_4
def dkwX0_init_2 : List UInt8 := [187, 0, 49, 89, 183, 0, 51, 181, 0, 52, 42, 2, 181, 0, 56, 42, 187, 0, 60, 89, 183, 0, 62]
abbrev dktX0_init_2 : List UInt8 := dkwX0_init_2 ++ dktX0_init_3
def dkwX0_init_1 : List UInt8 := [181, 0, 36, 42, 187, 0, 40, 89, 42, 180, 0, 36, 42, 180, 0, 29, 183, 0, 42, 181, 0, 45, 42]
abbrev dktX0_init_1 : List UInt8 := dkwX0_init_1 ++ dktX0_init_2
def dkwX0_init_0 : List UInt8 := [42, 183, 0, 20, 42, 187, 0, 26, 89, 183, 0, 28, 181, 0, 29, 42, 187, 0, 33, 89, 183, 0, 35]
abbrev dktX0_init_0 : List UInt8 := dkwX0_init_0 ++ dktX0_init_1
theorem dksX0_init_0 : cX0_init.data.toList.drop 0 = dktX0_init_0 := by decide +kernel
theorem dksX0_init_1 : cX0_init.data.toList.drop 23 = dktX0_init_1 := dk_seg dksX0_init_0 23 rfl rfl
theorem dksX0_init_2 : cX0_init.data.toList.drop 46 = dktX0_init_2 := dk_seg dksX0_init_1 23 rfl rfl
theorem dksX0_init_3 : cX0_init.data.toList.drop 69 = dktX0_init_3 := dk_seg dksX0_init_2 23 rfl rfl
theorem dksX0_init_4 : cX0_init.data.toList.drop 93 = dktX0_init_4 := dk_seg dksX0_init_3 24 rfl rfl
theorem dksX0_init_5 : cX0_init.data.toList.drop 117 = dktX0_init_5 := dk_seg dksX0_init_4 24 rfl rfl
theorem dksX0_init_6 : cX0_init.data.toList.drop 141 = dktX0_init_6 := dk_seg dksX0_init_5 24 rfl rfl
theorem dksX0_init_7 : cX0_init.data.toList.drop 165 = dktX0_init_7 := dk_seg dksX0_init_6 24 rfl rfl
theorem dksX0_init_8 : cX0_init.data.toList.drop 189 = dktX0_init_8 := dk_seg dksX0_init_7 24 rfl rfl
theorem dksX0_init_9 : cX0_init.data.toList.drop 213 = dktX0_init_9 := dk_seg dksX0_init_8 24 rfl rfl
theorem dksX0_init_10 : cX0_init.data.toList.drop 236 = dktX0_init_10 := dk_seg dksX0_init_9 23 rfl rfl
theorem dksX0_init_11 : cX0_init.data.toList.drop 259 = dktX0_init_11 := dk_seg dksX0_init_10 23 rfl rfl
theorem dksX0_init_12 : cX0_init.data.toList.drop 283 = dktX0_init_12 := dk_seg dksX0_init_11 24 rfl rfl
theorem dksX0_init_13 : cX0_init.data.toList.drop 306 = dktX0_init_13 := dk_seg dksX0_init_12 23 rfl rfl
theorem dX0_init_0 : decode cX0_init 0 = .ok (.aload_n 0, 1) := dk_42 (dk_at dksX0_init_0 0 rfl rfl)
theorem dX0_init_1 : decode cX0_init 1 = .ok (.invokespecial 20, 3) := dk_183 0 20 (dk_at dksX0_init_0 1 rfl rfl)
theorem dX0_init_4 : decode cX0_init 4 = .ok (.aload_n 0, 1) := dk_42 (dk_at dksX0_init_0 4 rfl rfl)
theorem dX0_init_5 : decode cX0_init 5 = .ok (.new 26, 3) := dk_187 0 26 (dk_at dksX0_init_0 5 rfl rfl)
theorem dX0_init_8 : decode cX0_init 8 = .ok (.dup, 1) := dk_89 (dk_at dksX0_init_0 8 rfl rfl)
theorem dX0_init_9 : decode cX0_init 9 = .ok (.invokespecial 28, 3) := dk_183 0 28 (dk_at dksX0_init_0 9 rfl rfl)
theorem dX0_init_12 : decode cX0_init 12 = .ok (.putfield 29, 3) := dk_181 0 29 (dk_at dksX0_init_0 12 rfl rfl)
theorem dX0_init_15 : decode cX0_init 15 = .ok (.aload_n 0, 1) := dk_42 (dk_at dksX0_init_0 15 rfl rfl)
theorem dX0_init_16 : decode cX0_init 16 = .ok (.new 33, 3) := dk_187 0 33 (dk_at dksX0_init_0 16 rfl rfl)
theorem dX0_init_19 : decode cX0_init 19 = .ok (.dup, 1) := dk_89 (dk_at dksX0_init_0 19 rfl rfl)
theorem dX0_init_20 : decode cX0_init 20 = .ok (.invokespecial 35, 3) := dk_183 0 35 (dk_at dksX0_init_0 20 rfl rfl)
theorem dX0_init_23 : decode cX0_init 23 = .ok (.putfield 36, 3) := dk_181 0 36 (dk_at dksX0_init_1 0 rfl rfl)
theorem dX0_init_26 : decode cX0_init 26 = .ok (.aload_n 0, 1) := dk_42 (dk_at dksX0_init_1 3 rfl rfl)
theorem dX0_init_27 : decode cX0_init 27 = .ok (.new 40, 3) := dk_187 0 40 (dk_at dksX0_init_1 4 rfl rfl)
theorem dX0_init_30 : decode cX0_init 30 = .ok (.dup, 1) := dk_89 (dk_at dksX0_init_1 7 rfl rfl)
theorem dX0_init_31 : decode cX0_init 31 = .ok (.aload_n 0, 1) := dk_42 (dk_at dksX0_init_1 8 rfl rfl)
theorem dX0_init_32 : decode cX0_init 32 = .ok (.getfield 36, 3) := dk_180 0 36 (dk_at dksX0_init_1 9 rfl rfl)
theorem dX0_init_35 : decode cX0_init 35 = .ok (.aload_n 0, 1) := dk_42 (dk_at dksX0_init_1 12 rfl rfl)
theorem dX0_init_36 : decode cX0_init 36 = .ok (.getfield 29, 3) := dk_180 0 29 (dk_at dksX0_init_1 13 rfl rfl)
theorem dX0_init_39 : decode cX0_init 39 = .ok (.invokespecial 42, 3) := dk_183 0 42 (dk_at dksX0_init_1 16 rfl rfl)
theorem dX0_init_42 : decode cX0_init 42 = .ok (.putfield 45, 3) := dk_181 0 45 (dk_at dksX0_init_1 19 rfl rfl)
theorem dX0_init_45 : decode cX0_init 45 = .ok (.aload_n 0, 1) := dk_42 (dk_at dksX0_init_1 22 rfl rfl)
theorem dX0_init_46 : decode cX0_init 46 = .ok (.new 49, 3) := dk_187 0 49 (dk_at dksX0_init_2 0 rfl rfl)
theorem dX0_init_49 : decode cX0_init 49 = .ok (.dup, 1) := dk_89 (dk_at dksX0_init_2 3 rfl rfl)
theorem dX0_init_50 : decode cX0_init 50 = .ok (.invokespecial 51, 3) := dk_183 0 51 (dk_at dksX0_init_2 4 rfl rfl)
theorem dX0_init_53 : decode cX0_init 53 = .ok (.putfield 52, 3) := dk_181 0 52 (dk_at dksX0_init_2 7 rfl rfl)
theorem dX0_init_56 : decode cX0_init 56 = .ok (.aload_n 0, 1) := dk_42 (dk_at dksX0_init_2 10 rfl rfl)
theorem dX0_init_57 : decode cX0_init 57 = .ok (.iconst (-1), 1) := dk_2 (dk_at dksX0_init_2 11 rfl rfl)
theorem dX0_init_58 : decode cX0_init 58 = .ok (.putfield 56, 3) := dk_181 0 56 (dk_at dksX0_init_2 12 rfl rfl)
theorem dX0_init_61 : decode cX0_init 61 = .ok (.aload_n 0, 1) := dk_42 (dk_at dksX0_init_2 15 rfl rfl)
theorem dX0_init_62 : decode cX0_init 62 = .ok (.new 60, 3) := dk_187 0 60 (dk_at dksX0_init_2 16 rfl rfl)
theorem dX0_init_65 : decode cX0_init 65 = .ok (.dup, 1) := dk_89 (dk_at dksX0_init_2 19 rfl rfl)
theorem dX0_init_66 : decode cX0_init 66 = .ok (.invokespecial 62, 3) := dk_183 0 62 (dk_at dksX0_init_2 20 rfl rfl)
theorem dX0_init_69 : decode cX0_init 69 = .ok (.putfield 63, 3) := dk_181 0 63 (dk_at dksX0_init_3 0 rfl rfl)
theorem dX0_init_72 : decode cX0_init 72 = .ok (.aload_n 0, 1) := dk_42 (dk_at dksX0_init_3 3 rfl rfl)
theorem dX0_init_73 : decode cX0_init 73 = .ok (.new 60, 3) := dk_187 0 60 (dk_at dksX0_init_3 4 rfl rfl)
theorem dX0_init_76 : decode cX0_init 76 = .ok (.dup, 1) := dk_89 (dk_at dksX0_init_3 7 rfl rfl)
theorem dX0_init_77 : decode cX0_init 77 = .ok (.invokespecial 62, 3) := dk_183 0 62 (dk_at dksX0_init_3 8 rfl rfl)
theorem dX0_init_80 : decode cX0_init 80 = .ok (.putfield 67, 3) := dk_181 0 67 (dk_at dksX0_init_3 11 rfl rfl)
theorem dX0_init_83 : decode cX0_init 83 = .ok (.aload_n 0, 1) := dk_42 (dk_at dksX0_init_3 14 rfl rfl)
theorem dX0_init_84 : decode cX0_init 84 = .ok (.bipush 30, 2) := dk_16 30 (dk_at dksX0_init_3 15 rfl rfl)
theorem dX0_init_86 : decode cX0_init 86 = .ok (.anewarray 60, 3) := dk_189 0 60 (dk_at dksX0_init_3 17 rfl rfl)
theorem dX0_init_89 : decode cX0_init 89 = .ok (.putfield 70, 3) := dk_181 0 70 (dk_at dksX0_init_3 20 rfl rfl)
theorem dX0_init_92 : decode cX0_init 92 = .ok (.aload_n 0, 1) := dk_42 (dk_at dksX0_init_3 23 rfl rfl)
theorem dX0_init_93 : decode cX0_init 93 = .ok (.iconst 3, 1) := dk_6 (dk_at dksX0_init_4 0 rfl rfl)
theorem dX0_init_94 : decode cX0_init 94 = .ok (.anewarray 60, 3) := dk_189 0 60 (dk_at dksX0_init_4 1 rfl rfl)
theorem dX0_init_97 : decode cX0_init 97 = .ok (.dup, 1) := dk_89 (dk_at dksX0_init_4 4 rfl rfl)
theorem dX0_init_98 : decode cX0_init 98 = .ok (.iconst 0, 1) := dk_3 (dk_at dksX0_init_4 5 rfl rfl)
theorem dX0_init_99 : decode cX0_init 99 = .ok (.new 60, 3) := dk_187 0 60 (dk_at dksX0_init_4 6 rfl rfl)
theorem dX0_init_102 : decode cX0_init 102 = .ok (.dup, 1) := dk_89 (dk_at dksX0_init_4 9 rfl rfl)
theorem dX0_init_103 : decode cX0_init 103 = .ok (.invokespecial 62, 3) := dk_183 0 62 (dk_at dksX0_init_4 10 rfl rfl)
theorem dX0_init_106 : decode cX0_init 106 = .ok (.aastore, 1) := dk_83 (dk_at dksX0_init_4 13 rfl rfl)
theorem dX0_init_107 : decode cX0_init 107 = .ok (.dup, 1) := dk_89 (dk_at dksX0_init_4 14 rfl rfl)
theorem dX0_init_108 : decode cX0_init 108 = .ok (.iconst 1, 1) := dk_4 (dk_at dksX0_init_4 15 rfl rfl)
theorem dX0_init_109 : decode cX0_init 109 = .ok (.new 60, 3) := dk_187 0 60 (dk_at dksX0_init_4 16 rfl rfl)
theorem dX0_init_112 : decode cX0_init 112 = .ok (.dup, 1) := dk_89 (dk_at dksX0_init_4 19 rfl rfl)
theorem dX0_init_113 : decode cX0_init 113 = .ok (.invokespecial 62, 3) := dk_183 0 62 (dk_at dksX0_init_4 20 rfl rfl)
theorem dX0_init_116 : decode cX0_init 116 = .ok (.aastore, 1) := dk_83 (dk_at dksX0_init_4 23 rfl rfl)
theorem dX0_init_117 : decode cX0_init 117 = .ok (.dup, 1) := dk_89 (dk_at dksX0_init_5 0 rfl rfl)
theorem dX0_init_118 : decode cX0_init 118 = .ok (.iconst 2, 1) := dk_5 (dk_at dksX0_init_5 1 rfl rfl)
theorem dX0_init_119 : decode cX0_init 119 = .ok (.new 60, 3) := dk_187 0 60 (dk_at dksX0_init_5 2 rfl rfl)
theorem dX0_init_122 : decode cX0_init 122 = .ok (.dup, 1) := dk_89 (dk_at dksX0_init_5 5 rfl rfl)
theorem dX0_init_123 : decode cX0_init 123 = .ok (.invokespecial 62, 3) := dk_183 0 62 (dk_at dksX0_init_5 6 rfl rfl)
theorem dX0_init_126 : decode cX0_init 126 = .ok (.aastore, 1) := dk_83 (dk_at dksX0_init_5 9 rfl rfl)
theorem dX0_init_127 : decode cX0_init 127 = .ok (.putfield 74, 3) := dk_181 0 74 (dk_at dksX0_init_5 10 rfl rfl)
theorem dX0_init_130 : decode cX0_init 130 = .ok (.aload_n 0, 1) := dk_42 (dk_at dksX0_init_5 13 rfl rfl)
theorem dX0_init_131 : decode cX0_init 131 = .ok (.iconst 5, 1) := dk_8 (dk_at dksX0_init_5 14 rfl rfl)
theorem dX0_init_132 : decode cX0_init 132 = .ok (.anewarray 77, 3) := dk_189 0 77 (dk_at dksX0_init_5 15 rfl rfl)
theorem dX0_init_135 : decode cX0_init 135 = .ok (.dup, 1) := dk_89 (dk_at dksX0_init_5 18 rfl rfl)
theorem dX0_init_136 : decode cX0_init 136 = .ok (.iconst 0, 1) := dk_3 (dk_at dksX0_init_5 19 rfl rfl)
theorem dX0_init_137 : decode cX0_init 137 = .ok (.new 79, 3) := dk_187 0 79 (dk_at dksX0_init_5 20 rfl rfl)
theorem dX0_init_140 : decode cX0_init 140 = .ok (.dup, 1) := dk_89 (dk_at dksX0_init_5 23 rfl rfl)
theorem dX0_init_141 : decode cX0_init 141 = .ok (.invokespecial 81, 3) := dk_183 0 81 (dk_at dksX0_init_6 0 rfl rfl)
theorem dX0_init_144 : decode cX0_init 144 = .ok (.aastore, 1) := dk_83 (dk_at dksX0_init_6 3 rfl rfl)
theorem dX0_init_145 : decode cX0_init 145 = .ok (.dup, 1) := dk_89 (dk_at dksX0_init_6 4 rfl rfl)
theorem dX0_init_146 : decode cX0_init 146 = .ok (.iconst 1, 1) := dk_4 (dk_at dksX0_init_6 5 rfl rfl)
theorem dX0_init_147 : decode cX0_init 147 = .ok (.new 82, 3) := dk_187 0 82 (dk_at dksX0_init_6 6 rfl rfl)
theorem dX0_init_150 : decode cX0_init 150 = .ok (.dup, 1) := dk_89 (dk_at dksX0_init_6 9 rfl rfl)
theorem dX0_init_151 : decode cX0_init 151 = .ok (.invokespecial 84, 3) := dk_183 0 84 (dk_at dksX0_init_6 10 rfl rfl)
theorem dX0_init_154 : decode cX0_init 154 = .ok (.aastore, 1) := dk_83 (dk_at dksX0_init_6 13 rfl rfl)
theorem dX0_init_155 : decode cX0_init 155 = .ok (.dup, 1) := dk_89 (dk_at dksX0_init_6 14 rfl rfl)
theorem dX0_init_156 : decode cX0_init 156 = .ok (.iconst 2, 1) := dk_5 (dk_at dksX0_init_6 15 rfl rfl)
theorem dX0_init_157 : decode cX0_init 157 = .ok (.new 85, 3) := dk_187 0 85 (dk_at dksX0_init_6 16 rfl rfl)
theorem dX0_init_160 : decode cX0_init 160 = .ok (.dup, 1) := dk_89 (dk_at dksX0_init_6 19 rfl rfl)
theorem dX0_init_161 : decode cX0_init 161 = .ok (.invokespecial 87, 3) := dk_183 0 87 (dk_at dksX0_init_6 20 rfl rfl)
theorem dX0_init_164 : decode cX0_init 164 = .ok (.aastore, 1) := dk_83 (dk_at dksX0_init_6 23 rfl rfl)
theorem dX0_init_165 : decode cX0_init 165 = .ok (.dup, 1) := dk_89 (dk_at dksX0_init_7 0 rfl rfl)
theorem dX0_init_166 : decode cX0_init 166 = .ok (.iconst 3, 1) := dk_6 (dk_at dksX0_init_7 1 rfl rfl)
theorem dX0_init_167 : decode cX0_init 167 = .ok (.new 88, 3) := dk_187 0 88 (dk_at dksX0_init_7 2 rfl rfl)
theorem dX0_init_170 : decode cX0_init 170 = .ok (.dup, 1) := dk_89 (dk_at dksX0_init_7 5 rfl rfl)
theorem dX0_init_171 : decode cX0_init 171 = .ok (.invokespecial 90, 3) := dk_183 0 90 (dk_at dksX0_init_7 6 rfl rfl)
theorem dX0_init_174 : decode cX0_init 174 = .ok (.aastore, 1) := dk_83 (dk_at dksX0_init_7 9 rfl rfl)
theorem dX0_init_175 : decode cX0_init 175 = .ok (.dup, 1) := dk_89 (dk_at dksX0_init_7 10 rfl rfl)
theorem dX0_init_176 : decode cX0_init 176 = .ok (.iconst 4, 1) := dk_7 (dk_at dksX0_init_7 11 rfl rfl)
theorem dX0_init_177 : decode cX0_init 177 = .ok (.new 91, 3) := dk_187 0 91 (dk_at dksX0_init_7 12 rfl rfl)
theorem dX0_init_180 : decode cX0_init 180 = .ok (.dup, 1) := dk_89 (dk_at dksX0_init_7 15 rfl rfl)
theorem dX0_init_181 : decode cX0_init 181 = .ok (.invokespecial 93, 3) := dk_183 0 93 (dk_at dksX0_init_7 16 rfl rfl)
theorem dX0_init_184 : decode cX0_init 184 = .ok (.aastore, 1) := dk_83 (dk_at dksX0_init_7 19 rfl rfl)
theorem dX0_init_185 : decode cX0_init 185 = .ok (.putfield 94, 3) := dk_181 0 94 (dk_at dksX0_init_7 20 rfl rfl)
theorem dX0_init_188 : decode cX0_init 188 = .ok (.aload_n 0, 1) := dk_42 (dk_at dksX0_init_7 23 rfl rfl)
theorem dX0_init_189 : decode cX0_init 189 = .ok (.iconst 3, 1) := dk_6 (dk_at dksX0_init_8 0 rfl rfl)
theorem dX0_init_190 : decode cX0_init 190 = .ok (.newarray .boolean, 2) := dk_188_4 (dk_at dksX0_init_8 1 rfl rfl)
theorem dX0_init_192 : decode cX0_init 192 = .ok (.putfield 98, 3) := dk_181 0 98 (dk_at dksX0_init_8 3 rfl rfl)
theorem dX0_init_195 : decode cX0_init 195 = .ok (.aload_n 0, 1) := dk_42 (dk_at dksX0_init_8 6 rfl rfl)
theorem dX0_init_196 : decode cX0_init 196 = .ok (.bipush 7, 2) := dk_16 7 (dk_at dksX0_init_8 7 rfl rfl)
theorem dX0_init_198 : decode cX0_init 198 = .ok (.newarray .int, 2) := dk_188_10 (dk_at dksX0_init_8 9 rfl rfl)
theorem dX0_init_200 : decode cX0_init 200 = .ok (.putfield 102, 3) := dk_181 0 102 (dk_at dksX0_init_8 11 rfl rfl)
theorem dX0_init_203 : decode cX0_init 203 = .ok (.aload_n 0, 1) := dk_42 (dk_at dksX0_init_8 14 rfl rfl)
theorem dX0_init_204 : decode cX0_init 204 = .ok (.sipush 128, 3) := dk_17 0 128 (dk_at dksX0_init_8 15 rfl rfl)
theorem dX0_init_207 : decode cX0_init 207 = .ok (.newarray .int, 2) := dk_188_10 (dk_at dksX0_init_8 18 rfl rfl)
theorem dX0_init_209 : decode cX0_init 209 = .ok (.putfield 106, 3) := dk_181 0 106 (dk_at dksX0_init_8 20 rfl rfl)
theorem dX0_init_212 : decode cX0_init 212 = .ok (.aload_n 0, 1) := dk_42 (dk_at dksX0_init_8 23 rfl rfl)
theorem dX0_init_213 : decode cX0_init 213 = .ok (.bipush 64, 2) := dk_16 64 (dk_at dksX0_init_9 0 rfl rfl)
theorem dX0_init_215 : decode cX0_init 215 = .ok (.bipush 6, 2) := dk_16 6 (dk_at dksX0_init_9 2 rfl rfl)
theorem dX0_init_217 : decode cX0_init 217 = .ok (.multianewarray 109 2, 4) := by decide +kernel
theorem dX0_init_221 : decode cX0_init 221 = .ok (.putfield 111, 3) := dk_181 0 111 (dk_at dksX0_init_9 8 rfl rfl)
theorem dX0_init_224 : decode cX0_init 224 = .ok (.aload_n 0, 1) := dk_42 (dk_at dksX0_init_9 11 rfl rfl)
theorem dX0_init_225 : decode cX0_init 225 = .ok (.bipush 7, 2) := dk_16 7 (dk_at dksX0_init_9 12 rfl rfl)
theorem dX0_init_227 : decode cX0_init 227 = .ok (.newarray .int, 2) := dk_188_10 (dk_at dksX0_init_9 14 rfl rfl)
theorem dX0_init_229 : decode cX0_init 229 = .ok (.putfield 114, 3) := dk_181 0 114 (dk_at dksX0_init_9 16 rfl rfl)
theorem dX0_init_232 : decode cX0_init 232 = .ok (.aload_n 0, 1) := dk_42 (dk_at dksX0_init_9 19 rfl rfl)
theorem dX0_init_233 : decode cX0_init 233 = .ok (.bipush 7, 2) := dk_16 7 (dk_at dksX0_init_9 20 rfl rfl)
theorem dX0_init_235 : decode cX0_init 235 = .ok (.iconst 2, 1) := dk_5 (dk_at dksX0_init_9 22 rfl rfl)
theorem dX0_init_236 : decode cX0_init 236 = .ok (.sipush 288, 3) := dk_17 1 32 (dk_at dksX0_init_10 0 rfl rfl)
theorem dX0_init_239 : decode cX0_init 239 = .ok (.multianewarray 117 3, 4) := by decide +kernel
theorem dX0_init_243 : decode cX0_init 243 = .ok (.putfield 119, 3) := dk_181 0 119 (dk_at dksX0_init_10 7 rfl rfl)
theorem dX0_init_246 : decode cX0_init 246 = .ok (.aload_n 0, 1) := dk_42 (dk_at dksX0_init_10 10 rfl rfl)
theorem dX0_init_247 : decode cX0_init 247 = .ok (.bipush 12, 2) := dk_16 12 (dk_at dksX0_init_10 11 rfl rfl)
theorem dX0_init_249 : decode cX0_init 249 = .ok (.newarray .int, 2) := dk_188_10 (dk_at dksX0_init_10 13 rfl rfl)
theorem dX0_init_251 : decode cX0_init 251 = .ok (.putfield 122, 3) := dk_181 0 122 (dk_at dksX0_init_10 15 rfl rfl)
theorem dX0_init_254 : decode cX0_init 254 = .ok (.aload_n 0, 1) := dk_42 (dk_at dksX0_init_10 18 rfl rfl)
theorem dX0_init_255 : decode cX0_init 255 = .ok (.bipush 12, 2) := dk_16 12 (dk_at dksX0_init_10 19 rfl rfl)
theorem dX0_init_257 : decode cX0_init 257 = .ok (.newarray .int, 2) := dk_188_10 (dk_at dksX0_init_10 21 rfl rfl)
theorem dX0_init_259 : decode cX0_init 259 = .ok (.putfield 125, 3) := dk_181 0 125 (dk_at dksX0_init_11 0 rfl rfl)
theorem dX0_init_262 : decode cX0_init 262 = .ok (.aload_n 0, 1) := dk_42 (dk_at dksX0_init_11 3 rfl rfl)
theorem dX0_init_263 : decode cX0_init 263 = .ok (.bipush 7, 2) := dk_16 7 (dk_at dksX0_init_11 4 rfl rfl)
theorem dX0_init_265 : decode cX0_init 265 = .ok (.newarray .int, 2) := dk_188_10 (dk_at dksX0_init_11 6 rfl rfl)
theorem dX0_init_267 : decode cX0_init 267 = .ok (.putfield 128, 3) := dk_181 0 128 (dk_at dksX0_init_11 8 rfl rfl)
theorem dX0_init_270 : decode cX0_init 270 = .ok (.aload_n 0, 1) := dk_42 (dk_at dksX0_init_11 11 rfl rfl)
theorem dX0_init_271 : decode cX0_init 271 = .ok (.bipush 12, 2) := dk_16 12 (dk_at dksX0_init_11 12 rfl rfl)
theorem dX0_init_273 : decode cX0_init 273 = .ok (.newarray .boolean, 2) := dk_188_4 (dk_at dksX0_init_11 14 rfl rfl)
theorem dX0_init_275 : decode cX0_init 275 = .ok (.putfield 131, 3) := dk_181 0 131 (dk_at dksX0_init_11 16 rfl rfl)
theorem dX0_init_278 : decode cX0_init 278 = .ok (.iconst 0, 1) := dk_3 (dk_at dksX0_init_11 19 rfl rfl)
theorem dX0_init_279 : decode cX0_init 279 = .ok (.istore_n 1, 1) := dk_60 (dk_at dksX0_init_11 20 rfl rfl)
theorem dX0_init_280 : decode cX0_init 280 = .ok (.iload_n 1, 1) := dk_27 (dk_at dksX0_init_11 21 rfl rfl)
theorem dX0_init_281 : decode cX0_init 281 = .ok (.bipush 30, 2) := dk_16 30 (dk_at dksX0_init_11 22 rfl rfl)
theorem dX0_init_283 : decode cX0_init 283 = .ok (.if_icmp .ge 22, 3) := dk_162 0 22 (dk_at dksX0_init_12 0 rfl rfl)
theorem dX0_init_286 : decode cX0_init 286 = .ok (.aload_n 0, 1) := dk_42 (dk_at dksX0_init_12 3 rfl rfl)
theorem dX0_init_287 : decode cX0_init 287 = .ok (.getfield 70, 3) := dk_180 0 70 (dk_at dksX0_init_12 4 rfl rfl)
theorem dX0_init_290 : decode cX0_init 290 = .ok (.iload_n 1, 1) := dk_27 (dk_at dksX0_init_12 7 rfl rfl)
theorem dX0_init_291 : decode cX0_init 291 = .ok (.new 60, 3) := dk_187 0 60 (dk_at dksX0_init_12 8 rfl rfl)
theorem dX0_init_294 : decode cX0_init 294 = .ok (.dup, 1) := dk_89 (dk_at dksX0_init_12 11 rfl rfl)
theorem dX0_init_295 : decode cX0_init 295 = .ok (.invokespecial 62, 3) := dk_183 0 62 (dk_at dksX0_init_12 12 rfl rfl)
theorem dX0_init_298 : decode cX0_init 298 = .ok (.aastore, 1) := dk_83 (dk_at dksX0_init_12 15 rfl rfl)
theorem dX0_init_299 : decode cX0_init 299 = .ok (.iinc 1 1, 3) := dk_132 1 1 (dk_at dksX0_init_12 16 rfl rfl)
theorem dX0_init_302 : decode cX0_init 302 = .ok (.goto (-22), 3) := dk_167 255 234 (dk_at dksX0_init_12 19 rfl rfl)
theorem dX0_init_305 : decode cX0_init 305 = .ok (.aload_n 0, 1) := dk_42 (dk_at dksX0_init_12 22 rfl rfl)
theorem dX0_init_306 : decode cX0_init 306 = .ok (.getfield 63, 3) := dk_180 0 63 (dk_at dksX0_init_13 0 rfl rfl)
theorem dX0_init_309 : decode cX0_init 309 = .ok (.aload_n 0, 1) := dk_42 (dk_at dksX0_init_13 3 rfl rfl)
theorem dX0_init_310 : decode cX0_init 310 = .ok (.getfield 52, 3) := dk_180 0 52 (dk_at dksX0_init_13 4 rfl rfl)
theorem dX0_init_313 : decode cX0_init 313 = .ok (.invokevirtual 134, 3) := dk_182 0 134 (dk_at dksX0_init_13 7 rfl rfl)
theorem dX0_init_316 : decode cX0_init 316 = .ok (.return_, 1) := dk_177 (dk_at dksX0_init_13 10 rfl rfl)
abbrev cX0_feed : ByteArray := prog_1_method_7_code
def yX0_feed : MethodName := ⟨RX0, "feed", "(IIIII)I"⟩
def dkwX0_feed_2 : List UInt8 := [180, 0, 36, 180, 0, 138, 172]
abbrev dktX0_feed_2 : List UInt8 := dkwX0_feed_2 ++ []
def dkwX0_feed_1 : List UInt8 := [28, 182, 0, 141, 42, 29, 182, 0, 141, 42, 21, 4, 182, 0, 141, 42, 21, 5, 182, 0, 141, 42]
abbrev dktX0_feed_1 : List UInt8 := dkwX0_feed_1 ++ dktX0_feed_2
def dkwX0_feed_0 : List UInt8 := [42, 180, 0, 36, 180, 0, 138, 16, 20, 96, 17, 7, 208, 164, 0, 5, 2, 172, 42, 27, 182, 0, 141, 42]
abbrev dktX0_feed_0 : List UInt8 := dkwX0_feed_0 ++ dktX0_feed_1
theorem dksX0_feed_0 : cX0_feed.data.toList.drop 0 = dktX0_feed_0 := by decide +kernel
theorem dksX0_feed_1 : cX0_feed.data.toList.drop 24 = dktX0_feed_1 := dk_seg dksX0_feed_0 24 rfl rfl
theorem dksX0_feed_2 : cX0_feed.data.toList.drop 46 = dktX0_feed_2 := dk_seg dksX0_feed_1 22 rfl rfl
theorem dX0_feed_0 : decode cX0_feed 0 = .ok (.aload_n 0, 1) := dk_42 (dk_at dksX0_feed_0 0 rfl rfl)
theorem dX0_feed_1 : decode cX0_feed 1 = .ok (.getfield 36, 3) := dk_180 0 36 (dk_at dksX0_feed_0 1 rfl rfl)
theorem dX0_feed_4 : decode cX0_feed 4 = .ok (.getfield 138, 3) := dk_180 0 138 (dk_at dksX0_feed_0 4 rfl rfl)
theorem dX0_feed_7 : decode cX0_feed 7 = .ok (.bipush 20, 2) := dk_16 20 (dk_at dksX0_feed_0 7 rfl rfl)
theorem dX0_feed_9 : decode cX0_feed 9 = .ok (.iadd, 1) := dk_96 (dk_at dksX0_feed_0 9 rfl rfl)
theorem dX0_feed_10 : decode cX0_feed 10 = .ok (.sipush 2000, 3) := dk_17 7 208 (dk_at dksX0_feed_0 10 rfl rfl)
theorem dX0_feed_13 : decode cX0_feed 13 = .ok (.if_icmp .le 5, 3) := dk_164 0 5 (dk_at dksX0_feed_0 13 rfl rfl)
theorem dX0_feed_16 : decode cX0_feed 16 = .ok (.iconst (-1), 1) := dk_2 (dk_at dksX0_feed_0 16 rfl rfl)
theorem dX0_feed_17 : decode cX0_feed 17 = .ok (.ireturn, 1) := dk_172 (dk_at dksX0_feed_0 17 rfl rfl)
theorem dX0_feed_18 : decode cX0_feed 18 = .ok (.aload_n 0, 1) := dk_42 (dk_at dksX0_feed_0 18 rfl rfl)
theorem dX0_feed_19 : decode cX0_feed 19 = .ok (.iload_n 1, 1) := dk_27 (dk_at dksX0_feed_0 19 rfl rfl)
theorem dX0_feed_20 : decode cX0_feed 20 = .ok (.invokevirtual 141, 3) := dk_182 0 141 (dk_at dksX0_feed_0 20 rfl rfl)
theorem dX0_feed_23 : decode cX0_feed 23 = .ok (.aload_n 0, 1) := dk_42 (dk_at dksX0_feed_0 23 rfl rfl)
theorem dX0_feed_24 : decode cX0_feed 24 = .ok (.iload_n 2, 1) := dk_28 (dk_at dksX0_feed_1 0 rfl rfl)
theorem dX0_feed_25 : decode cX0_feed 25 = .ok (.invokevirtual 141, 3) := dk_182 0 141 (dk_at dksX0_feed_1 1 rfl rfl)
theorem dX0_feed_28 : decode cX0_feed 28 = .ok (.aload_n 0, 1) := dk_42 (dk_at dksX0_feed_1 4 rfl rfl)
theorem dX0_feed_29 : decode cX0_feed 29 = .ok (.iload_n 3, 1) := dk_29 (dk_at dksX0_feed_1 5 rfl rfl)
theorem dX0_feed_30 : decode cX0_feed 30 = .ok (.invokevirtual 141, 3) := dk_182 0 141 (dk_at dksX0_feed_1 6 rfl rfl)
theorem dX0_feed_33 : decode cX0_feed 33 = .ok (.aload_n 0, 1) := dk_42 (dk_at dksX0_feed_1 9 rfl rfl)
theorem dX0_feed_34 : decode cX0_feed 34 = .ok (.iload 4, 2) := dk_21 4 (dk_at dksX0_feed_1 10 rfl rfl)
theorem dX0_feed_36 : decode cX0_feed 36 = .ok (.invokevirtual 141, 3) := dk_182 0 141 (dk_at dksX0_feed_1 12 rfl rfl)
theorem dX0_feed_39 : decode cX0_feed 39 = .ok (.aload_n 0, 1) := dk_42 (dk_at dksX0_feed_1 15 rfl rfl)
theorem dX0_feed_40 : decode cX0_feed 40 = .ok (.iload 5, 2) := dk_21 5 (dk_at dksX0_feed_1 16 rfl rfl)
theorem dX0_feed_42 : decode cX0_feed 42 = .ok (.invokevirtual 141, 3) := dk_182 0 141 (dk_at dksX0_feed_1 18 rfl rfl)
theorem dX0_feed_45 : decode cX0_feed 45 = .ok (.aload_n 0, 1) := dk_42 (dk_at dksX0_feed_1 21 rfl rfl)
theorem dX0_feed_46 : decode cX0_feed 46 = .ok (.getfield 36, 3) := dk_180 0 36 (dk_at dksX0_feed_2 0 rfl rfl)
theorem dX0_feed_49 : decode cX0_feed 49 = .ok (.getfield 138, 3) := dk_180 0 138 (dk_at dksX0_feed_2 3 rfl rfl)
theorem dX0_feed_52 : decode cX0_feed 52 = .ok (.ireturn, 1) := dk_172 (dk_at dksX0_feed_2 6 rfl rfl)
abbrev cX0_typed : ByteArray := prog_1_method_8_code
def yX0_typed : MethodName := ⟨RX0, "typed", "(I)V"⟩
def dkwX0_typed_1 : List UInt8 := [145, 84, 42, 180, 0, 36, 89, 180, 0, 138, 4, 96, 181, 0, 138, 132, 2, 248, 167, 255, 217, 177]
abbrev dktX0_typed_1 : List UInt8 := dkwX0_typed_1 ++ []
def dkwX0_typed_0 : List UInt8 := [16, 24, 61, 28, 155, 0, 41, 42, 180, 0, 36, 180, 0, 145, 42, 180, 0, 36, 180, 0, 138, 27, 28, 122]
abbrev dktX0_typed_0 : List UInt8 := dkwX0_typed_0 ++ dktX0_typed_1
theorem dksX0_typed_0 : cX0_typed.data.toList.drop 0 = dktX0_typed_0 := by decide +kernel
theorem dksX0_typed_1 : cX0_typed.data.toList.drop 24 = dktX0_typed_1 := dk_seg dksX0_typed_0 24 rfl rfl
theorem dX0_typed_0 : decode cX0_typed 0 = .ok (.bipush 24, 2) := dk_16 24 (dk_at dksX0_typed_0 0 rfl rfl)
theorem dX0_typed_2 : decode cX0_typed 2 = .ok (.istore_n 2, 1) := dk_61 (dk_at dksX0_typed_0 2 rfl rfl)
theorem dX0_typed_3 : decode cX0_typed 3 = .ok (.iload_n 2, 1) := dk_28 (dk_at dksX0_typed_0 3 rfl rfl)
theorem dX0_typed_4 : decode cX0_typed 4 = .ok (.ifCond .lt 41, 3) := dk_155 0 41 (dk_at dksX0_typed_0 4 rfl rfl)
theorem dX0_typed_7 : decode cX0_typed 7 = .ok (.aload_n 0, 1) := dk_42 (dk_at dksX0_typed_0 7 rfl rfl)
theorem dX0_typed_8 : decode cX0_typed 8 = .ok (.getfield 36, 3) := dk_180 0 36 (dk_at dksX0_typed_0 8 rfl rfl)
theorem dX0_typed_11 : decode cX0_typed 11 = .ok (.getfield 145, 3) := dk_180 0 145 (dk_at dksX0_typed_0 11 rfl rfl)
theorem dX0_typed_14 : decode cX0_typed 14 = .ok (.aload_n 0, 1) := dk_42 (dk_at dksX0_typed_0 14 rfl rfl)
theorem dX0_typed_15 : decode cX0_typed 15 = .ok (.getfield 36, 3) := dk_180 0 36 (dk_at dksX0_typed_0 15 rfl rfl)
theorem dX0_typed_18 : decode cX0_typed 18 = .ok (.getfield 138, 3) := dk_180 0 138 (dk_at dksX0_typed_0 18 rfl rfl)
theorem dX0_typed_21 : decode cX0_typed 21 = .ok (.iload_n 1, 1) := dk_27 (dk_at dksX0_typed_0 21 rfl rfl)
theorem dX0_typed_22 : decode cX0_typed 22 = .ok (.iload_n 2, 1) := dk_28 (dk_at dksX0_typed_0 22 rfl rfl)
theorem dX0_typed_23 : decode cX0_typed 23 = .ok (.ishr, 1) := dk_122 (dk_at dksX0_typed_0 23 rfl rfl)
theorem dX0_typed_24 : decode cX0_typed 24 = .ok (.i2b, 1) := dk_145 (dk_at dksX0_typed_1 0 rfl rfl)
theorem dX0_typed_25 : decode cX0_typed 25 = .ok (.bastore, 1) := dk_84 (dk_at dksX0_typed_1 1 rfl rfl)
theorem dX0_typed_26 : decode cX0_typed 26 = .ok (.aload_n 0, 1) := dk_42 (dk_at dksX0_typed_1 2 rfl rfl)
theorem dX0_typed_27 : decode cX0_typed 27 = .ok (.getfield 36, 3) := dk_180 0 36 (dk_at dksX0_typed_1 3 rfl rfl)
theorem dX0_typed_30 : decode cX0_typed 30 = .ok (.dup, 1) := dk_89 (dk_at dksX0_typed_1 6 rfl rfl)
theorem dX0_typed_31 : decode cX0_typed 31 = .ok (.getfield 138, 3) := dk_180 0 138 (dk_at dksX0_typed_1 7 rfl rfl)
theorem dX0_typed_34 : decode cX0_typed 34 = .ok (.iconst 1, 1) := dk_4 (dk_at dksX0_typed_1 10 rfl rfl)
theorem dX0_typed_35 : decode cX0_typed 35 = .ok (.iadd, 1) := dk_96 (dk_at dksX0_typed_1 11 rfl rfl)
theorem dX0_typed_36 : decode cX0_typed 36 = .ok (.putfield 138, 3) := dk_181 0 138 (dk_at dksX0_typed_1 12 rfl rfl)
theorem dX0_typed_39 : decode cX0_typed 39 = .ok (.iinc 2 (-8), 3) := dk_132 2 248 (dk_at dksX0_typed_1 15 rfl rfl)
theorem dX0_typed_42 : decode cX0_typed 42 = .ok (.goto (-39), 3) := dk_167 255 217 (dk_at dksX0_typed_1 18 rfl rfl)
theorem dX0_typed_45 : decode cX0_typed 45 = .ok (.return_, 1) := dk_177 (dk_at dksX0_typed_1 21 rfl rfl)
abbrev cX0_back : ByteArray := prog_1_method_9_code
def yX0_back : MethodName := ⟨RX0, "back", "(I)I"⟩
def dkwX0_back_1 : List UInt8 := [180, 0, 138, 27, 100, 181, 0, 138, 42, 180, 0, 36, 180, 0, 138, 172]
abbrev dktX0_back_1 : List UInt8 := dkwX0_back_1 ++ []
def dkwX0_back_0 : List UInt8 := [27, 155, 0, 14, 27, 42, 180, 0, 36, 180, 0, 138, 164, 0, 5, 2, 172, 42, 180, 0, 36, 89]
abbrev dktX0_back_0 : List UInt8 := dkwX0_back_0 ++ dktX0_back_1
theorem dksX0_back_0 : cX0_back.data.toList.drop 0 = dktX0_back_0 := by decide +kernel
theorem dksX0_back_1 : cX0_back.data.toList.drop 22 = dktX0_back_1 := dk_seg dksX0_back_0 22 rfl rfl
theorem dX0_back_0 : decode cX0_back 0 = .ok (.iload_n 1, 1) := dk_27 (dk_at dksX0_back_0 0 rfl rfl)
theorem dX0_back_1 : decode cX0_back 1 = .ok (.ifCond .lt 14, 3) := dk_155 0 14 (dk_at dksX0_back_0 1 rfl rfl)
theorem dX0_back_4 : decode cX0_back 4 = .ok (.iload_n 1, 1) := dk_27 (dk_at dksX0_back_0 4 rfl rfl)
theorem dX0_back_5 : decode cX0_back 5 = .ok (.aload_n 0, 1) := dk_42 (dk_at dksX0_back_0 5 rfl rfl)
theorem dX0_back_6 : decode cX0_back 6 = .ok (.getfield 36, 3) := dk_180 0 36 (dk_at dksX0_back_0 6 rfl rfl)
theorem dX0_back_9 : decode cX0_back 9 = .ok (.getfield 138, 3) := dk_180 0 138 (dk_at dksX0_back_0 9 rfl rfl)
theorem dX0_back_12 : decode cX0_back 12 = .ok (.if_icmp .le 5, 3) := dk_164 0 5 (dk_at dksX0_back_0 12 rfl rfl)
theorem dX0_back_15 : decode cX0_back 15 = .ok (.iconst (-1), 1) := dk_2 (dk_at dksX0_back_0 15 rfl rfl)
theorem dX0_back_16 : decode cX0_back 16 = .ok (.ireturn, 1) := dk_172 (dk_at dksX0_back_0 16 rfl rfl)
theorem dX0_back_17 : decode cX0_back 17 = .ok (.aload_n 0, 1) := dk_42 (dk_at dksX0_back_0 17 rfl rfl)
theorem dX0_back_18 : decode cX0_back 18 = .ok (.getfield 36, 3) := dk_180 0 36 (dk_at dksX0_back_0 18 rfl rfl)
theorem dX0_back_21 : decode cX0_back 21 = .ok (.dup, 1) := dk_89 (dk_at dksX0_back_0 21 rfl rfl)
theorem dX0_back_22 : decode cX0_back 22 = .ok (.getfield 138, 3) := dk_180 0 138 (dk_at dksX0_back_1 0 rfl rfl)
theorem dX0_back_25 : decode cX0_back 25 = .ok (.iload_n 1, 1) := dk_27 (dk_at dksX0_back_1 3 rfl rfl)
theorem dX0_back_26 : decode cX0_back 26 = .ok (.isub, 1) := dk_100 (dk_at dksX0_back_1 4 rfl rfl)
theorem dX0_back_27 : decode cX0_back 27 = .ok (.putfield 138, 3) := dk_181 0 138 (dk_at dksX0_back_1 5 rfl rfl)
theorem dX0_back_30 : decode cX0_back 30 = .ok (.aload_n 0, 1) := dk_42 (dk_at dksX0_back_1 8 rfl rfl)
theorem dX0_back_31 : decode cX0_back 31 = .ok (.getfield 36, 3) := dk_180 0 36 (dk_at dksX0_back_1 9 rfl rfl)
theorem dX0_back_34 : decode cX0_back 34 = .ok (.getfield 138, 3) := dk_180 0 138 (dk_at dksX0_back_1 12 rfl rfl)
theorem dX0_back_37 : decode cX0_back 37 = .ok (.ireturn, 1) := dk_172 (dk_at dksX0_back_1 15 rfl rfl)
abbrev cX0_read : ByteArray := prog_1_method_10_code
def yX0_read : MethodName := ⟨RX0, "read", "()I"⟩
def dkwX0_read_3 : List UInt8 := [180, 0, 162, 181, 0, 56, 42, 180, 0, 36, 3, 181, 0, 138, 27, 172]
abbrev dktX0_read_3 : List UInt8 := dkwX0_read_3 ++ []
def dkwX0_read_2 : List UInt8 := [180, 0, 98, 28, 3, 84, 132, 2, 1, 167, 255, 241, 167, 0, 17, 77, 44, 180, 0, 159, 60, 42, 44]
abbrev dktX0_read_2 : List UInt8 := dkwX0_read_2 ++ dktX0_read_3
def dkwX0_read_1 : List UInt8 := [180, 0, 52, 182, 0, 134, 42, 3, 181, 0, 153, 42, 3, 181, 0, 156, 3, 61, 28, 6, 162, 0, 16, 42]
abbrev dktX0_read_1 : List UInt8 := dkwX0_read_1 ++ dktX0_read_2
def dkwX0_read_0 : List UInt8 := [3, 60, 42, 2, 181, 0, 56, 42, 42, 180, 0, 45, 182, 0, 149, 181, 0, 52, 42, 180, 0, 63, 42]
abbrev dktX0_read_0 : List UInt8 := dkwX0_read_0 ++ dktX0_read_1
theorem dksX0_read_0 : cX0_read.data.toList.drop 0 = dktX0_read_0 := by decide +kernel
theorem dksX0_read_1 : cX0_read.data.toList.drop 23 = dktX0_read_1 := dk_seg dksX0_read_0 23 rfl rfl
theorem dksX0_read_2 : cX0_read.data.toList.drop 47 = dktX0_read_2 := dk_seg dksX0_read_1 24 rfl rfl
theorem dksX0_read_3 : cX0_read.data.toList.drop 70 = dktX0_read_3 := dk_seg dksX0_read_2 23 rfl rfl
theorem dX0_read_0 : decode cX0_read 0 = .ok (.iconst 0, 1) := dk_3 (dk_at dksX0_read_0 0 rfl rfl)
theorem dX0_read_1 : decode cX0_read 1 = .ok (.istore_n 1, 1) := dk_60 (dk_at dksX0_read_0 1 rfl rfl)
theorem dX0_read_2 : decode cX0_read 2 = .ok (.aload_n 0, 1) := dk_42 (dk_at dksX0_read_0 2 rfl rfl)
theorem dX0_read_3 : decode cX0_read 3 = .ok (.iconst (-1), 1) := dk_2 (dk_at dksX0_read_0 3 rfl rfl)
theorem dX0_read_4 : decode cX0_read 4 = .ok (.putfield 56, 3) := dk_181 0 56 (dk_at dksX0_read_0 4 rfl rfl)
theorem dX0_read_7 : decode cX0_read 7 = .ok (.aload_n 0, 1) := dk_42 (dk_at dksX0_read_0 7 rfl rfl)
theorem dX0_read_8 : decode cX0_read 8 = .ok (.aload_n 0, 1) := dk_42 (dk_at dksX0_read_0 8 rfl rfl)
theorem dX0_read_9 : decode cX0_read 9 = .ok (.getfield 45, 3) := dk_180 0 45 (dk_at dksX0_read_0 9 rfl rfl)
theorem dX0_read_12 : decode cX0_read 12 = .ok (.invokevirtual 149, 3) := dk_182 0 149 (dk_at dksX0_read_0 12 rfl rfl)
theorem dX0_read_15 : decode cX0_read 15 = .ok (.putfield 52, 3) := dk_181 0 52 (dk_at dksX0_read_0 15 rfl rfl)
theorem dX0_read_18 : decode cX0_read 18 = .ok (.aload_n 0, 1) := dk_42 (dk_at dksX0_read_0 18 rfl rfl)
theorem dX0_read_19 : decode cX0_read 19 = .ok (.getfield 63, 3) := dk_180 0 63 (dk_at dksX0_read_0 19 rfl rfl)
theorem dX0_read_22 : decode cX0_read 22 = .ok (.aload_n 0, 1) := dk_42 (dk_at dksX0_read_0 22 rfl rfl)
theorem dX0_read_23 : decode cX0_read 23 = .ok (.getfield 52, 3) := dk_180 0 52 (dk_at dksX0_read_1 0 rfl rfl)
theorem dX0_read_26 : decode cX0_read 26 = .ok (.invokevirtual 134, 3) := dk_182 0 134 (dk_at dksX0_read_1 3 rfl rfl)
theorem dX0_read_29 : decode cX0_read 29 = .ok (.aload_n 0, 1) := dk_42 (dk_at dksX0_read_1 6 rfl rfl)
theorem dX0_read_30 : decode cX0_read 30 = .ok (.iconst 0, 1) := dk_3 (dk_at dksX0_read_1 7 rfl rfl)
theorem dX0_read_31 : decode cX0_read 31 = .ok (.putfield 153, 3) := dk_181 0 153 (dk_at dksX0_read_1 8 rfl rfl)
theorem dX0_read_34 : decode cX0_read 34 = .ok (.aload_n 0, 1) := dk_42 (dk_at dksX0_read_1 11 rfl rfl)
theorem dX0_read_35 : decode cX0_read 35 = .ok (.iconst 0, 1) := dk_3 (dk_at dksX0_read_1 12 rfl rfl)
theorem dX0_read_36 : decode cX0_read 36 = .ok (.putfield 156, 3) := dk_181 0 156 (dk_at dksX0_read_1 13 rfl rfl)
theorem dX0_read_39 : decode cX0_read 39 = .ok (.iconst 0, 1) := dk_3 (dk_at dksX0_read_1 16 rfl rfl)
theorem dX0_read_40 : decode cX0_read 40 = .ok (.istore_n 2, 1) := dk_61 (dk_at dksX0_read_1 17 rfl rfl)
theorem dX0_read_41 : decode cX0_read 41 = .ok (.iload_n 2, 1) := dk_28 (dk_at dksX0_read_1 18 rfl rfl)
theorem dX0_read_42 : decode cX0_read 42 = .ok (.iconst 3, 1) := dk_6 (dk_at dksX0_read_1 19 rfl rfl)
theorem dX0_read_43 : decode cX0_read 43 = .ok (.if_icmp .ge 16, 3) := dk_162 0 16 (dk_at dksX0_read_1 20 rfl rfl)
theorem dX0_read_46 : decode cX0_read 46 = .ok (.aload_n 0, 1) := dk_42 (dk_at dksX0_read_1 23 rfl rfl)
theorem dX0_read_47 : decode cX0_read 47 = .ok (.getfield 98, 3) := dk_180 0 98 (dk_at dksX0_read_2 0 rfl rfl)
theorem dX0_read_50 : decode cX0_read 50 = .ok (.iload_n 2, 1) := dk_28 (dk_at dksX0_read_2 3 rfl rfl)
theorem dX0_read_51 : decode cX0_read 51 = .ok (.iconst 0, 1) := dk_3 (dk_at dksX0_read_2 4 rfl rfl)
theorem dX0_read_52 : decode cX0_read 52 = .ok (.bastore, 1) := dk_84 (dk_at dksX0_read_2 5 rfl rfl)
theorem dX0_read_53 : decode cX0_read 53 = .ok (.iinc 2 1, 3) := dk_132 2 1 (dk_at dksX0_read_2 6 rfl rfl)
theorem dX0_read_56 : decode cX0_read 56 = .ok (.goto (-15), 3) := dk_167 255 241 (dk_at dksX0_read_2 9 rfl rfl)
theorem dX0_read_59 : decode cX0_read 59 = .ok (.goto 17, 3) := dk_167 0 17 (dk_at dksX0_read_2 12 rfl rfl)
theorem dX0_read_62 : decode cX0_read 62 = .ok (.astore_n 2, 1) := dk_77 (dk_at dksX0_read_2 15 rfl rfl)
theorem dX0_read_63 : decode cX0_read 63 = .ok (.aload_n 2, 1) := dk_44 (dk_at dksX0_read_2 16 rfl rfl)
theorem dX0_read_64 : decode cX0_read 64 = .ok (.getfield 159, 3) := dk_180 0 159 (dk_at dksX0_read_2 17 rfl rfl)
theorem dX0_read_67 : decode cX0_read 67 = .ok (.istore_n 1, 1) := dk_60 (dk_at dksX0_read_2 20 rfl rfl)
theorem dX0_read_68 : decode cX0_read 68 = .ok (.aload_n 0, 1) := dk_42 (dk_at dksX0_read_2 21 rfl rfl)
theorem dX0_read_69 : decode cX0_read 69 = .ok (.aload_n 2, 1) := dk_44 (dk_at dksX0_read_2 22 rfl rfl)
theorem dX0_read_70 : decode cX0_read 70 = .ok (.getfield 162, 3) := dk_180 0 162 (dk_at dksX0_read_3 0 rfl rfl)
theorem dX0_read_73 : decode cX0_read 73 = .ok (.putfield 56, 3) := dk_181 0 56 (dk_at dksX0_read_3 3 rfl rfl)
theorem dX0_read_76 : decode cX0_read 76 = .ok (.aload_n 0, 1) := dk_42 (dk_at dksX0_read_3 6 rfl rfl)
theorem dX0_read_77 : decode cX0_read 77 = .ok (.getfield 36, 3) := dk_180 0 36 (dk_at dksX0_read_3 7 rfl rfl)
theorem dX0_read_80 : decode cX0_read 80 = .ok (.iconst 0, 1) := dk_3 (dk_at dksX0_read_3 10 rfl rfl)
theorem dX0_read_81 : decode cX0_read 81 = .ok (.putfield 138, 3) := dk_181 0 138 (dk_at dksX0_read_3 11 rfl rfl)
theorem dX0_read_84 : decode cX0_read 84 = .ok (.iload_n 1, 1) := dk_27 (dk_at dksX0_read_3 14 rfl rfl)
theorem dX0_read_85 : decode cX0_read 85 = .ok (.ireturn, 1) := dk_172 (dk_at dksX0_read_3 15 rfl rfl)
abbrev cX0_place : ByteArray := prog_1_method_11_code
def yX0_place : MethodName := ⟨RX0, "place", "()I"⟩
theorem dX0_place_0 : decode cX0_place 0 = .ok (.aload_n 0, 1) := by decide +kernel
theorem dX0_place_1 : decode cX0_place 1 = .ok (.getfield 56, 3) := by decide +kernel
theorem dX0_place_4 : decode cX0_place 4 = .ok (.ireturn, 1) := by decide +kernel
abbrev cX0_man : ByteArray := prog_1_method_16_code
def yX0_man : MethodName := ⟨RX0, "man", "(II)I"⟩
def dkwX0_man_8 : List UInt8 := [180, 0, 215, 172, 2, 172]
abbrev dktX0_man_8 : List UInt8 := dkwX0_man_8 ++ []
def dkwX0_man_7 : List UInt8 := [180, 0, 209, 100, 184, 0, 206, 96, 172, 42, 180, 0, 63, 42, 180, 0, 52, 27, 3, 182, 0, 211, 172, 45]
abbrev dktX0_man_7 : List UInt8 := dkwX0_man_7 ++ dktX0_man_8
def dkwX0_man_6 : List UInt8 := [180, 0, 189, 27, 46, 45, 180, 0, 204, 100, 184, 0, 206, 42, 180, 0, 63, 180, 0, 192, 27, 46, 45]
abbrev dktX0_man_6 : List UInt8 := dkwX0_man_6 ++ dktX0_man_7
def dkwX0_man_5 : List UInt8 := [100, 172, 42, 180, 0, 63, 27, 182, 0, 201, 153, 0, 7, 4, 167, 0, 4, 3, 172, 42, 180, 0, 63]
abbrev dktX0_man_5 : List UInt8 := dkwX0_man_5 ++ dktX0_man_6
def dkwX0_man_4 : List UInt8 := [180, 0, 195, 27, 46, 172, 42, 180, 0, 63, 180, 0, 198, 27, 46, 42, 180, 0, 63, 180, 0, 195, 27, 46]
abbrev dktX0_man_4 : List UInt8 := dkwX0_man_4 ++ dktX0_man_5
def dkwX0_man_3 : List UInt8 := [42, 180, 0, 63, 180, 0, 189, 27, 46, 172, 42, 180, 0, 63, 180, 0, 192, 27, 46, 172, 42, 180, 0, 63]
abbrev dktX0_man_3 : List UInt8 := dkwX0_man_3 ++ dktX0_man_4
def dkwX0_man_2 : List UInt8 := [170, 0, 0, 0, 0, 168, 0, 0, 0, 0, 0, 0, 0, 7, 0, 0, 0, 46, 0, 0, 0, 56, 0, 0, 0, 66, 0, 0, 0, 76, 0, 0, 0, 96, 0, 0, 0, 113, 0, 0, 0, 149, 0, 0, 0, 163]
abbrev dktX0_man_2 : List UInt8 := dkwX0_man_2 ++ dktX0_man_3
def dkwX0_man_1 : List UInt8 := [78, 28]
abbrev dktX0_man_1 : List UInt8 := dkwX0_man_1 ++ dktX0_man_2
def dkwX0_man_0 : List UInt8 := [42, 27, 182, 0, 179, 154, 0, 5, 2, 172, 42, 180, 0, 52, 180, 0, 163, 27, 182, 0, 183, 192, 0, 187]
abbrev dktX0_man_0 : List UInt8 := dkwX0_man_0 ++ dktX0_man_1
theorem dksX0_man_0 : cX0_man.data.toList.drop 0 = dktX0_man_0 := by decide +kernel
theorem dksX0_man_1 : cX0_man.data.toList.drop 24 = dktX0_man_1 := dk_seg dksX0_man_0 24 rfl rfl
theorem dksX0_man_2 : cX0_man.data.toList.drop 26 = dktX0_man_2 := dk_seg dksX0_man_1 2 rfl rfl
theorem dksX0_man_3 : cX0_man.data.toList.drop 72 = dktX0_man_3 := dk_seg dksX0_man_2 46 rfl rfl
theorem dksX0_man_4 : cX0_man.data.toList.drop 96 = dktX0_man_4 := dk_seg dksX0_man_3 24 rfl rfl
theorem dksX0_man_5 : cX0_man.data.toList.drop 120 = dktX0_man_5 := dk_seg dksX0_man_4 24 rfl rfl
theorem dksX0_man_6 : cX0_man.data.toList.drop 143 = dktX0_man_6 := dk_seg dksX0_man_5 23 rfl rfl
theorem dksX0_man_7 : cX0_man.data.toList.drop 166 = dktX0_man_7 := dk_seg dksX0_man_6 23 rfl rfl
theorem dksX0_man_8 : cX0_man.data.toList.drop 190 = dktX0_man_8 := dk_seg dksX0_man_7 24 rfl rfl
theorem dX0_man_0 : decode cX0_man 0 = .ok (.aload_n 0, 1) := dk_42 (dk_at dksX0_man_0 0 rfl rfl)
theorem dX0_man_1 : decode cX0_man 1 = .ok (.iload_n 1, 1) := dk_27 (dk_at dksX0_man_0 1 rfl rfl)
theorem dX0_man_2 : decode cX0_man 2 = .ok (.invokevirtual 179, 3) := dk_182 0 179 (dk_at dksX0_man_0 2 rfl rfl)
theorem dX0_man_5 : decode cX0_man 5 = .ok (.ifCond .ne 5, 3) := dk_154 0 5 (dk_at dksX0_man_0 5 rfl rfl)
theorem dX0_man_8 : decode cX0_man 8 = .ok (.iconst (-1), 1) := dk_2 (dk_at dksX0_man_0 8 rfl rfl)
theorem dX0_man_9 : decode cX0_man 9 = .ok (.ireturn, 1) := dk_172 (dk_at dksX0_man_0 9 rfl rfl)
theorem dX0_man_10 : decode cX0_man 10 = .ok (.aload_n 0, 1) := dk_42 (dk_at dksX0_man_0 10 rfl rfl)
theorem dX0_man_11 : decode cX0_man 11 = .ok (.getfield 52, 3) := dk_180 0 52 (dk_at dksX0_man_0 11 rfl rfl)
theorem dX0_man_14 : decode cX0_man 14 = .ok (.getfield 163, 3) := dk_180 0 163 (dk_at dksX0_man_0 14 rfl rfl)
theorem dX0_man_17 : decode cX0_man 17 = .ok (.iload_n 1, 1) := dk_27 (dk_at dksX0_man_0 17 rfl rfl)
theorem dX0_man_18 : decode cX0_man 18 = .ok (.invokevirtual 183, 3) := dk_182 0 183 (dk_at dksX0_man_0 18 rfl rfl)
theorem dX0_man_21 : decode cX0_man 21 = .ok (.checkcast 187, 3) := dk_192 0 187 (dk_at dksX0_man_0 21 rfl rfl)
theorem dX0_man_24 : decode cX0_man 24 = .ok (.astore_n 3, 1) := dk_78 (dk_at dksX0_man_1 0 rfl rfl)
theorem dX0_man_25 : decode cX0_man 25 = .ok (.iload_n 2, 1) := dk_28 (dk_at dksX0_man_1 1 rfl rfl)
theorem dX0_man_26 : decode cX0_man 26 = .ok (.tableswitch 168 0 7 #[46, 56, 66, 76, 96, 113, 149, 163], 46) := by decide +kernel
theorem dX0_man_72 : decode cX0_man 72 = .ok (.aload_n 0, 1) := dk_42 (dk_at dksX0_man_3 0 rfl rfl)
theorem dX0_man_73 : decode cX0_man 73 = .ok (.getfield 63, 3) := dk_180 0 63 (dk_at dksX0_man_3 1 rfl rfl)
theorem dX0_man_76 : decode cX0_man 76 = .ok (.getfield 189, 3) := dk_180 0 189 (dk_at dksX0_man_3 4 rfl rfl)
theorem dX0_man_79 : decode cX0_man 79 = .ok (.iload_n 1, 1) := dk_27 (dk_at dksX0_man_3 7 rfl rfl)
theorem dX0_man_80 : decode cX0_man 80 = .ok (.iaload, 1) := dk_46 (dk_at dksX0_man_3 8 rfl rfl)
theorem dX0_man_81 : decode cX0_man 81 = .ok (.ireturn, 1) := dk_172 (dk_at dksX0_man_3 9 rfl rfl)
theorem dX0_man_82 : decode cX0_man 82 = .ok (.aload_n 0, 1) := dk_42 (dk_at dksX0_man_3 10 rfl rfl)
theorem dX0_man_83 : decode cX0_man 83 = .ok (.getfield 63, 3) := dk_180 0 63 (dk_at dksX0_man_3 11 rfl rfl)
theorem dX0_man_86 : decode cX0_man 86 = .ok (.getfield 192, 3) := dk_180 0 192 (dk_at dksX0_man_3 14 rfl rfl)
theorem dX0_man_89 : decode cX0_man 89 = .ok (.iload_n 1, 1) := dk_27 (dk_at dksX0_man_3 17 rfl rfl)
theorem dX0_man_90 : decode cX0_man 90 = .ok (.iaload, 1) := dk_46 (dk_at dksX0_man_3 18 rfl rfl)
theorem dX0_man_91 : decode cX0_man 91 = .ok (.ireturn, 1) := dk_172 (dk_at dksX0_man_3 19 rfl rfl)
theorem dX0_man_92 : decode cX0_man 92 = .ok (.aload_n 0, 1) := dk_42 (dk_at dksX0_man_3 20 rfl rfl)
theorem dX0_man_93 : decode cX0_man 93 = .ok (.getfield 63, 3) := dk_180 0 63 (dk_at dksX0_man_3 21 rfl rfl)
theorem dX0_man_96 : decode cX0_man 96 = .ok (.getfield 195, 3) := dk_180 0 195 (dk_at dksX0_man_4 0 rfl rfl)
theorem dX0_man_99 : decode cX0_man 99 = .ok (.iload_n 1, 1) := dk_27 (dk_at dksX0_man_4 3 rfl rfl)
theorem dX0_man_100 : decode cX0_man 100 = .ok (.iaload, 1) := dk_46 (dk_at dksX0_man_4 4 rfl rfl)
theorem dX0_man_101 : decode cX0_man 101 = .ok (.ireturn, 1) := dk_172 (dk_at dksX0_man_4 5 rfl rfl)
theorem dX0_man_102 : decode cX0_man 102 = .ok (.aload_n 0, 1) := dk_42 (dk_at dksX0_man_4 6 rfl rfl)
theorem dX0_man_103 : decode cX0_man 103 = .ok (.getfield 63, 3) := dk_180 0 63 (dk_at dksX0_man_4 7 rfl rfl)
theorem dX0_man_106 : decode cX0_man 106 = .ok (.getfield 198, 3) := dk_180 0 198 (dk_at dksX0_man_4 10 rfl rfl)
theorem dX0_man_109 : decode cX0_man 109 = .ok (.iload_n 1, 1) := dk_27 (dk_at dksX0_man_4 13 rfl rfl)
theorem dX0_man_110 : decode cX0_man 110 = .ok (.iaload, 1) := dk_46 (dk_at dksX0_man_4 14 rfl rfl)
theorem dX0_man_111 : decode cX0_man 111 = .ok (.aload_n 0, 1) := dk_42 (dk_at dksX0_man_4 15 rfl rfl)
theorem dX0_man_112 : decode cX0_man 112 = .ok (.getfield 63, 3) := dk_180 0 63 (dk_at dksX0_man_4 16 rfl rfl)
theorem dX0_man_115 : decode cX0_man 115 = .ok (.getfield 195, 3) := dk_180 0 195 (dk_at dksX0_man_4 19 rfl rfl)
theorem dX0_man_118 : decode cX0_man 118 = .ok (.iload_n 1, 1) := dk_27 (dk_at dksX0_man_4 22 rfl rfl)
theorem dX0_man_119 : decode cX0_man 119 = .ok (.iaload, 1) := dk_46 (dk_at dksX0_man_4 23 rfl rfl)
theorem dX0_man_120 : decode cX0_man 120 = .ok (.isub, 1) := dk_100 (dk_at dksX0_man_5 0 rfl rfl)
theorem dX0_man_121 : decode cX0_man 121 = .ok (.ireturn, 1) := dk_172 (dk_at dksX0_man_5 1 rfl rfl)
theorem dX0_man_122 : decode cX0_man 122 = .ok (.aload_n 0, 1) := dk_42 (dk_at dksX0_man_5 2 rfl rfl)
theorem dX0_man_123 : decode cX0_man 123 = .ok (.getfield 63, 3) := dk_180 0 63 (dk_at dksX0_man_5 3 rfl rfl)
theorem dX0_man_126 : decode cX0_man 126 = .ok (.iload_n 1, 1) := dk_27 (dk_at dksX0_man_5 6 rfl rfl)
theorem dX0_man_127 : decode cX0_man 127 = .ok (.invokevirtual 201, 3) := dk_182 0 201 (dk_at dksX0_man_5 7 rfl rfl)
theorem dX0_man_130 : decode cX0_man 130 = .ok (.ifCond .eq 7, 3) := dk_153 0 7 (dk_at dksX0_man_5 10 rfl rfl)
theorem dX0_man_133 : decode cX0_man 133 = .ok (.iconst 1, 1) := dk_4 (dk_at dksX0_man_5 13 rfl rfl)
theorem dX0_man_134 : decode cX0_man 134 = .ok (.goto 4, 3) := dk_167 0 4 (dk_at dksX0_man_5 14 rfl rfl)
theorem dX0_man_137 : decode cX0_man 137 = .ok (.iconst 0, 1) := dk_3 (dk_at dksX0_man_5 17 rfl rfl)
theorem dX0_man_138 : decode cX0_man 138 = .ok (.ireturn, 1) := dk_172 (dk_at dksX0_man_5 18 rfl rfl)
theorem dX0_man_139 : decode cX0_man 139 = .ok (.aload_n 0, 1) := dk_42 (dk_at dksX0_man_5 19 rfl rfl)
theorem dX0_man_140 : decode cX0_man 140 = .ok (.getfield 63, 3) := dk_180 0 63 (dk_at dksX0_man_5 20 rfl rfl)
theorem dX0_man_143 : decode cX0_man 143 = .ok (.getfield 189, 3) := dk_180 0 189 (dk_at dksX0_man_6 0 rfl rfl)
theorem dX0_man_146 : decode cX0_man 146 = .ok (.iload_n 1, 1) := dk_27 (dk_at dksX0_man_6 3 rfl rfl)
theorem dX0_man_147 : decode cX0_man 147 = .ok (.iaload, 1) := dk_46 (dk_at dksX0_man_6 4 rfl rfl)
theorem dX0_man_148 : decode cX0_man 148 = .ok (.aload_n 3, 1) := dk_45 (dk_at dksX0_man_6 5 rfl rfl)
theorem dX0_man_149 : decode cX0_man 149 = .ok (.getfield 204, 3) := dk_180 0 204 (dk_at dksX0_man_6 6 rfl rfl)
theorem dX0_man_152 : decode cX0_man 152 = .ok (.isub, 1) := dk_100 (dk_at dksX0_man_6 9 rfl rfl)
theorem dX0_man_153 : decode cX0_man 153 = .ok (.invokestatic 206, 3) := dk_184 0 206 (dk_at dksX0_man_6 10 rfl rfl)
theorem dX0_man_156 : decode cX0_man 156 = .ok (.aload_n 0, 1) := dk_42 (dk_at dksX0_man_6 13 rfl rfl)
theorem dX0_man_157 : decode cX0_man 157 = .ok (.getfield 63, 3) := dk_180 0 63 (dk_at dksX0_man_6 14 rfl rfl)
theorem dX0_man_160 : decode cX0_man 160 = .ok (.getfield 192, 3) := dk_180 0 192 (dk_at dksX0_man_6 17 rfl rfl)
theorem dX0_man_163 : decode cX0_man 163 = .ok (.iload_n 1, 1) := dk_27 (dk_at dksX0_man_6 20 rfl rfl)
theorem dX0_man_164 : decode cX0_man 164 = .ok (.iaload, 1) := dk_46 (dk_at dksX0_man_6 21 rfl rfl)
theorem dX0_man_165 : decode cX0_man 165 = .ok (.aload_n 3, 1) := dk_45 (dk_at dksX0_man_6 22 rfl rfl)
theorem dX0_man_166 : decode cX0_man 166 = .ok (.getfield 209, 3) := dk_180 0 209 (dk_at dksX0_man_7 0 rfl rfl)
theorem dX0_man_169 : decode cX0_man 169 = .ok (.isub, 1) := dk_100 (dk_at dksX0_man_7 3 rfl rfl)
theorem dX0_man_170 : decode cX0_man 170 = .ok (.invokestatic 206, 3) := dk_184 0 206 (dk_at dksX0_man_7 4 rfl rfl)
theorem dX0_man_173 : decode cX0_man 173 = .ok (.iadd, 1) := dk_96 (dk_at dksX0_man_7 7 rfl rfl)
theorem dX0_man_174 : decode cX0_man 174 = .ok (.ireturn, 1) := dk_172 (dk_at dksX0_man_7 8 rfl rfl)
theorem dX0_man_175 : decode cX0_man 175 = .ok (.aload_n 0, 1) := dk_42 (dk_at dksX0_man_7 9 rfl rfl)
theorem dX0_man_176 : decode cX0_man 176 = .ok (.getfield 63, 3) := dk_180 0 63 (dk_at dksX0_man_7 10 rfl rfl)
theorem dX0_man_179 : decode cX0_man 179 = .ok (.aload_n 0, 1) := dk_42 (dk_at dksX0_man_7 13 rfl rfl)
theorem dX0_man_180 : decode cX0_man 180 = .ok (.getfield 52, 3) := dk_180 0 52 (dk_at dksX0_man_7 14 rfl rfl)
theorem dX0_man_183 : decode cX0_man 183 = .ok (.iload_n 1, 1) := dk_27 (dk_at dksX0_man_7 17 rfl rfl)
theorem dX0_man_184 : decode cX0_man 184 = .ok (.iconst 0, 1) := dk_3 (dk_at dksX0_man_7 18 rfl rfl)
theorem dX0_man_185 : decode cX0_man 185 = .ok (.invokevirtual 211, 3) := dk_182 0 211 (dk_at dksX0_man_7 19 rfl rfl)
theorem dX0_man_188 : decode cX0_man 188 = .ok (.ireturn, 1) := dk_172 (dk_at dksX0_man_7 22 rfl rfl)
theorem dX0_man_189 : decode cX0_man 189 = .ok (.aload_n 3, 1) := dk_45 (dk_at dksX0_man_7 23 rfl rfl)
theorem dX0_man_190 : decode cX0_man 190 = .ok (.getfield 215, 3) := dk_180 0 215 (dk_at dksX0_man_8 0 rfl rfl)
theorem dX0_man_193 : decode cX0_man 193 = .ok (.ireturn, 1) := dk_172 (dk_at dksX0_man_8 3 rfl rfl)
theorem dX0_man_194 : decode cX0_man 194 = .ok (.iconst (-1), 1) := dk_2 (dk_at dksX0_man_8 4 rfl rfl)
theorem dX0_man_195 : decode cX0_man 195 = .ok (.ireturn, 1) := dk_172 (dk_at dksX0_man_8 5 rfl rfl)
abbrev cX0_isMan : ByteArray := prog_1_method_14_code
def yX0_isMan : MethodName := ⟨RX0, "isMan", "(I)Z"⟩
def dkwX0_isMan_0 : List UInt8 := [27, 3, 42, 182, 0, 173, 4, 100, 184, 0, 175, 172]
abbrev dktX0_isMan_0 : List UInt8 := dkwX0_isMan_0 ++ []
theorem dksX0_isMan_0 : cX0_isMan.data.toList.drop 0 = dktX0_isMan_0 := by decide +kernel
theorem dX0_isMan_0 : decode cX0_isMan 0 = .ok (.iload_n 1, 1) := dk_27 (dk_at dksX0_isMan_0 0 rfl rfl)
theorem dX0_isMan_1 : decode cX0_isMan 1 = .ok (.iconst 0, 1) := dk_3 (dk_at dksX0_isMan_0 1 rfl rfl)
theorem dX0_isMan_2 : decode cX0_isMan 2 = .ok (.aload_n 0, 1) := dk_42 (dk_at dksX0_isMan_0 2 rfl rfl)
theorem dX0_isMan_3 : decode cX0_isMan 3 = .ok (.invokevirtual 173, 3) := dk_182 0 173 (dk_at dksX0_isMan_0 3 rfl rfl)
theorem dX0_isMan_6 : decode cX0_isMan 6 = .ok (.iconst 1, 1) := dk_4 (dk_at dksX0_isMan_0 6 rfl rfl)
theorem dX0_isMan_7 : decode cX0_isMan 7 = .ok (.isub, 1) := dk_100 (dk_at dksX0_isMan_0 7 rfl rfl)
theorem dX0_isMan_8 : decode cX0_isMan 8 = .ok (.invokestatic 175, 3) := dk_184 0 175 (dk_at dksX0_isMan_0 8 rfl rfl)
theorem dX0_isMan_11 : decode cX0_isMan 11 = .ok (.ireturn, 1) := dk_172 (dk_at dksX0_isMan_0 11 rfl rfl)
abbrev cX0_men : ByteArray := prog_1_method_13_code
def yX0_men : MethodName := ⟨RX0, "men", "()I"⟩
def dkwX0_men_0 : List UInt8 := [42, 180, 0, 52, 180, 0, 163, 182, 0, 167, 172]
abbrev dktX0_men_0 : List UInt8 := dkwX0_men_0 ++ []
theorem dksX0_men_0 : cX0_men.data.toList.drop 0 = dktX0_men_0 := by decide +kernel
theorem dX0_men_0 : decode cX0_men 0 = .ok (.aload_n 0, 1) := dk_42 (dk_at dksX0_men_0 0 rfl rfl)
theorem dX0_men_1 : decode cX0_men 1 = .ok (.getfield 52, 3) := dk_180 0 52 (dk_at dksX0_men_0 1 rfl rfl)
theorem dX0_men_4 : decode cX0_men 4 = .ok (.getfield 163, 3) := dk_180 0 163 (dk_at dksX0_men_0 4 rfl rfl)
theorem dX0_men_7 : decode cX0_men 7 = .ok (.invokevirtual 167, 3) := dk_182 0 167 (dk_at dksX0_men_0 7 rfl rfl)
theorem dX0_men_10 : decode cX0_men 10 = .ok (.ireturn, 1) := dk_172 (dk_at dksX0_men_0 10 rfl rfl)
abbrev cX0_isIn : ByteArray := prog_1_method_12_code
def yX0_isIn : MethodName := ⟨RX0, "isIn", "(III)Z"⟩
def dkwX0_isIn_0 : List UInt8 := [26, 27, 161, 0, 12, 26, 28, 163, 0, 7, 4, 167, 0, 4, 3, 172]
abbrev dktX0_isIn_0 : List UInt8 := dkwX0_isIn_0 ++ []
theorem dksX0_isIn_0 : cX0_isIn.data.toList.drop 0 = dktX0_isIn_0 := by decide +kernel
theorem dX0_isIn_0 : decode cX0_isIn 0 = .ok (.iload_n 0, 1) := dk_26 (dk_at dksX0_isIn_0 0 rfl rfl)
theorem dX0_isIn_1 : decode cX0_isIn 1 = .ok (.iload_n 1, 1) := dk_27 (dk_at dksX0_isIn_0 1 rfl rfl)
theorem dX0_isIn_2 : decode cX0_isIn 2 = .ok (.if_icmp .lt 12, 3) := dk_161 0 12 (dk_at dksX0_isIn_0 2 rfl rfl)
theorem dX0_isIn_5 : decode cX0_isIn 5 = .ok (.iload_n 0, 1) := dk_26 (dk_at dksX0_isIn_0 5 rfl rfl)
theorem dX0_isIn_6 : decode cX0_isIn 6 = .ok (.iload_n 2, 1) := dk_28 (dk_at dksX0_isIn_0 6 rfl rfl)
theorem dX0_isIn_7 : decode cX0_isIn 7 = .ok (.if_icmp .gt 7, 3) := dk_163 0 7 (dk_at dksX0_isIn_0 7 rfl rfl)
theorem dX0_isIn_10 : decode cX0_isIn 10 = .ok (.iconst 1, 1) := dk_4 (dk_at dksX0_isIn_0 10 rfl rfl)
theorem dX0_isIn_11 : decode cX0_isIn 11 = .ok (.goto 4, 3) := dk_167 0 4 (dk_at dksX0_isIn_0 11 rfl rfl)
theorem dX0_isIn_14 : decode cX0_isIn 14 = .ok (.iconst 0, 1) := dk_3 (dk_at dksX0_isIn_0 14 rfl rfl)
theorem dX0_isIn_15 : decode cX0_isIn 15 = .ok (.ireturn, 1) := dk_172 (dk_at dksX0_isIn_0 15 rfl rfl)
abbrev cX0_lot : ByteArray := prog_1_method_2_code
def yX0_lot : MethodName := ⟨RX0, "lot", "(III)I"⟩
def dkwX0_lot_0 : List UInt8 := [26, 16, 28, 184, 0, 2, 27, 184, 0, 2, 4, 124, 28, 112, 172]
abbrev dktX0_lot_0 : List UInt8 := dkwX0_lot_0 ++ []
theorem dksX0_lot_0 : cX0_lot.data.toList.drop 0 = dktX0_lot_0 := by decide +kernel
theorem dX0_lot_0 : decode cX0_lot 0 = .ok (.iload_n 0, 1) := dk_26 (dk_at dksX0_lot_0 0 rfl rfl)
theorem dX0_lot_1 : decode cX0_lot 1 = .ok (.bipush 28, 2) := dk_16 28 (dk_at dksX0_lot_0 1 rfl rfl)
theorem dX0_lot_3 : decode cX0_lot 3 = .ok (.invokestatic 2, 3) := dk_184 0 2 (dk_at dksX0_lot_0 3 rfl rfl)
theorem dX0_lot_6 : decode cX0_lot 6 = .ok (.iload_n 1, 1) := dk_27 (dk_at dksX0_lot_0 6 rfl rfl)
theorem dX0_lot_7 : decode cX0_lot 7 = .ok (.invokestatic 2, 3) := dk_184 0 2 (dk_at dksX0_lot_0 7 rfl rfl)
theorem dX0_lot_10 : decode cX0_lot 10 = .ok (.iconst 1, 1) := dk_4 (dk_at dksX0_lot_0 10 rfl rfl)
theorem dX0_lot_11 : decode cX0_lot 11 = .ok (.iushr, 1) := dk_124 (dk_at dksX0_lot_0 11 rfl rfl)
theorem dX0_lot_12 : decode cX0_lot 12 = .ok (.iload_n 2, 1) := dk_28 (dk_at dksX0_lot_0 12 rfl rfl)
theorem dX0_lot_13 : decode cX0_lot 13 = .ok (.irem, 1) := dk_112 (dk_at dksX0_lot_0 13 rfl rfl)
theorem dX0_lot_14 : decode cX0_lot 14 = .ok (.ireturn, 1) := dk_172 (dk_at dksX0_lot_0 14 rfl rfl)
abbrev cX0_mixed : ByteArray := prog_1_method_1_code
def yX0_mixed : MethodName := ⟨RX0, "mixed", "(II)I"⟩
def dkwX0_mixed_0 : List UInt8 := [26, 27, 130, 18, 1, 104, 17, 48, 57, 96, 61, 28, 28, 16, 15, 124, 130, 172]
abbrev dktX0_mixed_0 : List UInt8 := dkwX0_mixed_0 ++ []
theorem dksX0_mixed_0 : cX0_mixed.data.toList.drop 0 = dktX0_mixed_0 := by decide +kernel
theorem dX0_mixed_0 : decode cX0_mixed 0 = .ok (.iload_n 0, 1) := dk_26 (dk_at dksX0_mixed_0 0 rfl rfl)
theorem dX0_mixed_1 : decode cX0_mixed 1 = .ok (.iload_n 1, 1) := dk_27 (dk_at dksX0_mixed_0 1 rfl rfl)
theorem dX0_mixed_2 : decode cX0_mixed 2 = .ok (.ixor, 1) := dk_130 (dk_at dksX0_mixed_0 2 rfl rfl)
theorem dX0_mixed_3 : decode cX0_mixed 3 = .ok (.ldc 1, 2) := dk_18 1 (dk_at dksX0_mixed_0 3 rfl rfl)
theorem dX0_mixed_5 : decode cX0_mixed 5 = .ok (.imul, 1) := dk_104 (dk_at dksX0_mixed_0 5 rfl rfl)
theorem dX0_mixed_6 : decode cX0_mixed 6 = .ok (.sipush 12345, 3) := dk_17 48 57 (dk_at dksX0_mixed_0 6 rfl rfl)
theorem dX0_mixed_9 : decode cX0_mixed 9 = .ok (.iadd, 1) := dk_96 (dk_at dksX0_mixed_0 9 rfl rfl)
theorem dX0_mixed_10 : decode cX0_mixed 10 = .ok (.istore_n 2, 1) := dk_61 (dk_at dksX0_mixed_0 10 rfl rfl)
theorem dX0_mixed_11 : decode cX0_mixed 11 = .ok (.iload_n 2, 1) := dk_28 (dk_at dksX0_mixed_0 11 rfl rfl)
theorem dX0_mixed_12 : decode cX0_mixed 12 = .ok (.iload_n 2, 1) := dk_28 (dk_at dksX0_mixed_0 12 rfl rfl)
theorem dX0_mixed_13 : decode cX0_mixed 13 = .ok (.bipush 15, 2) := dk_16 15 (dk_at dksX0_mixed_0 13 rfl rfl)
theorem dX0_mixed_15 : decode cX0_mixed 15 = .ok (.iushr, 1) := dk_124 (dk_at dksX0_mixed_0 15 rfl rfl)
theorem dX0_mixed_16 : decode cX0_mixed 16 = .ok (.ixor, 1) := dk_130 (dk_at dksX0_mixed_0 16 rfl rfl)
theorem dX0_mixed_17 : decode cX0_mixed 17 = .ok (.ireturn, 1) := dk_172 (dk_at dksX0_mixed_0 17 rfl rfl)
abbrev cX0_piece : ByteArray := prog_1_method_17_code
def yX0_piece : MethodName := ⟨RX0, "piece", "(III)I"⟩
def dkwX0_piece_4 : List UInt8 := [180, 0, 63, 27, 28, 4, 182, 0, 221, 172, 2, 172]
abbrev dktX0_piece_4 : List UInt8 := dkwX0_piece_4 ++ []
def dkwX0_piece_3 : List UInt8 := [42, 180, 0, 63, 180, 0, 218, 27, 50, 28, 46, 172, 42, 180, 0, 63, 27, 28, 3, 182, 0, 221, 172, 42]
abbrev dktX0_piece_3 : List UInt8 := dkwX0_piece_3 ++ dktX0_piece_4
def dkwX0_piece_2 : List UInt8 := [170, 0, 0, 0, 0, 60, 0, 0, 0, 0, 0, 0, 0, 2, 0, 0, 0, 26, 0, 0, 0, 38, 0, 0, 0, 49]
abbrev dktX0_piece_2 : List UInt8 := dkwX0_piece_2 ++ dktX0_piece_3
def dkwX0_piece_1 : List UInt8 := [154, 0, 5, 2, 172, 29]
abbrev dktX0_piece_1 : List UInt8 := dkwX0_piece_1 ++ dktX0_piece_2
def dkwX0_piece_0 : List UInt8 := [42, 27, 182, 0, 179, 153, 0, 22, 28, 3, 42, 180, 0, 63, 180, 0, 195, 27, 46, 4, 100, 184, 0, 175]
abbrev dktX0_piece_0 : List UInt8 := dkwX0_piece_0 ++ dktX0_piece_1
theorem dksX0_piece_0 : cX0_piece.data.toList.drop 0 = dktX0_piece_0 := by decide +kernel
theorem dksX0_piece_1 : cX0_piece.data.toList.drop 24 = dktX0_piece_1 := dk_seg dksX0_piece_0 24 rfl rfl
theorem dksX0_piece_2 : cX0_piece.data.toList.drop 30 = dktX0_piece_2 := dk_seg dksX0_piece_1 6 rfl rfl
theorem dksX0_piece_3 : cX0_piece.data.toList.drop 56 = dktX0_piece_3 := dk_seg dksX0_piece_2 26 rfl rfl
theorem dksX0_piece_4 : cX0_piece.data.toList.drop 80 = dktX0_piece_4 := dk_seg dksX0_piece_3 24 rfl rfl
theorem dX0_piece_0 : decode cX0_piece 0 = .ok (.aload_n 0, 1) := dk_42 (dk_at dksX0_piece_0 0 rfl rfl)
theorem dX0_piece_1 : decode cX0_piece 1 = .ok (.iload_n 1, 1) := dk_27 (dk_at dksX0_piece_0 1 rfl rfl)
theorem dX0_piece_2 : decode cX0_piece 2 = .ok (.invokevirtual 179, 3) := dk_182 0 179 (dk_at dksX0_piece_0 2 rfl rfl)
theorem dX0_piece_5 : decode cX0_piece 5 = .ok (.ifCond .eq 22, 3) := dk_153 0 22 (dk_at dksX0_piece_0 5 rfl rfl)
theorem dX0_piece_8 : decode cX0_piece 8 = .ok (.iload_n 2, 1) := dk_28 (dk_at dksX0_piece_0 8 rfl rfl)
theorem dX0_piece_9 : decode cX0_piece 9 = .ok (.iconst 0, 1) := dk_3 (dk_at dksX0_piece_0 9 rfl rfl)
theorem dX0_piece_10 : decode cX0_piece 10 = .ok (.aload_n 0, 1) := dk_42 (dk_at dksX0_piece_0 10 rfl rfl)
theorem dX0_piece_11 : decode cX0_piece 11 = .ok (.getfield 63, 3) := dk_180 0 63 (dk_at dksX0_piece_0 11 rfl rfl)
theorem dX0_piece_14 : decode cX0_piece 14 = .ok (.getfield 195, 3) := dk_180 0 195 (dk_at dksX0_piece_0 14 rfl rfl)
theorem dX0_piece_17 : decode cX0_piece 17 = .ok (.iload_n 1, 1) := dk_27 (dk_at dksX0_piece_0 17 rfl rfl)
theorem dX0_piece_18 : decode cX0_piece 18 = .ok (.iaload, 1) := dk_46 (dk_at dksX0_piece_0 18 rfl rfl)
theorem dX0_piece_19 : decode cX0_piece 19 = .ok (.iconst 1, 1) := dk_4 (dk_at dksX0_piece_0 19 rfl rfl)
theorem dX0_piece_20 : decode cX0_piece 20 = .ok (.isub, 1) := dk_100 (dk_at dksX0_piece_0 20 rfl rfl)
theorem dX0_piece_21 : decode cX0_piece 21 = .ok (.invokestatic 175, 3) := dk_184 0 175 (dk_at dksX0_piece_0 21 rfl rfl)
theorem dX0_piece_24 : decode cX0_piece 24 = .ok (.ifCond .ne 5, 3) := dk_154 0 5 (dk_at dksX0_piece_1 0 rfl rfl)
theorem dX0_piece_27 : decode cX0_piece 27 = .ok (.iconst (-1), 1) := dk_2 (dk_at dksX0_piece_1 3 rfl rfl)
theorem dX0_piece_28 : decode cX0_piece 28 = .ok (.ireturn, 1) := dk_172 (dk_at dksX0_piece_1 4 rfl rfl)
theorem dX0_piece_29 : decode cX0_piece 29 = .ok (.iload_n 3, 1) := dk_29 (dk_at dksX0_piece_1 5 rfl rfl)
theorem dX0_piece_30 : decode cX0_piece 30 = .ok (.tableswitch 60 0 2 #[26, 38, 49], 26) := by decide +kernel
theorem dX0_piece_56 : decode cX0_piece 56 = .ok (.aload_n 0, 1) := dk_42 (dk_at dksX0_piece_3 0 rfl rfl)
theorem dX0_piece_57 : decode cX0_piece 57 = .ok (.getfield 63, 3) := dk_180 0 63 (dk_at dksX0_piece_3 1 rfl rfl)
theorem dX0_piece_60 : decode cX0_piece 60 = .ok (.getfield 218, 3) := dk_180 0 218 (dk_at dksX0_piece_3 4 rfl rfl)
theorem dX0_piece_63 : decode cX0_piece 63 = .ok (.iload_n 1, 1) := dk_27 (dk_at dksX0_piece_3 7 rfl rfl)
theorem dX0_piece_64 : decode cX0_piece 64 = .ok (.aaload, 1) := dk_50 (dk_at dksX0_piece_3 8 rfl rfl)
theorem dX0_piece_65 : decode cX0_piece 65 = .ok (.iload_n 2, 1) := dk_28 (dk_at dksX0_piece_3 9 rfl rfl)
theorem dX0_piece_66 : decode cX0_piece 66 = .ok (.iaload, 1) := dk_46 (dk_at dksX0_piece_3 10 rfl rfl)
theorem dX0_piece_67 : decode cX0_piece 67 = .ok (.ireturn, 1) := dk_172 (dk_at dksX0_piece_3 11 rfl rfl)
theorem dX0_piece_68 : decode cX0_piece 68 = .ok (.aload_n 0, 1) := dk_42 (dk_at dksX0_piece_3 12 rfl rfl)
theorem dX0_piece_69 : decode cX0_piece 69 = .ok (.getfield 63, 3) := dk_180 0 63 (dk_at dksX0_piece_3 13 rfl rfl)
theorem dX0_piece_72 : decode cX0_piece 72 = .ok (.iload_n 1, 1) := dk_27 (dk_at dksX0_piece_3 16 rfl rfl)
theorem dX0_piece_73 : decode cX0_piece 73 = .ok (.iload_n 2, 1) := dk_28 (dk_at dksX0_piece_3 17 rfl rfl)
theorem dX0_piece_74 : decode cX0_piece 74 = .ok (.iconst 0, 1) := dk_3 (dk_at dksX0_piece_3 18 rfl rfl)
theorem dX0_piece_75 : decode cX0_piece 75 = .ok (.invokevirtual 221, 3) := dk_182 0 221 (dk_at dksX0_piece_3 19 rfl rfl)
theorem dX0_piece_78 : decode cX0_piece 78 = .ok (.ireturn, 1) := dk_172 (dk_at dksX0_piece_3 22 rfl rfl)
theorem dX0_piece_79 : decode cX0_piece 79 = .ok (.aload_n 0, 1) := dk_42 (dk_at dksX0_piece_3 23 rfl rfl)
theorem dX0_piece_80 : decode cX0_piece 80 = .ok (.getfield 63, 3) := dk_180 0 63 (dk_at dksX0_piece_4 0 rfl rfl)
theorem dX0_piece_83 : decode cX0_piece 83 = .ok (.iload_n 1, 1) := dk_27 (dk_at dksX0_piece_4 3 rfl rfl)
theorem dX0_piece_84 : decode cX0_piece 84 = .ok (.iload_n 2, 1) := dk_28 (dk_at dksX0_piece_4 4 rfl rfl)
theorem dX0_piece_85 : decode cX0_piece 85 = .ok (.iconst 1, 1) := dk_4 (dk_at dksX0_piece_4 5 rfl rfl)
theorem dX0_piece_86 : decode cX0_piece 86 = .ok (.invokevirtual 221, 3) := dk_182 0 221 (dk_at dksX0_piece_4 6 rfl rfl)
theorem dX0_piece_89 : decode cX0_piece 89 = .ok (.ireturn, 1) := dk_172 (dk_at dksX0_piece_4 9 rfl rfl)
theorem dX0_piece_90 : decode cX0_piece 90 = .ok (.iconst (-1), 1) := dk_2 (dk_at dksX0_piece_4 10 rfl rfl)
theorem dX0_piece_91 : decode cX0_piece 91 = .ok (.ireturn, 1) := dk_172 (dk_at dksX0_piece_4 11 rfl rfl)
abbrev cX0_step : ByteArray := prog_1_method_19_code
def yX0_step : MethodName := ⟨RX0, "step", "(II)Z"⟩
def dkwX0_step_2 : List UInt8 := [42, 182, 0, 236, 42, 180, 0, 63, 42, 180, 0, 52, 27, 28, 182, 0, 232, 172]
abbrev dktX0_step_2 : List UInt8 := dkwX0_step_2 ++ []
def dkwX0_step_1 : List UInt8 := [180, 0, 63, 182, 0, 228, 42, 180, 0, 67, 42, 180, 0, 52, 27, 28, 182, 0, 232, 154, 0, 5, 3, 172]
abbrev dktX0_step_1 : List UInt8 := dkwX0_step_1 ++ dktX0_step_2
def dkwX0_step_0 : List UInt8 := [42, 27, 182, 0, 179, 153, 0, 12, 28, 4, 7, 184, 0, 175, 154, 0, 5, 3, 172, 42, 180, 0, 67, 42]
abbrev dktX0_step_0 : List UInt8 := dkwX0_step_0 ++ dktX0_step_1
theorem dksX0_step_0 : cX0_step.data.toList.drop 0 = dktX0_step_0 := by decide +kernel
theorem dksX0_step_1 : cX0_step.data.toList.drop 24 = dktX0_step_1 := dk_seg dksX0_step_0 24 rfl rfl
theorem dksX0_step_2 : cX0_step.data.toList.drop 48 = dktX0_step_2 := dk_seg dksX0_step_1 24 rfl rfl
theorem dX0_step_0 : decode cX0_step 0 = .ok (.aload_n 0, 1) := dk_42 (dk_at dksX0_step_0 0 rfl rfl)
theorem dX0_step_1 : decode cX0_step 1 = .ok (.iload_n 1, 1) := dk_27 (dk_at dksX0_step_0 1 rfl rfl)
theorem dX0_step_2 : decode cX0_step 2 = .ok (.invokevirtual 179, 3) := dk_182 0 179 (dk_at dksX0_step_0 2 rfl rfl)
theorem dX0_step_5 : decode cX0_step 5 = .ok (.ifCond .eq 12, 3) := dk_153 0 12 (dk_at dksX0_step_0 5 rfl rfl)
theorem dX0_step_8 : decode cX0_step 8 = .ok (.iload_n 2, 1) := dk_28 (dk_at dksX0_step_0 8 rfl rfl)
theorem dX0_step_9 : decode cX0_step 9 = .ok (.iconst 1, 1) := dk_4 (dk_at dksX0_step_0 9 rfl rfl)
theorem dX0_step_10 : decode cX0_step 10 = .ok (.iconst 4, 1) := dk_7 (dk_at dksX0_step_0 10 rfl rfl)
theorem dX0_step_11 : decode cX0_step 11 = .ok (.invokestatic 175, 3) := dk_184 0 175 (dk_at dksX0_step_0 11 rfl rfl)
theorem dX0_step_14 : decode cX0_step 14 = .ok (.ifCond .ne 5, 3) := dk_154 0 5 (dk_at dksX0_step_0 14 rfl rfl)
theorem dX0_step_17 : decode cX0_step 17 = .ok (.iconst 0, 1) := dk_3 (dk_at dksX0_step_0 17 rfl rfl)
theorem dX0_step_18 : decode cX0_step 18 = .ok (.ireturn, 1) := dk_172 (dk_at dksX0_step_0 18 rfl rfl)
theorem dX0_step_19 : decode cX0_step 19 = .ok (.aload_n 0, 1) := dk_42 (dk_at dksX0_step_0 19 rfl rfl)
theorem dX0_step_20 : decode cX0_step 20 = .ok (.getfield 67, 3) := dk_180 0 67 (dk_at dksX0_step_0 20 rfl rfl)
theorem dX0_step_23 : decode cX0_step 23 = .ok (.aload_n 0, 1) := dk_42 (dk_at dksX0_step_0 23 rfl rfl)
theorem dX0_step_24 : decode cX0_step 24 = .ok (.getfield 63, 3) := dk_180 0 63 (dk_at dksX0_step_1 0 rfl rfl)
theorem dX0_step_27 : decode cX0_step 27 = .ok (.invokevirtual 228, 3) := dk_182 0 228 (dk_at dksX0_step_1 3 rfl rfl)
theorem dX0_step_30 : decode cX0_step 30 = .ok (.aload_n 0, 1) := dk_42 (dk_at dksX0_step_1 6 rfl rfl)
theorem dX0_step_31 : decode cX0_step 31 = .ok (.getfield 67, 3) := dk_180 0 67 (dk_at dksX0_step_1 7 rfl rfl)
theorem dX0_step_34 : decode cX0_step 34 = .ok (.aload_n 0, 1) := dk_42 (dk_at dksX0_step_1 10 rfl rfl)
theorem dX0_step_35 : decode cX0_step 35 = .ok (.getfield 52, 3) := dk_180 0 52 (dk_at dksX0_step_1 11 rfl rfl)
theorem dX0_step_38 : decode cX0_step 38 = .ok (.iload_n 1, 1) := dk_27 (dk_at dksX0_step_1 14 rfl rfl)
theorem dX0_step_39 : decode cX0_step 39 = .ok (.iload_n 2, 1) := dk_28 (dk_at dksX0_step_1 15 rfl rfl)
theorem dX0_step_40 : decode cX0_step 40 = .ok (.invokevirtual 232, 3) := dk_182 0 232 (dk_at dksX0_step_1 16 rfl rfl)
theorem dX0_step_43 : decode cX0_step 43 = .ok (.ifCond .ne 5, 3) := dk_154 0 5 (dk_at dksX0_step_1 19 rfl rfl)
theorem dX0_step_46 : decode cX0_step 46 = .ok (.iconst 0, 1) := dk_3 (dk_at dksX0_step_1 22 rfl rfl)
theorem dX0_step_47 : decode cX0_step 47 = .ok (.ireturn, 1) := dk_172 (dk_at dksX0_step_1 23 rfl rfl)
theorem dX0_step_48 : decode cX0_step 48 = .ok (.aload_n 0, 1) := dk_42 (dk_at dksX0_step_2 0 rfl rfl)
theorem dX0_step_49 : decode cX0_step 49 = .ok (.invokevirtual 236, 3) := dk_182 0 236 (dk_at dksX0_step_2 1 rfl rfl)
theorem dX0_step_52 : decode cX0_step 52 = .ok (.aload_n 0, 1) := dk_42 (dk_at dksX0_step_2 4 rfl rfl)
theorem dX0_step_53 : decode cX0_step 53 = .ok (.getfield 63, 3) := dk_180 0 63 (dk_at dksX0_step_2 5 rfl rfl)
theorem dX0_step_56 : decode cX0_step 56 = .ok (.aload_n 0, 1) := dk_42 (dk_at dksX0_step_2 8 rfl rfl)
theorem dX0_step_57 : decode cX0_step 57 = .ok (.getfield 52, 3) := dk_180 0 52 (dk_at dksX0_step_2 9 rfl rfl)
theorem dX0_step_60 : decode cX0_step 60 = .ok (.iload_n 1, 1) := dk_27 (dk_at dksX0_step_2 12 rfl rfl)
theorem dX0_step_61 : decode cX0_step 61 = .ok (.iload_n 2, 1) := dk_28 (dk_at dksX0_step_2 13 rfl rfl)
theorem dX0_step_62 : decode cX0_step 62 = .ok (.invokevirtual 232, 3) := dk_182 0 232 (dk_at dksX0_step_2 14 rfl rfl)
theorem dX0_step_65 : decode cX0_step 65 = .ok (.ireturn, 1) := dk_172 (dk_at dksX0_step_2 17 rfl rfl)
abbrev cX0_byX : ByteArray := prog_1_method_3_code
def yX0_byX : MethodName := ⟨RX0, "byX", "(I)I"⟩
def dkwX0_byX_0 : List UInt8 := [26, 5, 160, 0, 7, 4, 167, 0, 13, 26, 7, 160, 0, 7, 2, 167, 0, 4, 3, 172]
abbrev dktX0_byX_0 : List UInt8 := dkwX0_byX_0 ++ []
theorem dksX0_byX_0 : cX0_byX.data.toList.drop 0 = dktX0_byX_0 := by decide +kernel
theorem dX0_byX_0 : decode cX0_byX 0 = .ok (.iload_n 0, 1) := dk_26 (dk_at dksX0_byX_0 0 rfl rfl)
theorem dX0_byX_1 : decode cX0_byX 1 = .ok (.iconst 2, 1) := dk_5 (dk_at dksX0_byX_0 1 rfl rfl)
theorem dX0_byX_2 : decode cX0_byX 2 = .ok (.if_icmp .ne 7, 3) := dk_160 0 7 (dk_at dksX0_byX_0 2 rfl rfl)
theorem dX0_byX_5 : decode cX0_byX 5 = .ok (.iconst 1, 1) := dk_4 (dk_at dksX0_byX_0 5 rfl rfl)
theorem dX0_byX_6 : decode cX0_byX 6 = .ok (.goto 13, 3) := dk_167 0 13 (dk_at dksX0_byX_0 6 rfl rfl)
theorem dX0_byX_9 : decode cX0_byX 9 = .ok (.iload_n 0, 1) := dk_26 (dk_at dksX0_byX_0 9 rfl rfl)
theorem dX0_byX_10 : decode cX0_byX 10 = .ok (.iconst 4, 1) := dk_7 (dk_at dksX0_byX_0 10 rfl rfl)
theorem dX0_byX_11 : decode cX0_byX 11 = .ok (.if_icmp .ne 7, 3) := dk_160 0 7 (dk_at dksX0_byX_0 11 rfl rfl)
theorem dX0_byX_14 : decode cX0_byX 14 = .ok (.iconst (-1), 1) := dk_2 (dk_at dksX0_byX_0 14 rfl rfl)
theorem dX0_byX_15 : decode cX0_byX 15 = .ok (.goto 4, 3) := dk_167 0 4 (dk_at dksX0_byX_0 15 rfl rfl)
theorem dX0_byX_18 : decode cX0_byX 18 = .ok (.iconst 0, 1) := dk_3 (dk_at dksX0_byX_0 18 rfl rfl)
theorem dX0_byX_19 : decode cX0_byX 19 = .ok (.ireturn, 1) := dk_172 (dk_at dksX0_byX_0 19 rfl rfl)
abbrev cX0_byY : ByteArray := prog_1_method_4_code
def yX0_byY : MethodName := ⟨RX0, "byY", "(I)I"⟩
def dkwX0_byY_0 : List UInt8 := [26, 4, 160, 0, 7, 4, 167, 0, 13, 26, 6, 160, 0, 7, 2, 167, 0, 4, 3, 172]
abbrev dktX0_byY_0 : List UInt8 := dkwX0_byY_0 ++ []
theorem dksX0_byY_0 : cX0_byY.data.toList.drop 0 = dktX0_byY_0 := by decide +kernel
theorem dX0_byY_0 : decode cX0_byY 0 = .ok (.iload_n 0, 1) := dk_26 (dk_at dksX0_byY_0 0 rfl rfl)
theorem dX0_byY_1 : decode cX0_byY 1 = .ok (.iconst 1, 1) := dk_4 (dk_at dksX0_byY_0 1 rfl rfl)
theorem dX0_byY_2 : decode cX0_byY 2 = .ok (.if_icmp .ne 7, 3) := dk_160 0 7 (dk_at dksX0_byY_0 2 rfl rfl)
theorem dX0_byY_5 : decode cX0_byY 5 = .ok (.iconst 1, 1) := dk_4 (dk_at dksX0_byY_0 5 rfl rfl)
theorem dX0_byY_6 : decode cX0_byY 6 = .ok (.goto 13, 3) := dk_167 0 13 (dk_at dksX0_byY_0 6 rfl rfl)
theorem dX0_byY_9 : decode cX0_byY 9 = .ok (.iload_n 0, 1) := dk_26 (dk_at dksX0_byY_0 9 rfl rfl)
theorem dX0_byY_10 : decode cX0_byY 10 = .ok (.iconst 3, 1) := dk_6 (dk_at dksX0_byY_0 10 rfl rfl)
theorem dX0_byY_11 : decode cX0_byY 11 = .ok (.if_icmp .ne 7, 3) := dk_160 0 7 (dk_at dksX0_byY_0 11 rfl rfl)
theorem dX0_byY_14 : decode cX0_byY 14 = .ok (.iconst (-1), 1) := dk_2 (dk_at dksX0_byY_0 14 rfl rfl)
theorem dX0_byY_15 : decode cX0_byY 15 = .ok (.goto 4, 3) := dk_167 0 4 (dk_at dksX0_byY_0 15 rfl rfl)
theorem dX0_byY_18 : decode cX0_byY 18 = .ok (.iconst 0, 1) := dk_3 (dk_at dksX0_byY_0 18 rfl rfl)
theorem dX0_byY_19 : decode cX0_byY 19 = .ok (.ireturn, 1) := dk_172 (dk_at dksX0_byY_0 19 rfl rfl)
abbrev cX0_streetOf : ByteArray := prog_1_method_5_code
def yX0_streetOf : MethodName := ⟨RX0, "streetOf", "(III)I"⟩
def dkwX0_streetOf_1 : List UInt8 := [16, 12, 21, 4, 104, 29, 96, 104, 28, 184, 0, 17, 154, 0, 7, 3, 167, 0, 4, 4, 96, 172]
abbrev dktX0_streetOf_1 : List UInt8 := dkwX0_streetOf_1 ++ []
def dkwX0_streetOf_0 : List UInt8 := [26, 26, 28, 184, 0, 8, 96, 184, 0, 12, 62, 27, 27, 28, 184, 0, 17, 96, 184, 0, 12, 54, 4, 5]
abbrev dktX0_streetOf_0 : List UInt8 := dkwX0_streetOf_0 ++ dktX0_streetOf_1
theorem dksX0_streetOf_0 : cX0_streetOf.data.toList.drop 0 = dktX0_streetOf_0 := by decide +kernel
theorem dksX0_streetOf_1 : cX0_streetOf.data.toList.drop 24 = dktX0_streetOf_1 := dk_seg dksX0_streetOf_0 24 rfl rfl
theorem dX0_streetOf_0 : decode cX0_streetOf 0 = .ok (.iload_n 0, 1) := dk_26 (dk_at dksX0_streetOf_0 0 rfl rfl)
theorem dX0_streetOf_1 : decode cX0_streetOf 1 = .ok (.iload_n 0, 1) := dk_26 (dk_at dksX0_streetOf_0 1 rfl rfl)
theorem dX0_streetOf_2 : decode cX0_streetOf 2 = .ok (.iload_n 2, 1) := dk_28 (dk_at dksX0_streetOf_0 2 rfl rfl)
theorem dX0_streetOf_3 : decode cX0_streetOf 3 = .ok (.invokestatic 8, 3) := dk_184 0 8 (dk_at dksX0_streetOf_0 3 rfl rfl)
theorem dX0_streetOf_6 : decode cX0_streetOf 6 = .ok (.iadd, 1) := dk_96 (dk_at dksX0_streetOf_0 6 rfl rfl)
theorem dX0_streetOf_7 : decode cX0_streetOf 7 = .ok (.invokestatic 12, 3) := dk_184 0 12 (dk_at dksX0_streetOf_0 7 rfl rfl)
theorem dX0_streetOf_10 : decode cX0_streetOf 10 = .ok (.istore_n 3, 1) := dk_62 (dk_at dksX0_streetOf_0 10 rfl rfl)
theorem dX0_streetOf_11 : decode cX0_streetOf 11 = .ok (.iload_n 1, 1) := dk_27 (dk_at dksX0_streetOf_0 11 rfl rfl)
theorem dX0_streetOf_12 : decode cX0_streetOf 12 = .ok (.iload_n 1, 1) := dk_27 (dk_at dksX0_streetOf_0 12 rfl rfl)
theorem dX0_streetOf_13 : decode cX0_streetOf 13 = .ok (.iload_n 2, 1) := dk_28 (dk_at dksX0_streetOf_0 13 rfl rfl)
theorem dX0_streetOf_14 : decode cX0_streetOf 14 = .ok (.invokestatic 17, 3) := dk_184 0 17 (dk_at dksX0_streetOf_0 14 rfl rfl)
theorem dX0_streetOf_17 : decode cX0_streetOf 17 = .ok (.iadd, 1) := dk_96 (dk_at dksX0_streetOf_0 17 rfl rfl)
theorem dX0_streetOf_18 : decode cX0_streetOf 18 = .ok (.invokestatic 12, 3) := dk_184 0 12 (dk_at dksX0_streetOf_0 18 rfl rfl)
theorem dX0_streetOf_21 : decode cX0_streetOf 21 = .ok (.istore 4, 2) := dk_54 4 (dk_at dksX0_streetOf_0 21 rfl rfl)
theorem dX0_streetOf_23 : decode cX0_streetOf 23 = .ok (.iconst 2, 1) := dk_5 (dk_at dksX0_streetOf_0 23 rfl rfl)
theorem dX0_streetOf_24 : decode cX0_streetOf 24 = .ok (.bipush 12, 2) := dk_16 12 (dk_at dksX0_streetOf_1 0 rfl rfl)
theorem dX0_streetOf_26 : decode cX0_streetOf 26 = .ok (.iload 4, 2) := dk_21 4 (dk_at dksX0_streetOf_1 2 rfl rfl)
theorem dX0_streetOf_28 : decode cX0_streetOf 28 = .ok (.imul, 1) := dk_104 (dk_at dksX0_streetOf_1 4 rfl rfl)
theorem dX0_streetOf_29 : decode cX0_streetOf 29 = .ok (.iload_n 3, 1) := dk_29 (dk_at dksX0_streetOf_1 5 rfl rfl)
theorem dX0_streetOf_30 : decode cX0_streetOf 30 = .ok (.iadd, 1) := dk_96 (dk_at dksX0_streetOf_1 6 rfl rfl)
theorem dX0_streetOf_31 : decode cX0_streetOf 31 = .ok (.imul, 1) := dk_104 (dk_at dksX0_streetOf_1 7 rfl rfl)
theorem dX0_streetOf_32 : decode cX0_streetOf 32 = .ok (.iload_n 2, 1) := dk_28 (dk_at dksX0_streetOf_1 8 rfl rfl)
theorem dX0_streetOf_33 : decode cX0_streetOf 33 = .ok (.invokestatic 17, 3) := dk_184 0 17 (dk_at dksX0_streetOf_1 9 rfl rfl)
theorem dX0_streetOf_36 : decode cX0_streetOf 36 = .ok (.ifCond .ne 7, 3) := dk_154 0 7 (dk_at dksX0_streetOf_1 12 rfl rfl)
theorem dX0_streetOf_39 : decode cX0_streetOf 39 = .ok (.iconst 0, 1) := dk_3 (dk_at dksX0_streetOf_1 15 rfl rfl)
theorem dX0_streetOf_40 : decode cX0_streetOf 40 = .ok (.goto 4, 3) := dk_167 0 4 (dk_at dksX0_streetOf_1 16 rfl rfl)
theorem dX0_streetOf_43 : decode cX0_streetOf 43 = .ok (.iconst 1, 1) := dk_4 (dk_at dksX0_streetOf_1 19 rfl rfl)
theorem dX0_streetOf_44 : decode cX0_streetOf 44 = .ok (.iadd, 1) := dk_96 (dk_at dksX0_streetOf_1 20 rfl rfl)
theorem dX0_streetOf_45 : decode cX0_streetOf 45 = .ok (.ireturn, 1) := dk_172 (dk_at dksX0_streetOf_1 21 rfl rfl)
abbrev cX0_keeps : ByteArray := prog_1_method_18_code
def yX0_keeps : MethodName := ⟨RX0, "keeps", "()V"⟩
def dkwX0_keeps_1 : List UInt8 := [16, 30, 112, 181, 0, 225, 42, 16, 30, 42, 180, 0, 153, 4, 96, 184, 0, 12, 181, 0, 153, 177]
abbrev dktX0_keeps_1 : List UInt8 := dkwX0_keeps_1 ++ []
def dkwX0_keeps_0 : List UInt8 := [42, 180, 0, 70, 42, 180, 0, 225, 50, 42, 180, 0, 63, 182, 0, 228, 42, 42, 180, 0, 225, 4, 96]
abbrev dktX0_keeps_0 : List UInt8 := dkwX0_keeps_0 ++ dktX0_keeps_1
theorem dksX0_keeps_0 : cX0_keeps.data.toList.drop 0 = dktX0_keeps_0 := by decide +kernel
theorem dksX0_keeps_1 : cX0_keeps.data.toList.drop 23 = dktX0_keeps_1 := dk_seg dksX0_keeps_0 23 rfl rfl
theorem dX0_keeps_0 : decode cX0_keeps 0 = .ok (.aload_n 0, 1) := dk_42 (dk_at dksX0_keeps_0 0 rfl rfl)
theorem dX0_keeps_1 : decode cX0_keeps 1 = .ok (.getfield 70, 3) := dk_180 0 70 (dk_at dksX0_keeps_0 1 rfl rfl)
theorem dX0_keeps_4 : decode cX0_keeps 4 = .ok (.aload_n 0, 1) := dk_42 (dk_at dksX0_keeps_0 4 rfl rfl)
theorem dX0_keeps_5 : decode cX0_keeps 5 = .ok (.getfield 225, 3) := dk_180 0 225 (dk_at dksX0_keeps_0 5 rfl rfl)
theorem dX0_keeps_8 : decode cX0_keeps 8 = .ok (.aaload, 1) := dk_50 (dk_at dksX0_keeps_0 8 rfl rfl)
theorem dX0_keeps_9 : decode cX0_keeps 9 = .ok (.aload_n 0, 1) := dk_42 (dk_at dksX0_keeps_0 9 rfl rfl)
theorem dX0_keeps_10 : decode cX0_keeps 10 = .ok (.getfield 63, 3) := dk_180 0 63 (dk_at dksX0_keeps_0 10 rfl rfl)
theorem dX0_keeps_13 : decode cX0_keeps 13 = .ok (.invokevirtual 228, 3) := dk_182 0 228 (dk_at dksX0_keeps_0 13 rfl rfl)
theorem dX0_keeps_16 : decode cX0_keeps 16 = .ok (.aload_n 0, 1) := dk_42 (dk_at dksX0_keeps_0 16 rfl rfl)
theorem dX0_keeps_17 : decode cX0_keeps 17 = .ok (.aload_n 0, 1) := dk_42 (dk_at dksX0_keeps_0 17 rfl rfl)
theorem dX0_keeps_18 : decode cX0_keeps 18 = .ok (.getfield 225, 3) := dk_180 0 225 (dk_at dksX0_keeps_0 18 rfl rfl)
theorem dX0_keeps_21 : decode cX0_keeps 21 = .ok (.iconst 1, 1) := dk_4 (dk_at dksX0_keeps_0 21 rfl rfl)
theorem dX0_keeps_22 : decode cX0_keeps 22 = .ok (.iadd, 1) := dk_96 (dk_at dksX0_keeps_0 22 rfl rfl)
theorem dX0_keeps_23 : decode cX0_keeps 23 = .ok (.bipush 30, 2) := dk_16 30 (dk_at dksX0_keeps_1 0 rfl rfl)
theorem dX0_keeps_25 : decode cX0_keeps 25 = .ok (.irem, 1) := dk_112 (dk_at dksX0_keeps_1 2 rfl rfl)
theorem dX0_keeps_26 : decode cX0_keeps 26 = .ok (.putfield 225, 3) := dk_181 0 225 (dk_at dksX0_keeps_1 3 rfl rfl)
theorem dX0_keeps_29 : decode cX0_keeps 29 = .ok (.aload_n 0, 1) := dk_42 (dk_at dksX0_keeps_1 6 rfl rfl)
theorem dX0_keeps_30 : decode cX0_keeps 30 = .ok (.bipush 30, 2) := dk_16 30 (dk_at dksX0_keeps_1 7 rfl rfl)
theorem dX0_keeps_32 : decode cX0_keeps 32 = .ok (.aload_n 0, 1) := dk_42 (dk_at dksX0_keeps_1 9 rfl rfl)
theorem dX0_keeps_33 : decode cX0_keeps 33 = .ok (.getfield 153, 3) := dk_180 0 153 (dk_at dksX0_keeps_1 10 rfl rfl)
theorem dX0_keeps_36 : decode cX0_keeps 36 = .ok (.iconst 1, 1) := dk_4 (dk_at dksX0_keeps_1 13 rfl rfl)
theorem dX0_keeps_37 : decode cX0_keeps 37 = .ok (.iadd, 1) := dk_96 (dk_at dksX0_keeps_1 14 rfl rfl)
theorem dX0_keeps_38 : decode cX0_keeps 38 = .ok (.invokestatic 12, 3) := dk_184 0 12 (dk_at dksX0_keeps_1 15 rfl rfl)
theorem dX0_keeps_41 : decode cX0_keeps 41 = .ok (.putfield 153, 3) := dk_181 0 153 (dk_at dksX0_keeps_1 18 rfl rfl)
theorem dX0_keeps_44 : decode cX0_keeps 44 = .ok (.return_, 1) := dk_177 (dk_at dksX0_keeps_1 21 rfl rfl)
abbrev cX0_wind : ByteArray := prog_1_method_20_code
def yX0_wind : MethodName := ⟨RX0, "wind", "(I)Z"⟩
def dkwX0_wind_2 : List UInt8 := [172]
abbrev dktX0_wind_2 : List UInt8 := dkwX0_wind_2 ++ []
def dkwX0_wind_1 : List UInt8 := [180, 0, 67, 27, 182, 0, 239, 154, 0, 5, 3, 172, 42, 182, 0, 236, 42, 180, 0, 63, 27, 182, 0, 239]
abbrev dktX0_wind_1 : List UInt8 := dkwX0_wind_1 ++ dktX0_wind_2
def dkwX0_wind_0 : List UInt8 := [42, 27, 182, 0, 179, 154, 0, 5, 3, 172, 42, 180, 0, 67, 42, 180, 0, 63, 182, 0, 228, 42]
abbrev dktX0_wind_0 : List UInt8 := dkwX0_wind_0 ++ dktX0_wind_1
theorem dksX0_wind_0 : cX0_wind.data.toList.drop 0 = dktX0_wind_0 := by decide +kernel
theorem dksX0_wind_1 : cX0_wind.data.toList.drop 22 = dktX0_wind_1 := dk_seg dksX0_wind_0 22 rfl rfl
theorem dksX0_wind_2 : cX0_wind.data.toList.drop 46 = dktX0_wind_2 := dk_seg dksX0_wind_1 24 rfl rfl
theorem dX0_wind_0 : decode cX0_wind 0 = .ok (.aload_n 0, 1) := dk_42 (dk_at dksX0_wind_0 0 rfl rfl)
theorem dX0_wind_1 : decode cX0_wind 1 = .ok (.iload_n 1, 1) := dk_27 (dk_at dksX0_wind_0 1 rfl rfl)
theorem dX0_wind_2 : decode cX0_wind 2 = .ok (.invokevirtual 179, 3) := dk_182 0 179 (dk_at dksX0_wind_0 2 rfl rfl)
theorem dX0_wind_5 : decode cX0_wind 5 = .ok (.ifCond .ne 5, 3) := dk_154 0 5 (dk_at dksX0_wind_0 5 rfl rfl)
theorem dX0_wind_8 : decode cX0_wind 8 = .ok (.iconst 0, 1) := dk_3 (dk_at dksX0_wind_0 8 rfl rfl)
theorem dX0_wind_9 : decode cX0_wind 9 = .ok (.ireturn, 1) := dk_172 (dk_at dksX0_wind_0 9 rfl rfl)
theorem dX0_wind_10 : decode cX0_wind 10 = .ok (.aload_n 0, 1) := dk_42 (dk_at dksX0_wind_0 10 rfl rfl)
theorem dX0_wind_11 : decode cX0_wind 11 = .ok (.getfield 67, 3) := dk_180 0 67 (dk_at dksX0_wind_0 11 rfl rfl)
theorem dX0_wind_14 : decode cX0_wind 14 = .ok (.aload_n 0, 1) := dk_42 (dk_at dksX0_wind_0 14 rfl rfl)
theorem dX0_wind_15 : decode cX0_wind 15 = .ok (.getfield 63, 3) := dk_180 0 63 (dk_at dksX0_wind_0 15 rfl rfl)
theorem dX0_wind_18 : decode cX0_wind 18 = .ok (.invokevirtual 228, 3) := dk_182 0 228 (dk_at dksX0_wind_0 18 rfl rfl)
theorem dX0_wind_21 : decode cX0_wind 21 = .ok (.aload_n 0, 1) := dk_42 (dk_at dksX0_wind_0 21 rfl rfl)
theorem dX0_wind_22 : decode cX0_wind 22 = .ok (.getfield 67, 3) := dk_180 0 67 (dk_at dksX0_wind_1 0 rfl rfl)
theorem dX0_wind_25 : decode cX0_wind 25 = .ok (.iload_n 1, 1) := dk_27 (dk_at dksX0_wind_1 3 rfl rfl)
theorem dX0_wind_26 : decode cX0_wind 26 = .ok (.invokevirtual 239, 3) := dk_182 0 239 (dk_at dksX0_wind_1 4 rfl rfl)
theorem dX0_wind_29 : decode cX0_wind 29 = .ok (.ifCond .ne 5, 3) := dk_154 0 5 (dk_at dksX0_wind_1 7 rfl rfl)
theorem dX0_wind_32 : decode cX0_wind 32 = .ok (.iconst 0, 1) := dk_3 (dk_at dksX0_wind_1 10 rfl rfl)
theorem dX0_wind_33 : decode cX0_wind 33 = .ok (.ireturn, 1) := dk_172 (dk_at dksX0_wind_1 11 rfl rfl)
theorem dX0_wind_34 : decode cX0_wind 34 = .ok (.aload_n 0, 1) := dk_42 (dk_at dksX0_wind_1 12 rfl rfl)
theorem dX0_wind_35 : decode cX0_wind 35 = .ok (.invokevirtual 236, 3) := dk_182 0 236 (dk_at dksX0_wind_1 13 rfl rfl)
theorem dX0_wind_38 : decode cX0_wind 38 = .ok (.aload_n 0, 1) := dk_42 (dk_at dksX0_wind_1 16 rfl rfl)
theorem dX0_wind_39 : decode cX0_wind 39 = .ok (.getfield 63, 3) := dk_180 0 63 (dk_at dksX0_wind_1 17 rfl rfl)
theorem dX0_wind_42 : decode cX0_wind 42 = .ok (.iload_n 1, 1) := dk_27 (dk_at dksX0_wind_1 20 rfl rfl)
theorem dX0_wind_43 : decode cX0_wind 43 = .ok (.invokevirtual 239, 3) := dk_182 0 239 (dk_at dksX0_wind_1 21 rfl rfl)
theorem dX0_wind_46 : decode cX0_wind 46 = .ok (.ireturn, 1) := dk_172 (dk_at dksX0_wind_2 0 rfl rfl)
abbrev cX0_home : ByteArray := prog_1_method_21_code
def yX0_home : MethodName := ⟨RX0, "home", "(I)I"⟩
def dkwX0_home_2 : List UInt8 := [182, 0, 236, 42, 180, 0, 63, 42, 180, 0, 67, 182, 0, 228, 28, 172]
abbrev dktX0_home_2 : List UInt8 := dkwX0_home_2 ++ []
def dkwX0_home_1 : List UInt8 := [180, 0, 67, 27, 182, 0, 239, 153, 0, 9, 132, 2, 1, 167, 255, 242, 28, 154, 0, 5, 2, 172, 42]
abbrev dktX0_home_1 : List UInt8 := dkwX0_home_1 ++ dktX0_home_2
def dkwX0_home_0 : List UInt8 := [42, 27, 182, 0, 179, 154, 0, 5, 2, 172, 3, 61, 42, 180, 0, 67, 42, 180, 0, 63, 182, 0, 228, 42]
abbrev dktX0_home_0 : List UInt8 := dkwX0_home_0 ++ dktX0_home_1
theorem dksX0_home_0 : cX0_home.data.toList.drop 0 = dktX0_home_0 := by decide +kernel
theorem dksX0_home_1 : cX0_home.data.toList.drop 24 = dktX0_home_1 := dk_seg dksX0_home_0 24 rfl rfl
theorem dksX0_home_2 : cX0_home.data.toList.drop 47 = dktX0_home_2 := dk_seg dksX0_home_1 23 rfl rfl
theorem dX0_home_0 : decode cX0_home 0 = .ok (.aload_n 0, 1) := dk_42 (dk_at dksX0_home_0 0 rfl rfl)
theorem dX0_home_1 : decode cX0_home 1 = .ok (.iload_n 1, 1) := dk_27 (dk_at dksX0_home_0 1 rfl rfl)
theorem dX0_home_2 : decode cX0_home 2 = .ok (.invokevirtual 179, 3) := dk_182 0 179 (dk_at dksX0_home_0 2 rfl rfl)
theorem dX0_home_5 : decode cX0_home 5 = .ok (.ifCond .ne 5, 3) := dk_154 0 5 (dk_at dksX0_home_0 5 rfl rfl)
theorem dX0_home_8 : decode cX0_home 8 = .ok (.iconst (-1), 1) := dk_2 (dk_at dksX0_home_0 8 rfl rfl)
theorem dX0_home_9 : decode cX0_home 9 = .ok (.ireturn, 1) := dk_172 (dk_at dksX0_home_0 9 rfl rfl)
theorem dX0_home_10 : decode cX0_home 10 = .ok (.iconst 0, 1) := dk_3 (dk_at dksX0_home_0 10 rfl rfl)
theorem dX0_home_11 : decode cX0_home 11 = .ok (.istore_n 2, 1) := dk_61 (dk_at dksX0_home_0 11 rfl rfl)
theorem dX0_home_12 : decode cX0_home 12 = .ok (.aload_n 0, 1) := dk_42 (dk_at dksX0_home_0 12 rfl rfl)
theorem dX0_home_13 : decode cX0_home 13 = .ok (.getfield 67, 3) := dk_180 0 67 (dk_at dksX0_home_0 13 rfl rfl)
theorem dX0_home_16 : decode cX0_home 16 = .ok (.aload_n 0, 1) := dk_42 (dk_at dksX0_home_0 16 rfl rfl)
theorem dX0_home_17 : decode cX0_home 17 = .ok (.getfield 63, 3) := dk_180 0 63 (dk_at dksX0_home_0 17 rfl rfl)
theorem dX0_home_20 : decode cX0_home 20 = .ok (.invokevirtual 228, 3) := dk_182 0 228 (dk_at dksX0_home_0 20 rfl rfl)
theorem dX0_home_23 : decode cX0_home 23 = .ok (.aload_n 0, 1) := dk_42 (dk_at dksX0_home_0 23 rfl rfl)
theorem dX0_home_24 : decode cX0_home 24 = .ok (.getfield 67, 3) := dk_180 0 67 (dk_at dksX0_home_1 0 rfl rfl)
theorem dX0_home_27 : decode cX0_home 27 = .ok (.iload_n 1, 1) := dk_27 (dk_at dksX0_home_1 3 rfl rfl)
theorem dX0_home_28 : decode cX0_home 28 = .ok (.invokevirtual 239, 3) := dk_182 0 239 (dk_at dksX0_home_1 4 rfl rfl)
theorem dX0_home_31 : decode cX0_home 31 = .ok (.ifCond .eq 9, 3) := dk_153 0 9 (dk_at dksX0_home_1 7 rfl rfl)
theorem dX0_home_34 : decode cX0_home 34 = .ok (.iinc 2 1, 3) := dk_132 2 1 (dk_at dksX0_home_1 10 rfl rfl)
theorem dX0_home_37 : decode cX0_home 37 = .ok (.goto (-14), 3) := dk_167 255 242 (dk_at dksX0_home_1 13 rfl rfl)
theorem dX0_home_40 : decode cX0_home 40 = .ok (.iload_n 2, 1) := dk_28 (dk_at dksX0_home_1 16 rfl rfl)
theorem dX0_home_41 : decode cX0_home 41 = .ok (.ifCond .ne 5, 3) := dk_154 0 5 (dk_at dksX0_home_1 17 rfl rfl)
theorem dX0_home_44 : decode cX0_home 44 = .ok (.iconst (-1), 1) := dk_2 (dk_at dksX0_home_1 20 rfl rfl)
theorem dX0_home_45 : decode cX0_home 45 = .ok (.ireturn, 1) := dk_172 (dk_at dksX0_home_1 21 rfl rfl)
theorem dX0_home_46 : decode cX0_home 46 = .ok (.aload_n 0, 1) := dk_42 (dk_at dksX0_home_1 22 rfl rfl)
theorem dX0_home_47 : decode cX0_home 47 = .ok (.invokevirtual 236, 3) := dk_182 0 236 (dk_at dksX0_home_2 0 rfl rfl)
theorem dX0_home_50 : decode cX0_home 50 = .ok (.aload_n 0, 1) := dk_42 (dk_at dksX0_home_2 3 rfl rfl)
theorem dX0_home_51 : decode cX0_home 51 = .ok (.getfield 63, 3) := dk_180 0 63 (dk_at dksX0_home_2 4 rfl rfl)
theorem dX0_home_54 : decode cX0_home 54 = .ok (.aload_n 0, 1) := dk_42 (dk_at dksX0_home_2 7 rfl rfl)
theorem dX0_home_55 : decode cX0_home 55 = .ok (.getfield 67, 3) := dk_180 0 67 (dk_at dksX0_home_2 8 rfl rfl)
theorem dX0_home_58 : decode cX0_home 58 = .ok (.invokevirtual 228, 3) := dk_182 0 228 (dk_at dksX0_home_2 11 rfl rfl)
theorem dX0_home_61 : decode cX0_home 61 = .ok (.iload_n 2, 1) := dk_28 (dk_at dksX0_home_2 14 rfl rfl)
theorem dX0_home_62 : decode cX0_home 62 = .ok (.ireturn, 1) := dk_172 (dk_at dksX0_home_2 15 rfl rfl)
abbrev cX0_cut : ByteArray := prog_1_method_22_code
def yX0_cut : MethodName := ⟨RX0, "cut", "(I)I"⟩
def dkwX0_cut_1 : List UInt8 := [182, 0, 236, 42, 180, 0, 63, 27, 182, 0, 242, 172]
abbrev dktX0_cut_1 : List UInt8 := dkwX0_cut_1 ++ []
def dkwX0_cut_0 : List UInt8 := [42, 27, 182, 0, 179, 153, 0, 14, 42, 180, 0, 63, 27, 182, 0, 201, 153, 0, 5, 2, 172, 42]
abbrev dktX0_cut_0 : List UInt8 := dkwX0_cut_0 ++ dktX0_cut_1
theorem dksX0_cut_0 : cX0_cut.data.toList.drop 0 = dktX0_cut_0 := by decide +kernel
theorem dksX0_cut_1 : cX0_cut.data.toList.drop 22 = dktX0_cut_1 := dk_seg dksX0_cut_0 22 rfl rfl
theorem dX0_cut_0 : decode cX0_cut 0 = .ok (.aload_n 0, 1) := dk_42 (dk_at dksX0_cut_0 0 rfl rfl)
theorem dX0_cut_1 : decode cX0_cut 1 = .ok (.iload_n 1, 1) := dk_27 (dk_at dksX0_cut_0 1 rfl rfl)
theorem dX0_cut_2 : decode cX0_cut 2 = .ok (.invokevirtual 179, 3) := dk_182 0 179 (dk_at dksX0_cut_0 2 rfl rfl)
theorem dX0_cut_5 : decode cX0_cut 5 = .ok (.ifCond .eq 14, 3) := dk_153 0 14 (dk_at dksX0_cut_0 5 rfl rfl)
theorem dX0_cut_8 : decode cX0_cut 8 = .ok (.aload_n 0, 1) := dk_42 (dk_at dksX0_cut_0 8 rfl rfl)
theorem dX0_cut_9 : decode cX0_cut 9 = .ok (.getfield 63, 3) := dk_180 0 63 (dk_at dksX0_cut_0 9 rfl rfl)
theorem dX0_cut_12 : decode cX0_cut 12 = .ok (.iload_n 1, 1) := dk_27 (dk_at dksX0_cut_0 12 rfl rfl)
theorem dX0_cut_13 : decode cX0_cut 13 = .ok (.invokevirtual 201, 3) := dk_182 0 201 (dk_at dksX0_cut_0 13 rfl rfl)
theorem dX0_cut_16 : decode cX0_cut 16 = .ok (.ifCond .eq 5, 3) := dk_153 0 5 (dk_at dksX0_cut_0 16 rfl rfl)
theorem dX0_cut_19 : decode cX0_cut 19 = .ok (.iconst (-1), 1) := dk_2 (dk_at dksX0_cut_0 19 rfl rfl)
theorem dX0_cut_20 : decode cX0_cut 20 = .ok (.ireturn, 1) := dk_172 (dk_at dksX0_cut_0 20 rfl rfl)
theorem dX0_cut_21 : decode cX0_cut 21 = .ok (.aload_n 0, 1) := dk_42 (dk_at dksX0_cut_0 21 rfl rfl)
theorem dX0_cut_22 : decode cX0_cut 22 = .ok (.invokevirtual 236, 3) := dk_182 0 236 (dk_at dksX0_cut_1 0 rfl rfl)
theorem dX0_cut_25 : decode cX0_cut 25 = .ok (.aload_n 0, 1) := dk_42 (dk_at dksX0_cut_1 3 rfl rfl)
theorem dX0_cut_26 : decode cX0_cut 26 = .ok (.getfield 63, 3) := dk_180 0 63 (dk_at dksX0_cut_1 4 rfl rfl)
theorem dX0_cut_29 : decode cX0_cut 29 = .ok (.iload_n 1, 1) := dk_27 (dk_at dksX0_cut_1 7 rfl rfl)
theorem dX0_cut_30 : decode cX0_cut 30 = .ok (.invokevirtual 242, 3) := dk_182 0 242 (dk_at dksX0_cut_1 8 rfl rfl)
theorem dX0_cut_33 : decode cX0_cut 33 = .ok (.ireturn, 1) := dk_172 (dk_at dksX0_cut_1 11 rfl rfl)
abbrev cX0_run : ByteArray := prog_1_method_23_code
def yX0_run : MethodName := ⟨RX0, "run", "(I)I"⟩
def dkwX0_run_2 : List UInt8 := [180, 0, 63, 180, 0, 248, 172]
abbrev dktX0_run_2 : List UInt8 := dkwX0_run_2 ++ []
def dkwX0_run_1 : List UInt8 := [27, 162, 0, 20, 42, 180, 0, 63, 42, 180, 0, 52, 182, 0, 245, 132, 2, 1, 167, 255, 237, 42]
abbrev dktX0_run_1 : List UInt8 := dkwX0_run_1 ++ dktX0_run_2
def dkwX0_run_0 : List UInt8 := [27, 3, 17, 0, 200, 184, 0, 175, 154, 0, 5, 2, 172, 27, 158, 0, 7, 42, 182, 0, 236, 3, 61, 28]
abbrev dktX0_run_0 : List UInt8 := dkwX0_run_0 ++ dktX0_run_1
theorem dksX0_run_0 : cX0_run.data.toList.drop 0 = dktX0_run_0 := by decide +kernel
theorem dksX0_run_1 : cX0_run.data.toList.drop 24 = dktX0_run_1 := dk_seg dksX0_run_0 24 rfl rfl
theorem dksX0_run_2 : cX0_run.data.toList.drop 46 = dktX0_run_2 := dk_seg dksX0_run_1 22 rfl rfl
theorem dX0_run_0 : decode cX0_run 0 = .ok (.iload_n 1, 1) := dk_27 (dk_at dksX0_run_0 0 rfl rfl)
theorem dX0_run_1 : decode cX0_run 1 = .ok (.iconst 0, 1) := dk_3 (dk_at dksX0_run_0 1 rfl rfl)
theorem dX0_run_2 : decode cX0_run 2 = .ok (.sipush 200, 3) := dk_17 0 200 (dk_at dksX0_run_0 2 rfl rfl)
theorem dX0_run_5 : decode cX0_run 5 = .ok (.invokestatic 175, 3) := dk_184 0 175 (dk_at dksX0_run_0 5 rfl rfl)
theorem dX0_run_8 : decode cX0_run 8 = .ok (.ifCond .ne 5, 3) := dk_154 0 5 (dk_at dksX0_run_0 8 rfl rfl)
theorem dX0_run_11 : decode cX0_run 11 = .ok (.iconst (-1), 1) := dk_2 (dk_at dksX0_run_0 11 rfl rfl)
theorem dX0_run_12 : decode cX0_run 12 = .ok (.ireturn, 1) := dk_172 (dk_at dksX0_run_0 12 rfl rfl)
theorem dX0_run_13 : decode cX0_run 13 = .ok (.iload_n 1, 1) := dk_27 (dk_at dksX0_run_0 13 rfl rfl)
theorem dX0_run_14 : decode cX0_run 14 = .ok (.ifCond .le 7, 3) := dk_158 0 7 (dk_at dksX0_run_0 14 rfl rfl)
theorem dX0_run_17 : decode cX0_run 17 = .ok (.aload_n 0, 1) := dk_42 (dk_at dksX0_run_0 17 rfl rfl)
theorem dX0_run_18 : decode cX0_run 18 = .ok (.invokevirtual 236, 3) := dk_182 0 236 (dk_at dksX0_run_0 18 rfl rfl)
theorem dX0_run_21 : decode cX0_run 21 = .ok (.iconst 0, 1) := dk_3 (dk_at dksX0_run_0 21 rfl rfl)
theorem dX0_run_22 : decode cX0_run 22 = .ok (.istore_n 2, 1) := dk_61 (dk_at dksX0_run_0 22 rfl rfl)
theorem dX0_run_23 : decode cX0_run 23 = .ok (.iload_n 2, 1) := dk_28 (dk_at dksX0_run_0 23 rfl rfl)
theorem dX0_run_24 : decode cX0_run 24 = .ok (.iload_n 1, 1) := dk_27 (dk_at dksX0_run_1 0 rfl rfl)
theorem dX0_run_25 : decode cX0_run 25 = .ok (.if_icmp .ge 20, 3) := dk_162 0 20 (dk_at dksX0_run_1 1 rfl rfl)
theorem dX0_run_28 : decode cX0_run 28 = .ok (.aload_n 0, 1) := dk_42 (dk_at dksX0_run_1 4 rfl rfl)
theorem dX0_run_29 : decode cX0_run 29 = .ok (.getfield 63, 3) := dk_180 0 63 (dk_at dksX0_run_1 5 rfl rfl)
theorem dX0_run_32 : decode cX0_run 32 = .ok (.aload_n 0, 1) := dk_42 (dk_at dksX0_run_1 8 rfl rfl)
theorem dX0_run_33 : decode cX0_run 33 = .ok (.getfield 52, 3) := dk_180 0 52 (dk_at dksX0_run_1 9 rfl rfl)
theorem dX0_run_36 : decode cX0_run 36 = .ok (.invokevirtual 245, 3) := dk_182 0 245 (dk_at dksX0_run_1 12 rfl rfl)
theorem dX0_run_39 : decode cX0_run 39 = .ok (.iinc 2 1, 3) := dk_132 2 1 (dk_at dksX0_run_1 15 rfl rfl)
theorem dX0_run_42 : decode cX0_run 42 = .ok (.goto (-19), 3) := dk_167 255 237 (dk_at dksX0_run_1 18 rfl rfl)
theorem dX0_run_45 : decode cX0_run 45 = .ok (.aload_n 0, 1) := dk_42 (dk_at dksX0_run_1 21 rfl rfl)
theorem dX0_run_46 : decode cX0_run 46 = .ok (.getfield 63, 3) := dk_180 0 63 (dk_at dksX0_run_2 0 rfl rfl)
theorem dX0_run_49 : decode cX0_run 49 = .ok (.getfield 248, 3) := dk_180 0 248 (dk_at dksX0_run_2 3 rfl rfl)
theorem dX0_run_52 : decode cX0_run 52 = .ok (.ireturn, 1) := dk_172 (dk_at dksX0_run_2 6 rfl rfl)
abbrev cX0_undo : ByteArray := prog_1_method_24_code
def yX0_undo : MethodName := ⟨RX0, "undo", "()Z"⟩
def dkwX0_undo_2 : List UInt8 := [182, 0, 228, 4, 172]
abbrev dktX0_undo_2 : List UInt8 := dkwX0_undo_2 ++ []
def dkwX0_undo_1 : List UInt8 := [16, 30, 96, 4, 100, 16, 30, 112, 181, 0, 225, 42, 180, 0, 63, 42, 180, 0, 70, 42, 180, 0, 225, 50]
abbrev dktX0_undo_1 : List UInt8 := dkwX0_undo_1 ++ dktX0_undo_2
def dkwX0_undo_0 : List UInt8 := [42, 180, 0, 153, 154, 0, 5, 3, 172, 42, 89, 180, 0, 153, 4, 100, 181, 0, 153, 42, 42, 180, 0, 225]
abbrev dktX0_undo_0 : List UInt8 := dkwX0_undo_0 ++ dktX0_undo_1
theorem dksX0_undo_0 : cX0_undo.data.toList.drop 0 = dktX0_undo_0 := by decide +kernel
theorem dksX0_undo_1 : cX0_undo.data.toList.drop 24 = dktX0_undo_1 := dk_seg dksX0_undo_0 24 rfl rfl
theorem dksX0_undo_2 : cX0_undo.data.toList.drop 48 = dktX0_undo_2 := dk_seg dksX0_undo_1 24 rfl rfl
theorem dX0_undo_0 : decode cX0_undo 0 = .ok (.aload_n 0, 1) := dk_42 (dk_at dksX0_undo_0 0 rfl rfl)
theorem dX0_undo_1 : decode cX0_undo 1 = .ok (.getfield 153, 3) := dk_180 0 153 (dk_at dksX0_undo_0 1 rfl rfl)
theorem dX0_undo_4 : decode cX0_undo 4 = .ok (.ifCond .ne 5, 3) := dk_154 0 5 (dk_at dksX0_undo_0 4 rfl rfl)
theorem dX0_undo_7 : decode cX0_undo 7 = .ok (.iconst 0, 1) := dk_3 (dk_at dksX0_undo_0 7 rfl rfl)
theorem dX0_undo_8 : decode cX0_undo 8 = .ok (.ireturn, 1) := dk_172 (dk_at dksX0_undo_0 8 rfl rfl)
theorem dX0_undo_9 : decode cX0_undo 9 = .ok (.aload_n 0, 1) := dk_42 (dk_at dksX0_undo_0 9 rfl rfl)
theorem dX0_undo_10 : decode cX0_undo 10 = .ok (.dup, 1) := dk_89 (dk_at dksX0_undo_0 10 rfl rfl)
theorem dX0_undo_11 : decode cX0_undo 11 = .ok (.getfield 153, 3) := dk_180 0 153 (dk_at dksX0_undo_0 11 rfl rfl)
theorem dX0_undo_14 : decode cX0_undo 14 = .ok (.iconst 1, 1) := dk_4 (dk_at dksX0_undo_0 14 rfl rfl)
theorem dX0_undo_15 : decode cX0_undo 15 = .ok (.isub, 1) := dk_100 (dk_at dksX0_undo_0 15 rfl rfl)
theorem dX0_undo_16 : decode cX0_undo 16 = .ok (.putfield 153, 3) := dk_181 0 153 (dk_at dksX0_undo_0 16 rfl rfl)
theorem dX0_undo_19 : decode cX0_undo 19 = .ok (.aload_n 0, 1) := dk_42 (dk_at dksX0_undo_0 19 rfl rfl)
theorem dX0_undo_20 : decode cX0_undo 20 = .ok (.aload_n 0, 1) := dk_42 (dk_at dksX0_undo_0 20 rfl rfl)
theorem dX0_undo_21 : decode cX0_undo 21 = .ok (.getfield 225, 3) := dk_180 0 225 (dk_at dksX0_undo_0 21 rfl rfl)
theorem dX0_undo_24 : decode cX0_undo 24 = .ok (.bipush 30, 2) := dk_16 30 (dk_at dksX0_undo_1 0 rfl rfl)
theorem dX0_undo_26 : decode cX0_undo 26 = .ok (.iadd, 1) := dk_96 (dk_at dksX0_undo_1 2 rfl rfl)
theorem dX0_undo_27 : decode cX0_undo 27 = .ok (.iconst 1, 1) := dk_4 (dk_at dksX0_undo_1 3 rfl rfl)
theorem dX0_undo_28 : decode cX0_undo 28 = .ok (.isub, 1) := dk_100 (dk_at dksX0_undo_1 4 rfl rfl)
theorem dX0_undo_29 : decode cX0_undo 29 = .ok (.bipush 30, 2) := dk_16 30 (dk_at dksX0_undo_1 5 rfl rfl)
theorem dX0_undo_31 : decode cX0_undo 31 = .ok (.irem, 1) := dk_112 (dk_at dksX0_undo_1 7 rfl rfl)
theorem dX0_undo_32 : decode cX0_undo 32 = .ok (.putfield 225, 3) := dk_181 0 225 (dk_at dksX0_undo_1 8 rfl rfl)
theorem dX0_undo_35 : decode cX0_undo 35 = .ok (.aload_n 0, 1) := dk_42 (dk_at dksX0_undo_1 11 rfl rfl)
theorem dX0_undo_36 : decode cX0_undo 36 = .ok (.getfield 63, 3) := dk_180 0 63 (dk_at dksX0_undo_1 12 rfl rfl)
theorem dX0_undo_39 : decode cX0_undo 39 = .ok (.aload_n 0, 1) := dk_42 (dk_at dksX0_undo_1 15 rfl rfl)
theorem dX0_undo_40 : decode cX0_undo 40 = .ok (.getfield 70, 3) := dk_180 0 70 (dk_at dksX0_undo_1 16 rfl rfl)
theorem dX0_undo_43 : decode cX0_undo 43 = .ok (.aload_n 0, 1) := dk_42 (dk_at dksX0_undo_1 19 rfl rfl)
theorem dX0_undo_44 : decode cX0_undo 44 = .ok (.getfield 225, 3) := dk_180 0 225 (dk_at dksX0_undo_1 20 rfl rfl)
theorem dX0_undo_47 : decode cX0_undo 47 = .ok (.aaload, 1) := dk_50 (dk_at dksX0_undo_1 23 rfl rfl)
theorem dX0_undo_48 : decode cX0_undo 48 = .ok (.invokevirtual 228, 3) := dk_182 0 228 (dk_at dksX0_undo_2 0 rfl rfl)
theorem dX0_undo_51 : decode cX0_undo 51 = .ok (.iconst 1, 1) := dk_4 (dk_at dksX0_undo_2 3 rfl rfl)
theorem dX0_undo_52 : decode cX0_undo 52 = .ok (.ireturn, 1) := dk_172 (dk_at dksX0_undo_2 4 rfl rfl)
abbrev cX0_over : ByteArray := prog_1_method_25_code
def yX0_over : MethodName := ⟨RX0, "over", "(II)I"⟩
def dkwX0_over_0 : List UInt8 := [42, 27, 28, 182, 0, 250, 153, 0, 15, 42, 180, 0, 63, 27, 28, 182, 0, 254, 167, 0, 4, 2, 172]
abbrev dktX0_over_0 : List UInt8 := dkwX0_over_0 ++ []
theorem dksX0_over_0 : cX0_over.data.toList.drop 0 = dktX0_over_0 := by decide +kernel
theorem dX0_over_0 : decode cX0_over 0 = .ok (.aload_n 0, 1) := dk_42 (dk_at dksX0_over_0 0 rfl rfl)
theorem dX0_over_1 : decode cX0_over 1 = .ok (.iload_n 1, 1) := dk_27 (dk_at dksX0_over_0 1 rfl rfl)
theorem dX0_over_2 : decode cX0_over 2 = .ok (.iload_n 2, 1) := dk_28 (dk_at dksX0_over_0 2 rfl rfl)
theorem dX0_over_3 : decode cX0_over 3 = .ok (.invokevirtual 250, 3) := dk_182 0 250 (dk_at dksX0_over_0 3 rfl rfl)
theorem dX0_over_6 : decode cX0_over 6 = .ok (.ifCond .eq 15, 3) := dk_153 0 15 (dk_at dksX0_over_0 6 rfl rfl)
theorem dX0_over_9 : decode cX0_over 9 = .ok (.aload_n 0, 1) := dk_42 (dk_at dksX0_over_0 9 rfl rfl)
theorem dX0_over_10 : decode cX0_over 10 = .ok (.getfield 63, 3) := dk_180 0 63 (dk_at dksX0_over_0 10 rfl rfl)
theorem dX0_over_13 : decode cX0_over 13 = .ok (.iload_n 1, 1) := dk_27 (dk_at dksX0_over_0 13 rfl rfl)
theorem dX0_over_14 : decode cX0_over 14 = .ok (.iload_n 2, 1) := dk_28 (dk_at dksX0_over_0 14 rfl rfl)
theorem dX0_over_15 : decode cX0_over 15 = .ok (.invokevirtual 254, 3) := dk_182 0 254 (dk_at dksX0_over_0 15 rfl rfl)
theorem dX0_over_18 : decode cX0_over 18 = .ok (.goto 4, 3) := dk_167 0 4 (dk_at dksX0_over_0 18 rfl rfl)
theorem dX0_over_21 : decode cX0_over 21 = .ok (.iconst (-1), 1) := dk_2 (dk_at dksX0_over_0 21 rfl rfl)
theorem dX0_over_22 : decode cX0_over 22 = .ok (.ireturn, 1) := dk_172 (dk_at dksX0_over_0 22 rfl rfl)
abbrev cX0_areTwo : ByteArray := prog_1_method_15_code
def yX0_areTwo : MethodName := ⟨RX0, "areTwo", "(II)Z"⟩
def dkwX0_areTwo_1 : List UInt8 := [167, 0, 4, 3, 172]
abbrev dktX0_areTwo_1 : List UInt8 := dkwX0_areTwo_1 ++ []
def dkwX0_areTwo_0 : List UInt8 := [42, 27, 182, 0, 179, 153, 0, 20, 42, 28, 182, 0, 179, 153, 0, 12, 27, 28, 159, 0, 7, 4]
abbrev dktX0_areTwo_0 : List UInt8 := dkwX0_areTwo_0 ++ dktX0_areTwo_1
theorem dksX0_areTwo_0 : cX0_areTwo.data.toList.drop 0 = dktX0_areTwo_0 := by decide +kernel
theorem dksX0_areTwo_1 : cX0_areTwo.data.toList.drop 22 = dktX0_areTwo_1 := dk_seg dksX0_areTwo_0 22 rfl rfl
theorem dX0_areTwo_0 : decode cX0_areTwo 0 = .ok (.aload_n 0, 1) := dk_42 (dk_at dksX0_areTwo_0 0 rfl rfl)
theorem dX0_areTwo_1 : decode cX0_areTwo 1 = .ok (.iload_n 1, 1) := dk_27 (dk_at dksX0_areTwo_0 1 rfl rfl)
theorem dX0_areTwo_2 : decode cX0_areTwo 2 = .ok (.invokevirtual 179, 3) := dk_182 0 179 (dk_at dksX0_areTwo_0 2 rfl rfl)
theorem dX0_areTwo_5 : decode cX0_areTwo 5 = .ok (.ifCond .eq 20, 3) := dk_153 0 20 (dk_at dksX0_areTwo_0 5 rfl rfl)
theorem dX0_areTwo_8 : decode cX0_areTwo 8 = .ok (.aload_n 0, 1) := dk_42 (dk_at dksX0_areTwo_0 8 rfl rfl)
theorem dX0_areTwo_9 : decode cX0_areTwo 9 = .ok (.iload_n 2, 1) := dk_28 (dk_at dksX0_areTwo_0 9 rfl rfl)
theorem dX0_areTwo_10 : decode cX0_areTwo 10 = .ok (.invokevirtual 179, 3) := dk_182 0 179 (dk_at dksX0_areTwo_0 10 rfl rfl)
theorem dX0_areTwo_13 : decode cX0_areTwo 13 = .ok (.ifCond .eq 12, 3) := dk_153 0 12 (dk_at dksX0_areTwo_0 13 rfl rfl)
theorem dX0_areTwo_16 : decode cX0_areTwo 16 = .ok (.iload_n 1, 1) := dk_27 (dk_at dksX0_areTwo_0 16 rfl rfl)
theorem dX0_areTwo_17 : decode cX0_areTwo 17 = .ok (.iload_n 2, 1) := dk_28 (dk_at dksX0_areTwo_0 17 rfl rfl)
theorem dX0_areTwo_18 : decode cX0_areTwo 18 = .ok (.if_icmp .eq 7, 3) := dk_159 0 7 (dk_at dksX0_areTwo_0 18 rfl rfl)
theorem dX0_areTwo_21 : decode cX0_areTwo 21 = .ok (.iconst 1, 1) := dk_4 (dk_at dksX0_areTwo_0 21 rfl rfl)
theorem dX0_areTwo_22 : decode cX0_areTwo 22 = .ok (.goto 4, 3) := dk_167 0 4 (dk_at dksX0_areTwo_1 0 rfl rfl)
theorem dX0_areTwo_25 : decode cX0_areTwo 25 = .ok (.iconst 0, 1) := dk_3 (dk_at dksX0_areTwo_1 3 rfl rfl)
theorem dX0_areTwo_26 : decode cX0_areTwo 26 = .ok (.ireturn, 1) := dk_172 (dk_at dksX0_areTwo_1 4 rfl rfl)
abbrev cX0_waits : ByteArray := prog_1_method_26_code
def yX0_waits : MethodName := ⟨RX0, "waits", "(I)I"⟩
def dkwX0_waits_2 : List UInt8 := [61, 132, 3, 1, 167, 255, 218, 28, 172]
abbrev dktX0_waits_2 : List UInt8 := dkwX0_waits_2 ++ []
def dkwX0_waits_1 : List UInt8 := [27, 159, 0, 21, 42, 180, 0, 63, 29, 27, 182, 0, 254, 158, 0, 9, 4, 29, 120, 167, 0, 4, 3, 128]
abbrev dktX0_waits_1 : List UInt8 := dkwX0_waits_1 ++ dktX0_waits_2
def dkwX0_waits_0 : List UInt8 := [42, 27, 182, 0, 179, 154, 0, 5, 2, 172, 3, 61, 3, 62, 29, 42, 182, 0, 173, 162, 0, 36, 28, 29]
abbrev dktX0_waits_0 : List UInt8 := dkwX0_waits_0 ++ dktX0_waits_1
theorem dksX0_waits_0 : cX0_waits.data.toList.drop 0 = dktX0_waits_0 := by decide +kernel
theorem dksX0_waits_1 : cX0_waits.data.toList.drop 24 = dktX0_waits_1 := dk_seg dksX0_waits_0 24 rfl rfl
theorem dksX0_waits_2 : cX0_waits.data.toList.drop 48 = dktX0_waits_2 := dk_seg dksX0_waits_1 24 rfl rfl
theorem dX0_waits_0 : decode cX0_waits 0 = .ok (.aload_n 0, 1) := dk_42 (dk_at dksX0_waits_0 0 rfl rfl)
theorem dX0_waits_1 : decode cX0_waits 1 = .ok (.iload_n 1, 1) := dk_27 (dk_at dksX0_waits_0 1 rfl rfl)
theorem dX0_waits_2 : decode cX0_waits 2 = .ok (.invokevirtual 179, 3) := dk_182 0 179 (dk_at dksX0_waits_0 2 rfl rfl)
theorem dX0_waits_5 : decode cX0_waits 5 = .ok (.ifCond .ne 5, 3) := dk_154 0 5 (dk_at dksX0_waits_0 5 rfl rfl)
theorem dX0_waits_8 : decode cX0_waits 8 = .ok (.iconst (-1), 1) := dk_2 (dk_at dksX0_waits_0 8 rfl rfl)
theorem dX0_waits_9 : decode cX0_waits 9 = .ok (.ireturn, 1) := dk_172 (dk_at dksX0_waits_0 9 rfl rfl)
theorem dX0_waits_10 : decode cX0_waits 10 = .ok (.iconst 0, 1) := dk_3 (dk_at dksX0_waits_0 10 rfl rfl)
theorem dX0_waits_11 : decode cX0_waits 11 = .ok (.istore_n 2, 1) := dk_61 (dk_at dksX0_waits_0 11 rfl rfl)
theorem dX0_waits_12 : decode cX0_waits 12 = .ok (.iconst 0, 1) := dk_3 (dk_at dksX0_waits_0 12 rfl rfl)
theorem dX0_waits_13 : decode cX0_waits 13 = .ok (.istore_n 3, 1) := dk_62 (dk_at dksX0_waits_0 13 rfl rfl)
theorem dX0_waits_14 : decode cX0_waits 14 = .ok (.iload_n 3, 1) := dk_29 (dk_at dksX0_waits_0 14 rfl rfl)
theorem dX0_waits_15 : decode cX0_waits 15 = .ok (.aload_n 0, 1) := dk_42 (dk_at dksX0_waits_0 15 rfl rfl)
theorem dX0_waits_16 : decode cX0_waits 16 = .ok (.invokevirtual 173, 3) := dk_182 0 173 (dk_at dksX0_waits_0 16 rfl rfl)
theorem dX0_waits_19 : decode cX0_waits 19 = .ok (.if_icmp .ge 36, 3) := dk_162 0 36 (dk_at dksX0_waits_0 19 rfl rfl)
theorem dX0_waits_22 : decode cX0_waits 22 = .ok (.iload_n 2, 1) := dk_28 (dk_at dksX0_waits_0 22 rfl rfl)
theorem dX0_waits_23 : decode cX0_waits 23 = .ok (.iload_n 3, 1) := dk_29 (dk_at dksX0_waits_0 23 rfl rfl)
theorem dX0_waits_24 : decode cX0_waits 24 = .ok (.iload_n 1, 1) := dk_27 (dk_at dksX0_waits_1 0 rfl rfl)
theorem dX0_waits_25 : decode cX0_waits 25 = .ok (.if_icmp .eq 21, 3) := dk_159 0 21 (dk_at dksX0_waits_1 1 rfl rfl)
theorem dX0_waits_28 : decode cX0_waits 28 = .ok (.aload_n 0, 1) := dk_42 (dk_at dksX0_waits_1 4 rfl rfl)
theorem dX0_waits_29 : decode cX0_waits 29 = .ok (.getfield 63, 3) := dk_180 0 63 (dk_at dksX0_waits_1 5 rfl rfl)
theorem dX0_waits_32 : decode cX0_waits 32 = .ok (.iload_n 3, 1) := dk_29 (dk_at dksX0_waits_1 8 rfl rfl)
theorem dX0_waits_33 : decode cX0_waits 33 = .ok (.iload_n 1, 1) := dk_27 (dk_at dksX0_waits_1 9 rfl rfl)
theorem dX0_waits_34 : decode cX0_waits 34 = .ok (.invokevirtual 254, 3) := dk_182 0 254 (dk_at dksX0_waits_1 10 rfl rfl)
theorem dX0_waits_37 : decode cX0_waits 37 = .ok (.ifCond .le 9, 3) := dk_158 0 9 (dk_at dksX0_waits_1 13 rfl rfl)
theorem dX0_waits_40 : decode cX0_waits 40 = .ok (.iconst 1, 1) := dk_4 (dk_at dksX0_waits_1 16 rfl rfl)
theorem dX0_waits_41 : decode cX0_waits 41 = .ok (.iload_n 3, 1) := dk_29 (dk_at dksX0_waits_1 17 rfl rfl)
theorem dX0_waits_42 : decode cX0_waits 42 = .ok (.ishl, 1) := dk_120 (dk_at dksX0_waits_1 18 rfl rfl)
theorem dX0_waits_43 : decode cX0_waits 43 = .ok (.goto 4, 3) := dk_167 0 4 (dk_at dksX0_waits_1 19 rfl rfl)
theorem dX0_waits_46 : decode cX0_waits 46 = .ok (.iconst 0, 1) := dk_3 (dk_at dksX0_waits_1 22 rfl rfl)
theorem dX0_waits_47 : decode cX0_waits 47 = .ok (.ior, 1) := dk_128 (dk_at dksX0_waits_1 23 rfl rfl)
theorem dX0_waits_48 : decode cX0_waits 48 = .ok (.istore_n 2, 1) := dk_61 (dk_at dksX0_waits_2 0 rfl rfl)
theorem dX0_waits_49 : decode cX0_waits 49 = .ok (.iinc 3 1, 3) := dk_132 3 1 (dk_at dksX0_waits_2 1 rfl rfl)
theorem dX0_waits_52 : decode cX0_waits 52 = .ok (.goto (-38), 3) := dk_167 255 218 (dk_at dksX0_waits_2 4 rfl rfl)
theorem dX0_waits_55 : decode cX0_waits 55 = .ok (.iload_n 2, 1) := dk_28 (dk_at dksX0_waits_2 7 rfl rfl)
theorem dX0_waits_56 : decode cX0_waits 56 = .ok (.ireturn, 1) := dk_172 (dk_at dksX0_waits_2 8 rfl rfl)
abbrev cX0_orders : ByteArray := prog_1_method_28_code
def yX0_orders : MethodName := ⟨RX0, "orders", "()I"⟩
def dkwX0_orders_0 : List UInt8 := [42, 180, 0, 106, 42, 182, 1, 4, 46, 172]
abbrev dktX0_orders_0 : List UInt8 := dkwX0_orders_0 ++ []
theorem dksX0_orders_0 : cX0_orders.data.toList.drop 0 = dktX0_orders_0 := by decide +kernel
theorem dX0_orders_0 : decode cX0_orders 0 = .ok (.aload_n 0, 1) := dk_42 (dk_at dksX0_orders_0 0 rfl rfl)
theorem dX0_orders_1 : decode cX0_orders 1 = .ok (.getfield 106, 3) := dk_180 0 106 (dk_at dksX0_orders_0 1 rfl rfl)
theorem dX0_orders_4 : decode cX0_orders 4 = .ok (.aload_n 0, 1) := dk_42 (dk_at dksX0_orders_0 4 rfl rfl)
theorem dX0_orders_5 : decode cX0_orders 5 = .ok (.invokevirtual 260, 3) := dk_182 1 4 (dk_at dksX0_orders_0 5 rfl rfl)
theorem dX0_orders_8 : decode cX0_orders 8 = .ok (.iaload, 1) := dk_46 (dk_at dksX0_orders_0 8 rfl rfl)
theorem dX0_orders_9 : decode cX0_orders 9 = .ok (.ireturn, 1) := dk_172 (dk_at dksX0_orders_0 9 rfl rfl)
abbrev cX0_laysWaits : ByteArray := prog_1_method_27_code
def yX0_laysWaits : MethodName := ⟨RX0, "laysWaits", "()I"⟩
def dkwX0_laysWaits_6 : List UInt8 := [167, 255, 171, 27, 172]
abbrev dktX0_laysWaits_6 : List UInt8 := dkwX0_laysWaits_6 ++ []
def dkwX0_laysWaits_5 : List UInt8 := [180, 0, 106, 28, 4, 29, 120, 2, 130, 126, 46, 96, 79, 132, 3, 1, 167, 255, 204, 132, 2, 1]
abbrev dktX0_laysWaits_5 : List UInt8 := dkwX0_laysWaits_5 ++ dktX0_laysWaits_6
def dkwX0_laysWaits_4 : List UInt8 := [160, 0, 35, 42, 180, 0, 102, 29, 46, 28, 126, 154, 0, 24, 42, 180, 0, 106, 28, 92, 46, 42]
abbrev dktX0_laysWaits_4 : List UInt8 := dkwX0_laysWaits_4 ++ dktX0_laysWaits_5
def dkwX0_laysWaits_3 : List UInt8 := [4, 167, 0, 4, 3, 79, 3, 62, 29, 42, 182, 0, 173, 162, 0, 50, 28, 29, 122, 4, 126, 4]
abbrev dktX0_laysWaits_3 : List UInt8 := dkwX0_laysWaits_3 ++ dktX0_laysWaits_4
def dkwX0_laysWaits_2 : List UInt8 := [167, 255, 212, 3, 61, 28, 4, 42, 182, 0, 173, 120, 162, 0, 81, 42, 180, 0, 106, 28, 28, 154, 0, 7]
abbrev dktX0_laysWaits_2 : List UInt8 := dkwX0_laysWaits_2 ++ dktX0_laysWaits_3
def dkwX0_laysWaits_1 : List UInt8 := [42, 180, 0, 63, 180, 0, 195, 28, 46, 158, 0, 9, 4, 28, 120, 167, 0, 4, 3, 128, 60, 132, 2, 1]
abbrev dktX0_laysWaits_1 : List UInt8 := dkwX0_laysWaits_1 ++ dktX0_laysWaits_2
def dkwX0_laysWaits_0 : List UInt8 := [3, 60, 3, 61, 28, 42, 182, 0, 173, 162, 0, 42, 42, 180, 0, 102, 28, 42, 28, 182, 1, 1, 79, 27]
abbrev dktX0_laysWaits_0 : List UInt8 := dkwX0_laysWaits_0 ++ dktX0_laysWaits_1
theorem dksX0_laysWaits_0 : cX0_laysWaits.data.toList.drop 0 = dktX0_laysWaits_0 := by decide +kernel
theorem dksX0_laysWaits_1 : cX0_laysWaits.data.toList.drop 24 = dktX0_laysWaits_1 := dk_seg dksX0_laysWaits_0 24 rfl rfl
theorem dksX0_laysWaits_2 : cX0_laysWaits.data.toList.drop 48 = dktX0_laysWaits_2 := dk_seg dksX0_laysWaits_1 24 rfl rfl
theorem dksX0_laysWaits_3 : cX0_laysWaits.data.toList.drop 72 = dktX0_laysWaits_3 := dk_seg dksX0_laysWaits_2 24 rfl rfl
theorem dksX0_laysWaits_4 : cX0_laysWaits.data.toList.drop 94 = dktX0_laysWaits_4 := dk_seg dksX0_laysWaits_3 22 rfl rfl
theorem dksX0_laysWaits_5 : cX0_laysWaits.data.toList.drop 116 = dktX0_laysWaits_5 := dk_seg dksX0_laysWaits_4 22 rfl rfl
theorem dksX0_laysWaits_6 : cX0_laysWaits.data.toList.drop 138 = dktX0_laysWaits_6 := dk_seg dksX0_laysWaits_5 22 rfl rfl
theorem dX0_laysWaits_0 : decode cX0_laysWaits 0 = .ok (.iconst 0, 1) := dk_3 (dk_at dksX0_laysWaits_0 0 rfl rfl)
theorem dX0_laysWaits_1 : decode cX0_laysWaits 1 = .ok (.istore_n 1, 1) := dk_60 (dk_at dksX0_laysWaits_0 1 rfl rfl)
theorem dX0_laysWaits_2 : decode cX0_laysWaits 2 = .ok (.iconst 0, 1) := dk_3 (dk_at dksX0_laysWaits_0 2 rfl rfl)
theorem dX0_laysWaits_3 : decode cX0_laysWaits 3 = .ok (.istore_n 2, 1) := dk_61 (dk_at dksX0_laysWaits_0 3 rfl rfl)
theorem dX0_laysWaits_4 : decode cX0_laysWaits 4 = .ok (.iload_n 2, 1) := dk_28 (dk_at dksX0_laysWaits_0 4 rfl rfl)
theorem dX0_laysWaits_5 : decode cX0_laysWaits 5 = .ok (.aload_n 0, 1) := dk_42 (dk_at dksX0_laysWaits_0 5 rfl rfl)
theorem dX0_laysWaits_6 : decode cX0_laysWaits 6 = .ok (.invokevirtual 173, 3) := dk_182 0 173 (dk_at dksX0_laysWaits_0 6 rfl rfl)
theorem dX0_laysWaits_9 : decode cX0_laysWaits 9 = .ok (.if_icmp .ge 42, 3) := dk_162 0 42 (dk_at dksX0_laysWaits_0 9 rfl rfl)
theorem dX0_laysWaits_12 : decode cX0_laysWaits 12 = .ok (.aload_n 0, 1) := dk_42 (dk_at dksX0_laysWaits_0 12 rfl rfl)
theorem dX0_laysWaits_13 : decode cX0_laysWaits 13 = .ok (.getfield 102, 3) := dk_180 0 102 (dk_at dksX0_laysWaits_0 13 rfl rfl)
theorem dX0_laysWaits_16 : decode cX0_laysWaits 16 = .ok (.iload_n 2, 1) := dk_28 (dk_at dksX0_laysWaits_0 16 rfl rfl)
theorem dX0_laysWaits_17 : decode cX0_laysWaits 17 = .ok (.aload_n 0, 1) := dk_42 (dk_at dksX0_laysWaits_0 17 rfl rfl)
theorem dX0_laysWaits_18 : decode cX0_laysWaits 18 = .ok (.iload_n 2, 1) := dk_28 (dk_at dksX0_laysWaits_0 18 rfl rfl)
theorem dX0_laysWaits_19 : decode cX0_laysWaits 19 = .ok (.invokevirtual 257, 3) := dk_182 1 1 (dk_at dksX0_laysWaits_0 19 rfl rfl)
theorem dX0_laysWaits_22 : decode cX0_laysWaits 22 = .ok (.iastore, 1) := dk_79 (dk_at dksX0_laysWaits_0 22 rfl rfl)
theorem dX0_laysWaits_23 : decode cX0_laysWaits 23 = .ok (.iload_n 1, 1) := dk_27 (dk_at dksX0_laysWaits_0 23 rfl rfl)
theorem dX0_laysWaits_24 : decode cX0_laysWaits 24 = .ok (.aload_n 0, 1) := dk_42 (dk_at dksX0_laysWaits_1 0 rfl rfl)
theorem dX0_laysWaits_25 : decode cX0_laysWaits 25 = .ok (.getfield 63, 3) := dk_180 0 63 (dk_at dksX0_laysWaits_1 1 rfl rfl)
theorem dX0_laysWaits_28 : decode cX0_laysWaits 28 = .ok (.getfield 195, 3) := dk_180 0 195 (dk_at dksX0_laysWaits_1 4 rfl rfl)
theorem dX0_laysWaits_31 : decode cX0_laysWaits 31 = .ok (.iload_n 2, 1) := dk_28 (dk_at dksX0_laysWaits_1 7 rfl rfl)
theorem dX0_laysWaits_32 : decode cX0_laysWaits 32 = .ok (.iaload, 1) := dk_46 (dk_at dksX0_laysWaits_1 8 rfl rfl)
theorem dX0_laysWaits_33 : decode cX0_laysWaits 33 = .ok (.ifCond .le 9, 3) := dk_158 0 9 (dk_at dksX0_laysWaits_1 9 rfl rfl)
theorem dX0_laysWaits_36 : decode cX0_laysWaits 36 = .ok (.iconst 1, 1) := dk_4 (dk_at dksX0_laysWaits_1 12 rfl rfl)
theorem dX0_laysWaits_37 : decode cX0_laysWaits 37 = .ok (.iload_n 2, 1) := dk_28 (dk_at dksX0_laysWaits_1 13 rfl rfl)
theorem dX0_laysWaits_38 : decode cX0_laysWaits 38 = .ok (.ishl, 1) := dk_120 (dk_at dksX0_laysWaits_1 14 rfl rfl)
theorem dX0_laysWaits_39 : decode cX0_laysWaits 39 = .ok (.goto 4, 3) := dk_167 0 4 (dk_at dksX0_laysWaits_1 15 rfl rfl)
theorem dX0_laysWaits_42 : decode cX0_laysWaits 42 = .ok (.iconst 0, 1) := dk_3 (dk_at dksX0_laysWaits_1 18 rfl rfl)
theorem dX0_laysWaits_43 : decode cX0_laysWaits 43 = .ok (.ior, 1) := dk_128 (dk_at dksX0_laysWaits_1 19 rfl rfl)
theorem dX0_laysWaits_44 : decode cX0_laysWaits 44 = .ok (.istore_n 1, 1) := dk_60 (dk_at dksX0_laysWaits_1 20 rfl rfl)
theorem dX0_laysWaits_45 : decode cX0_laysWaits 45 = .ok (.iinc 2 1, 3) := dk_132 2 1 (dk_at dksX0_laysWaits_1 21 rfl rfl)
theorem dX0_laysWaits_48 : decode cX0_laysWaits 48 = .ok (.goto (-44), 3) := dk_167 255 212 (dk_at dksX0_laysWaits_2 0 rfl rfl)
theorem dX0_laysWaits_51 : decode cX0_laysWaits 51 = .ok (.iconst 0, 1) := dk_3 (dk_at dksX0_laysWaits_2 3 rfl rfl)
theorem dX0_laysWaits_52 : decode cX0_laysWaits 52 = .ok (.istore_n 2, 1) := dk_61 (dk_at dksX0_laysWaits_2 4 rfl rfl)
theorem dX0_laysWaits_53 : decode cX0_laysWaits 53 = .ok (.iload_n 2, 1) := dk_28 (dk_at dksX0_laysWaits_2 5 rfl rfl)
theorem dX0_laysWaits_54 : decode cX0_laysWaits 54 = .ok (.iconst 1, 1) := dk_4 (dk_at dksX0_laysWaits_2 6 rfl rfl)
theorem dX0_laysWaits_55 : decode cX0_laysWaits 55 = .ok (.aload_n 0, 1) := dk_42 (dk_at dksX0_laysWaits_2 7 rfl rfl)
theorem dX0_laysWaits_56 : decode cX0_laysWaits 56 = .ok (.invokevirtual 173, 3) := dk_182 0 173 (dk_at dksX0_laysWaits_2 8 rfl rfl)
theorem dX0_laysWaits_59 : decode cX0_laysWaits 59 = .ok (.ishl, 1) := dk_120 (dk_at dksX0_laysWaits_2 11 rfl rfl)
theorem dX0_laysWaits_60 : decode cX0_laysWaits 60 = .ok (.if_icmp .ge 81, 3) := dk_162 0 81 (dk_at dksX0_laysWaits_2 12 rfl rfl)
theorem dX0_laysWaits_63 : decode cX0_laysWaits 63 = .ok (.aload_n 0, 1) := dk_42 (dk_at dksX0_laysWaits_2 15 rfl rfl)
theorem dX0_laysWaits_64 : decode cX0_laysWaits 64 = .ok (.getfield 106, 3) := dk_180 0 106 (dk_at dksX0_laysWaits_2 16 rfl rfl)
theorem dX0_laysWaits_67 : decode cX0_laysWaits 67 = .ok (.iload_n 2, 1) := dk_28 (dk_at dksX0_laysWaits_2 19 rfl rfl)
theorem dX0_laysWaits_68 : decode cX0_laysWaits 68 = .ok (.iload_n 2, 1) := dk_28 (dk_at dksX0_laysWaits_2 20 rfl rfl)
theorem dX0_laysWaits_69 : decode cX0_laysWaits 69 = .ok (.ifCond .ne 7, 3) := dk_154 0 7 (dk_at dksX0_laysWaits_2 21 rfl rfl)
theorem dX0_laysWaits_72 : decode cX0_laysWaits 72 = .ok (.iconst 1, 1) := dk_4 (dk_at dksX0_laysWaits_3 0 rfl rfl)
theorem dX0_laysWaits_73 : decode cX0_laysWaits 73 = .ok (.goto 4, 3) := dk_167 0 4 (dk_at dksX0_laysWaits_3 1 rfl rfl)
theorem dX0_laysWaits_76 : decode cX0_laysWaits 76 = .ok (.iconst 0, 1) := dk_3 (dk_at dksX0_laysWaits_3 4 rfl rfl)
theorem dX0_laysWaits_77 : decode cX0_laysWaits 77 = .ok (.iastore, 1) := dk_79 (dk_at dksX0_laysWaits_3 5 rfl rfl)
theorem dX0_laysWaits_78 : decode cX0_laysWaits 78 = .ok (.iconst 0, 1) := dk_3 (dk_at dksX0_laysWaits_3 6 rfl rfl)
theorem dX0_laysWaits_79 : decode cX0_laysWaits 79 = .ok (.istore_n 3, 1) := dk_62 (dk_at dksX0_laysWaits_3 7 rfl rfl)
theorem dX0_laysWaits_80 : decode cX0_laysWaits 80 = .ok (.iload_n 3, 1) := dk_29 (dk_at dksX0_laysWaits_3 8 rfl rfl)
theorem dX0_laysWaits_81 : decode cX0_laysWaits 81 = .ok (.aload_n 0, 1) := dk_42 (dk_at dksX0_laysWaits_3 9 rfl rfl)
theorem dX0_laysWaits_82 : decode cX0_laysWaits 82 = .ok (.invokevirtual 173, 3) := dk_182 0 173 (dk_at dksX0_laysWaits_3 10 rfl rfl)
theorem dX0_laysWaits_85 : decode cX0_laysWaits 85 = .ok (.if_icmp .ge 50, 3) := dk_162 0 50 (dk_at dksX0_laysWaits_3 13 rfl rfl)
theorem dX0_laysWaits_88 : decode cX0_laysWaits 88 = .ok (.iload_n 2, 1) := dk_28 (dk_at dksX0_laysWaits_3 16 rfl rfl)
theorem dX0_laysWaits_89 : decode cX0_laysWaits 89 = .ok (.iload_n 3, 1) := dk_29 (dk_at dksX0_laysWaits_3 17 rfl rfl)
theorem dX0_laysWaits_90 : decode cX0_laysWaits 90 = .ok (.ishr, 1) := dk_122 (dk_at dksX0_laysWaits_3 18 rfl rfl)
theorem dX0_laysWaits_91 : decode cX0_laysWaits 91 = .ok (.iconst 1, 1) := dk_4 (dk_at dksX0_laysWaits_3 19 rfl rfl)
theorem dX0_laysWaits_92 : decode cX0_laysWaits 92 = .ok (.iand, 1) := dk_126 (dk_at dksX0_laysWaits_3 20 rfl rfl)
theorem dX0_laysWaits_93 : decode cX0_laysWaits 93 = .ok (.iconst 1, 1) := dk_4 (dk_at dksX0_laysWaits_3 21 rfl rfl)
theorem dX0_laysWaits_94 : decode cX0_laysWaits 94 = .ok (.if_icmp .ne 35, 3) := dk_160 0 35 (dk_at dksX0_laysWaits_4 0 rfl rfl)
theorem dX0_laysWaits_97 : decode cX0_laysWaits 97 = .ok (.aload_n 0, 1) := dk_42 (dk_at dksX0_laysWaits_4 3 rfl rfl)
theorem dX0_laysWaits_98 : decode cX0_laysWaits 98 = .ok (.getfield 102, 3) := dk_180 0 102 (dk_at dksX0_laysWaits_4 4 rfl rfl)
theorem dX0_laysWaits_101 : decode cX0_laysWaits 101 = .ok (.iload_n 3, 1) := dk_29 (dk_at dksX0_laysWaits_4 7 rfl rfl)
theorem dX0_laysWaits_102 : decode cX0_laysWaits 102 = .ok (.iaload, 1) := dk_46 (dk_at dksX0_laysWaits_4 8 rfl rfl)
theorem dX0_laysWaits_103 : decode cX0_laysWaits 103 = .ok (.iload_n 2, 1) := dk_28 (dk_at dksX0_laysWaits_4 9 rfl rfl)
theorem dX0_laysWaits_104 : decode cX0_laysWaits 104 = .ok (.iand, 1) := dk_126 (dk_at dksX0_laysWaits_4 10 rfl rfl)
theorem dX0_laysWaits_105 : decode cX0_laysWaits 105 = .ok (.ifCond .ne 24, 3) := dk_154 0 24 (dk_at dksX0_laysWaits_4 11 rfl rfl)
theorem dX0_laysWaits_108 : decode cX0_laysWaits 108 = .ok (.aload_n 0, 1) := dk_42 (dk_at dksX0_laysWaits_4 14 rfl rfl)
theorem dX0_laysWaits_109 : decode cX0_laysWaits 109 = .ok (.getfield 106, 3) := dk_180 0 106 (dk_at dksX0_laysWaits_4 15 rfl rfl)
theorem dX0_laysWaits_112 : decode cX0_laysWaits 112 = .ok (.iload_n 2, 1) := dk_28 (dk_at dksX0_laysWaits_4 18 rfl rfl)
theorem dX0_laysWaits_113 : decode cX0_laysWaits 113 = .ok (.dup2, 1) := dk_92 (dk_at dksX0_laysWaits_4 19 rfl rfl)
theorem dX0_laysWaits_114 : decode cX0_laysWaits 114 = .ok (.iaload, 1) := dk_46 (dk_at dksX0_laysWaits_4 20 rfl rfl)
theorem dX0_laysWaits_115 : decode cX0_laysWaits 115 = .ok (.aload_n 0, 1) := dk_42 (dk_at dksX0_laysWaits_4 21 rfl rfl)
theorem dX0_laysWaits_116 : decode cX0_laysWaits 116 = .ok (.getfield 106, 3) := dk_180 0 106 (dk_at dksX0_laysWaits_5 0 rfl rfl)
theorem dX0_laysWaits_119 : decode cX0_laysWaits 119 = .ok (.iload_n 2, 1) := dk_28 (dk_at dksX0_laysWaits_5 3 rfl rfl)
theorem dX0_laysWaits_120 : decode cX0_laysWaits 120 = .ok (.iconst 1, 1) := dk_4 (dk_at dksX0_laysWaits_5 4 rfl rfl)
theorem dX0_laysWaits_121 : decode cX0_laysWaits 121 = .ok (.iload_n 3, 1) := dk_29 (dk_at dksX0_laysWaits_5 5 rfl rfl)
theorem dX0_laysWaits_122 : decode cX0_laysWaits 122 = .ok (.ishl, 1) := dk_120 (dk_at dksX0_laysWaits_5 6 rfl rfl)
theorem dX0_laysWaits_123 : decode cX0_laysWaits 123 = .ok (.iconst (-1), 1) := dk_2 (dk_at dksX0_laysWaits_5 7 rfl rfl)
theorem dX0_laysWaits_124 : decode cX0_laysWaits 124 = .ok (.ixor, 1) := dk_130 (dk_at dksX0_laysWaits_5 8 rfl rfl)
theorem dX0_laysWaits_125 : decode cX0_laysWaits 125 = .ok (.iand, 1) := dk_126 (dk_at dksX0_laysWaits_5 9 rfl rfl)
theorem dX0_laysWaits_126 : decode cX0_laysWaits 126 = .ok (.iaload, 1) := dk_46 (dk_at dksX0_laysWaits_5 10 rfl rfl)
theorem dX0_laysWaits_127 : decode cX0_laysWaits 127 = .ok (.iadd, 1) := dk_96 (dk_at dksX0_laysWaits_5 11 rfl rfl)
theorem dX0_laysWaits_128 : decode cX0_laysWaits 128 = .ok (.iastore, 1) := dk_79 (dk_at dksX0_laysWaits_5 12 rfl rfl)
theorem dX0_laysWaits_129 : decode cX0_laysWaits 129 = .ok (.iinc 3 1, 3) := dk_132 3 1 (dk_at dksX0_laysWaits_5 13 rfl rfl)
theorem dX0_laysWaits_132 : decode cX0_laysWaits 132 = .ok (.goto (-52), 3) := dk_167 255 204 (dk_at dksX0_laysWaits_5 16 rfl rfl)
theorem dX0_laysWaits_135 : decode cX0_laysWaits 135 = .ok (.iinc 2 1, 3) := dk_132 2 1 (dk_at dksX0_laysWaits_5 19 rfl rfl)
theorem dX0_laysWaits_138 : decode cX0_laysWaits 138 = .ok (.goto (-85), 3) := dk_167 255 171 (dk_at dksX0_laysWaits_6 0 rfl rfl)
theorem dX0_laysWaits_141 : decode cX0_laysWaits 141 = .ok (.iload_n 1, 1) := dk_27 (dk_at dksX0_laysWaits_6 3 rfl rfl)
theorem dX0_laysWaits_142 : decode cX0_laysWaits 142 = .ok (.ireturn, 1) := dk_172 (dk_at dksX0_laysWaits_6 4 rfl rfl)
abbrev cX0_orderAt : ByteArray := prog_1_method_29_code
def yX0_orderAt : MethodName := ⟨RX0, "orderAt", "(I)I"⟩
def dkwX0_orderAt_4 : List UInt8 := [167, 255, 186, 2, 172]
abbrev dktX0_orderAt_4 : List UInt8 := dkwX0_orderAt_4 ++ []
def dkwX0_orderAt_3 : List UInt8 := [167, 255, 216, 29, 27, 160, 0, 6, 21, 4, 172, 28, 4, 21, 4, 120, 2, 130, 126, 61, 132, 3, 1]
abbrev dktX0_orderAt_3 : List UInt8 := dkwX0_orderAt_3 ++ dktX0_orderAt_4
def dkwX0_orderAt_2 : List UInt8 := [28, 126, 154, 0, 19, 42, 180, 0, 106, 28, 4, 21, 4, 120, 2, 130, 126, 46, 154, 0, 9, 132, 4, 1]
abbrev dktX0_orderAt_2 : List UInt8 := dkwX0_orderAt_2 ++ dktX0_orderAt_3
def dkwX0_orderAt_1 : List UInt8 := [172, 28, 153, 0, 72, 3, 54, 4, 28, 21, 4, 122, 4, 126, 153, 0, 31, 42, 180, 0, 102, 21, 4, 46]
abbrev dktX0_orderAt_1 : List UInt8 := dkwX0_orderAt_1 ++ dktX0_orderAt_2
def dkwX0_orderAt_0 : List UInt8 := [27, 156, 0, 5, 2, 172, 42, 182, 1, 4, 61, 3, 62, 42, 180, 0, 106, 28, 46, 154, 0, 6, 16, 254]
abbrev dktX0_orderAt_0 : List UInt8 := dkwX0_orderAt_0 ++ dktX0_orderAt_1
theorem dksX0_orderAt_0 : cX0_orderAt.data.toList.drop 0 = dktX0_orderAt_0 := by decide +kernel
theorem dksX0_orderAt_1 : cX0_orderAt.data.toList.drop 24 = dktX0_orderAt_1 := dk_seg dksX0_orderAt_0 24 rfl rfl
theorem dksX0_orderAt_2 : cX0_orderAt.data.toList.drop 48 = dktX0_orderAt_2 := dk_seg dksX0_orderAt_1 24 rfl rfl
theorem dksX0_orderAt_3 : cX0_orderAt.data.toList.drop 72 = dktX0_orderAt_3 := dk_seg dksX0_orderAt_2 24 rfl rfl
theorem dksX0_orderAt_4 : cX0_orderAt.data.toList.drop 95 = dktX0_orderAt_4 := dk_seg dksX0_orderAt_3 23 rfl rfl
theorem dX0_orderAt_0 : decode cX0_orderAt 0 = .ok (.iload_n 1, 1) := dk_27 (dk_at dksX0_orderAt_0 0 rfl rfl)
theorem dX0_orderAt_1 : decode cX0_orderAt 1 = .ok (.ifCond .ge 5, 3) := dk_156 0 5 (dk_at dksX0_orderAt_0 1 rfl rfl)
theorem dX0_orderAt_4 : decode cX0_orderAt 4 = .ok (.iconst (-1), 1) := dk_2 (dk_at dksX0_orderAt_0 4 rfl rfl)
theorem dX0_orderAt_5 : decode cX0_orderAt 5 = .ok (.ireturn, 1) := dk_172 (dk_at dksX0_orderAt_0 5 rfl rfl)
theorem dX0_orderAt_6 : decode cX0_orderAt 6 = .ok (.aload_n 0, 1) := dk_42 (dk_at dksX0_orderAt_0 6 rfl rfl)
theorem dX0_orderAt_7 : decode cX0_orderAt 7 = .ok (.invokevirtual 260, 3) := dk_182 1 4 (dk_at dksX0_orderAt_0 7 rfl rfl)
theorem dX0_orderAt_10 : decode cX0_orderAt 10 = .ok (.istore_n 2, 1) := dk_61 (dk_at dksX0_orderAt_0 10 rfl rfl)
theorem dX0_orderAt_11 : decode cX0_orderAt 11 = .ok (.iconst 0, 1) := dk_3 (dk_at dksX0_orderAt_0 11 rfl rfl)
theorem dX0_orderAt_12 : decode cX0_orderAt 12 = .ok (.istore_n 3, 1) := dk_62 (dk_at dksX0_orderAt_0 12 rfl rfl)
theorem dX0_orderAt_13 : decode cX0_orderAt 13 = .ok (.aload_n 0, 1) := dk_42 (dk_at dksX0_orderAt_0 13 rfl rfl)
theorem dX0_orderAt_14 : decode cX0_orderAt 14 = .ok (.getfield 106, 3) := dk_180 0 106 (dk_at dksX0_orderAt_0 14 rfl rfl)
theorem dX0_orderAt_17 : decode cX0_orderAt 17 = .ok (.iload_n 2, 1) := dk_28 (dk_at dksX0_orderAt_0 17 rfl rfl)
theorem dX0_orderAt_18 : decode cX0_orderAt 18 = .ok (.iaload, 1) := dk_46 (dk_at dksX0_orderAt_0 18 rfl rfl)
theorem dX0_orderAt_19 : decode cX0_orderAt 19 = .ok (.ifCond .ne 6, 3) := dk_154 0 6 (dk_at dksX0_orderAt_0 19 rfl rfl)
theorem dX0_orderAt_22 : decode cX0_orderAt 22 = .ok (.bipush (-2), 2) := dk_16 254 (dk_at dksX0_orderAt_0 22 rfl rfl)
theorem dX0_orderAt_24 : decode cX0_orderAt 24 = .ok (.ireturn, 1) := dk_172 (dk_at dksX0_orderAt_1 0 rfl rfl)
theorem dX0_orderAt_25 : decode cX0_orderAt 25 = .ok (.iload_n 2, 1) := dk_28 (dk_at dksX0_orderAt_1 1 rfl rfl)
theorem dX0_orderAt_26 : decode cX0_orderAt 26 = .ok (.ifCond .eq 72, 3) := dk_153 0 72 (dk_at dksX0_orderAt_1 2 rfl rfl)
theorem dX0_orderAt_29 : decode cX0_orderAt 29 = .ok (.iconst 0, 1) := dk_3 (dk_at dksX0_orderAt_1 5 rfl rfl)
theorem dX0_orderAt_30 : decode cX0_orderAt 30 = .ok (.istore 4, 2) := dk_54 4 (dk_at dksX0_orderAt_1 6 rfl rfl)
theorem dX0_orderAt_32 : decode cX0_orderAt 32 = .ok (.iload_n 2, 1) := dk_28 (dk_at dksX0_orderAt_1 8 rfl rfl)
theorem dX0_orderAt_33 : decode cX0_orderAt 33 = .ok (.iload 4, 2) := dk_21 4 (dk_at dksX0_orderAt_1 9 rfl rfl)
theorem dX0_orderAt_35 : decode cX0_orderAt 35 = .ok (.ishr, 1) := dk_122 (dk_at dksX0_orderAt_1 11 rfl rfl)
theorem dX0_orderAt_36 : decode cX0_orderAt 36 = .ok (.iconst 1, 1) := dk_4 (dk_at dksX0_orderAt_1 12 rfl rfl)
theorem dX0_orderAt_37 : decode cX0_orderAt 37 = .ok (.iand, 1) := dk_126 (dk_at dksX0_orderAt_1 13 rfl rfl)
theorem dX0_orderAt_38 : decode cX0_orderAt 38 = .ok (.ifCond .eq 31, 3) := dk_153 0 31 (dk_at dksX0_orderAt_1 14 rfl rfl)
theorem dX0_orderAt_41 : decode cX0_orderAt 41 = .ok (.aload_n 0, 1) := dk_42 (dk_at dksX0_orderAt_1 17 rfl rfl)
theorem dX0_orderAt_42 : decode cX0_orderAt 42 = .ok (.getfield 102, 3) := dk_180 0 102 (dk_at dksX0_orderAt_1 18 rfl rfl)
theorem dX0_orderAt_45 : decode cX0_orderAt 45 = .ok (.iload 4, 2) := dk_21 4 (dk_at dksX0_orderAt_1 21 rfl rfl)
theorem dX0_orderAt_47 : decode cX0_orderAt 47 = .ok (.iaload, 1) := dk_46 (dk_at dksX0_orderAt_1 23 rfl rfl)
theorem dX0_orderAt_48 : decode cX0_orderAt 48 = .ok (.iload_n 2, 1) := dk_28 (dk_at dksX0_orderAt_2 0 rfl rfl)
theorem dX0_orderAt_49 : decode cX0_orderAt 49 = .ok (.iand, 1) := dk_126 (dk_at dksX0_orderAt_2 1 rfl rfl)
theorem dX0_orderAt_50 : decode cX0_orderAt 50 = .ok (.ifCond .ne 19, 3) := dk_154 0 19 (dk_at dksX0_orderAt_2 2 rfl rfl)
theorem dX0_orderAt_53 : decode cX0_orderAt 53 = .ok (.aload_n 0, 1) := dk_42 (dk_at dksX0_orderAt_2 5 rfl rfl)
theorem dX0_orderAt_54 : decode cX0_orderAt 54 = .ok (.getfield 106, 3) := dk_180 0 106 (dk_at dksX0_orderAt_2 6 rfl rfl)
theorem dX0_orderAt_57 : decode cX0_orderAt 57 = .ok (.iload_n 2, 1) := dk_28 (dk_at dksX0_orderAt_2 9 rfl rfl)
theorem dX0_orderAt_58 : decode cX0_orderAt 58 = .ok (.iconst 1, 1) := dk_4 (dk_at dksX0_orderAt_2 10 rfl rfl)
theorem dX0_orderAt_59 : decode cX0_orderAt 59 = .ok (.iload 4, 2) := dk_21 4 (dk_at dksX0_orderAt_2 11 rfl rfl)
theorem dX0_orderAt_61 : decode cX0_orderAt 61 = .ok (.ishl, 1) := dk_120 (dk_at dksX0_orderAt_2 13 rfl rfl)
theorem dX0_orderAt_62 : decode cX0_orderAt 62 = .ok (.iconst (-1), 1) := dk_2 (dk_at dksX0_orderAt_2 14 rfl rfl)
theorem dX0_orderAt_63 : decode cX0_orderAt 63 = .ok (.ixor, 1) := dk_130 (dk_at dksX0_orderAt_2 15 rfl rfl)
theorem dX0_orderAt_64 : decode cX0_orderAt 64 = .ok (.iand, 1) := dk_126 (dk_at dksX0_orderAt_2 16 rfl rfl)
theorem dX0_orderAt_65 : decode cX0_orderAt 65 = .ok (.iaload, 1) := dk_46 (dk_at dksX0_orderAt_2 17 rfl rfl)
theorem dX0_orderAt_66 : decode cX0_orderAt 66 = .ok (.ifCond .ne 9, 3) := dk_154 0 9 (dk_at dksX0_orderAt_2 18 rfl rfl)
theorem dX0_orderAt_69 : decode cX0_orderAt 69 = .ok (.iinc 4 1, 3) := dk_132 4 1 (dk_at dksX0_orderAt_2 21 rfl rfl)
theorem dX0_orderAt_72 : decode cX0_orderAt 72 = .ok (.goto (-40), 3) := dk_167 255 216 (dk_at dksX0_orderAt_3 0 rfl rfl)
theorem dX0_orderAt_75 : decode cX0_orderAt 75 = .ok (.iload_n 3, 1) := dk_29 (dk_at dksX0_orderAt_3 3 rfl rfl)
theorem dX0_orderAt_76 : decode cX0_orderAt 76 = .ok (.iload_n 1, 1) := dk_27 (dk_at dksX0_orderAt_3 4 rfl rfl)
theorem dX0_orderAt_77 : decode cX0_orderAt 77 = .ok (.if_icmp .ne 6, 3) := dk_160 0 6 (dk_at dksX0_orderAt_3 5 rfl rfl)
theorem dX0_orderAt_80 : decode cX0_orderAt 80 = .ok (.iload 4, 2) := dk_21 4 (dk_at dksX0_orderAt_3 8 rfl rfl)
theorem dX0_orderAt_82 : decode cX0_orderAt 82 = .ok (.ireturn, 1) := dk_172 (dk_at dksX0_orderAt_3 10 rfl rfl)
theorem dX0_orderAt_83 : decode cX0_orderAt 83 = .ok (.iload_n 2, 1) := dk_28 (dk_at dksX0_orderAt_3 11 rfl rfl)
theorem dX0_orderAt_84 : decode cX0_orderAt 84 = .ok (.iconst 1, 1) := dk_4 (dk_at dksX0_orderAt_3 12 rfl rfl)
theorem dX0_orderAt_85 : decode cX0_orderAt 85 = .ok (.iload 4, 2) := dk_21 4 (dk_at dksX0_orderAt_3 13 rfl rfl)
theorem dX0_orderAt_87 : decode cX0_orderAt 87 = .ok (.ishl, 1) := dk_120 (dk_at dksX0_orderAt_3 15 rfl rfl)
theorem dX0_orderAt_88 : decode cX0_orderAt 88 = .ok (.iconst (-1), 1) := dk_2 (dk_at dksX0_orderAt_3 16 rfl rfl)
theorem dX0_orderAt_89 : decode cX0_orderAt 89 = .ok (.ixor, 1) := dk_130 (dk_at dksX0_orderAt_3 17 rfl rfl)
theorem dX0_orderAt_90 : decode cX0_orderAt 90 = .ok (.iand, 1) := dk_126 (dk_at dksX0_orderAt_3 18 rfl rfl)
theorem dX0_orderAt_91 : decode cX0_orderAt 91 = .ok (.istore_n 2, 1) := dk_61 (dk_at dksX0_orderAt_3 19 rfl rfl)
theorem dX0_orderAt_92 : decode cX0_orderAt 92 = .ok (.iinc 3 1, 3) := dk_132 3 1 (dk_at dksX0_orderAt_3 20 rfl rfl)
theorem dX0_orderAt_95 : decode cX0_orderAt 95 = .ok (.goto (-70), 3) := dk_167 255 186 (dk_at dksX0_orderAt_4 0 rfl rfl)
theorem dX0_orderAt_98 : decode cX0_orderAt 98 = .ok (.iconst (-1), 1) := dk_2 (dk_at dksX0_orderAt_4 3 rfl rfl)
theorem dX0_orderAt_99 : decode cX0_orderAt 99 = .ok (.ireturn, 1) := dk_172 (dk_at dksX0_orderAt_4 4 rfl rfl)
abbrev cX0_cuts : ByteArray := prog_1_method_32_code
def yX0_cuts : MethodName := ⟨RX0, "cuts", "(I)I"⟩
def dkwX0_cuts_1 : List UInt8 := [167, 0, 17, 27, 4, 160, 0, 11, 42, 28, 182, 1, 12, 167, 0, 4, 28, 172]
abbrev dktX0_cuts_1 : List UInt8 := dkwX0_cuts_1 ++ []
def dkwX0_cuts_0 : List UInt8 := [27, 3, 5, 184, 0, 175, 154, 0, 5, 2, 172, 42, 182, 1, 15, 61, 27, 154, 0, 10, 28, 184, 1, 7]
abbrev dktX0_cuts_0 : List UInt8 := dkwX0_cuts_0 ++ dktX0_cuts_1
theorem dksX0_cuts_0 : cX0_cuts.data.toList.drop 0 = dktX0_cuts_0 := by decide +kernel
theorem dksX0_cuts_1 : cX0_cuts.data.toList.drop 24 = dktX0_cuts_1 := dk_seg dksX0_cuts_0 24 rfl rfl
theorem dX0_cuts_0 : decode cX0_cuts 0 = .ok (.iload_n 1, 1) := dk_27 (dk_at dksX0_cuts_0 0 rfl rfl)
theorem dX0_cuts_1 : decode cX0_cuts 1 = .ok (.iconst 0, 1) := dk_3 (dk_at dksX0_cuts_0 1 rfl rfl)
theorem dX0_cuts_2 : decode cX0_cuts 2 = .ok (.iconst 2, 1) := dk_5 (dk_at dksX0_cuts_0 2 rfl rfl)
theorem dX0_cuts_3 : decode cX0_cuts 3 = .ok (.invokestatic 175, 3) := dk_184 0 175 (dk_at dksX0_cuts_0 3 rfl rfl)
theorem dX0_cuts_6 : decode cX0_cuts 6 = .ok (.ifCond .ne 5, 3) := dk_154 0 5 (dk_at dksX0_cuts_0 6 rfl rfl)
theorem dX0_cuts_9 : decode cX0_cuts 9 = .ok (.iconst (-1), 1) := dk_2 (dk_at dksX0_cuts_0 9 rfl rfl)
theorem dX0_cuts_10 : decode cX0_cuts 10 = .ok (.ireturn, 1) := dk_172 (dk_at dksX0_cuts_0 10 rfl rfl)
theorem dX0_cuts_11 : decode cX0_cuts 11 = .ok (.aload_n 0, 1) := dk_42 (dk_at dksX0_cuts_0 11 rfl rfl)
theorem dX0_cuts_12 : decode cX0_cuts 12 = .ok (.invokevirtual 271, 3) := dk_182 1 15 (dk_at dksX0_cuts_0 12 rfl rfl)
theorem dX0_cuts_15 : decode cX0_cuts 15 = .ok (.istore_n 2, 1) := dk_61 (dk_at dksX0_cuts_0 15 rfl rfl)
theorem dX0_cuts_16 : decode cX0_cuts 16 = .ok (.iload_n 1, 1) := dk_27 (dk_at dksX0_cuts_0 16 rfl rfl)
theorem dX0_cuts_17 : decode cX0_cuts 17 = .ok (.ifCond .ne 10, 3) := dk_154 0 10 (dk_at dksX0_cuts_0 17 rfl rfl)
theorem dX0_cuts_20 : decode cX0_cuts 20 = .ok (.iload_n 2, 1) := dk_28 (dk_at dksX0_cuts_0 20 rfl rfl)
theorem dX0_cuts_21 : decode cX0_cuts 21 = .ok (.invokestatic 263, 3) := dk_184 1 7 (dk_at dksX0_cuts_0 21 rfl rfl)
theorem dX0_cuts_24 : decode cX0_cuts 24 = .ok (.goto 17, 3) := dk_167 0 17 (dk_at dksX0_cuts_1 0 rfl rfl)
theorem dX0_cuts_27 : decode cX0_cuts 27 = .ok (.iload_n 1, 1) := dk_27 (dk_at dksX0_cuts_1 3 rfl rfl)
theorem dX0_cuts_28 : decode cX0_cuts 28 = .ok (.iconst 1, 1) := dk_4 (dk_at dksX0_cuts_1 4 rfl rfl)
theorem dX0_cuts_29 : decode cX0_cuts 29 = .ok (.if_icmp .ne 11, 3) := dk_160 0 11 (dk_at dksX0_cuts_1 5 rfl rfl)
theorem dX0_cuts_32 : decode cX0_cuts 32 = .ok (.aload_n 0, 1) := dk_42 (dk_at dksX0_cuts_1 8 rfl rfl)
theorem dX0_cuts_33 : decode cX0_cuts 33 = .ok (.iload_n 2, 1) := dk_28 (dk_at dksX0_cuts_1 9 rfl rfl)
theorem dX0_cuts_34 : decode cX0_cuts 34 = .ok (.invokevirtual 268, 3) := dk_182 1 12 (dk_at dksX0_cuts_1 10 rfl rfl)
theorem dX0_cuts_37 : decode cX0_cuts 37 = .ok (.goto 4, 3) := dk_167 0 4 (dk_at dksX0_cuts_1 13 rfl rfl)
theorem dX0_cuts_40 : decode cX0_cuts 40 = .ok (.iload_n 2, 1) := dk_28 (dk_at dksX0_cuts_1 16 rfl rfl)
theorem dX0_cuts_41 : decode cX0_cuts 41 = .ok (.ireturn, 1) := dk_172 (dk_at dksX0_cuts_1 17 rfl rfl)
abbrev cX0_leastCut : ByteArray := prog_1_method_31_code
def yX0_leastCut : MethodName := ⟨RX0, "leastCut", "()I"⟩
def dkwX0_leastCut_4 : List UInt8 := [29, 28, 162, 0, 5, 29, 61, 132, 3, 1, 167, 255, 160, 28, 172]
abbrev dktX0_leastCut_4 : List UInt8 := dkwX0_leastCut_4 ++ []
def dkwX0_leastCut_3 : List UInt8 := [182, 1, 12, 42, 28, 182, 1, 12, 161, 0, 21, 42, 29, 182, 1, 12, 42, 28, 182, 1, 12, 160, 0, 10]
abbrev dktX0_leastCut_3 : List UInt8 := dkwX0_leastCut_3 ++ dktX0_leastCut_4
def dkwX0_leastCut_2 : List UInt8 := [54, 4, 28, 184, 1, 7, 54, 5, 21, 4, 21, 5, 161, 0, 41, 21, 4, 21, 5, 160, 0, 36, 42, 29]
abbrev dktX0_leastCut_2 : List UInt8 := dkwX0_leastCut_2 ++ dktX0_leastCut_3
def dkwX0_leastCut_1 : List UInt8 := [154, 0, 78, 42, 180, 0, 106, 27, 29, 2, 130, 126, 46, 154, 0, 6, 167, 0, 62, 29, 184, 1, 7]
abbrev dktX0_leastCut_1 : List UInt8 := dkwX0_leastCut_1 ++ dktX0_leastCut_2
def dkwX0_leastCut_0 : List UInt8 := [42, 182, 1, 4, 60, 27, 61, 3, 62, 29, 4, 42, 182, 0, 173, 120, 162, 0, 92, 29, 27, 2, 130, 126]
abbrev dktX0_leastCut_0 : List UInt8 := dkwX0_leastCut_0 ++ dktX0_leastCut_1
theorem dksX0_leastCut_0 : cX0_leastCut.data.toList.drop 0 = dktX0_leastCut_0 := by decide +kernel
theorem dksX0_leastCut_1 : cX0_leastCut.data.toList.drop 24 = dktX0_leastCut_1 := dk_seg dksX0_leastCut_0 24 rfl rfl
theorem dksX0_leastCut_2 : cX0_leastCut.data.toList.drop 47 = dktX0_leastCut_2 := dk_seg dksX0_leastCut_1 23 rfl rfl
theorem dksX0_leastCut_3 : cX0_leastCut.data.toList.drop 71 = dktX0_leastCut_3 := dk_seg dksX0_leastCut_2 24 rfl rfl
theorem dksX0_leastCut_4 : cX0_leastCut.data.toList.drop 95 = dktX0_leastCut_4 := dk_seg dksX0_leastCut_3 24 rfl rfl
theorem dX0_leastCut_0 : decode cX0_leastCut 0 = .ok (.aload_n 0, 1) := dk_42 (dk_at dksX0_leastCut_0 0 rfl rfl)
theorem dX0_leastCut_1 : decode cX0_leastCut 1 = .ok (.invokevirtual 260, 3) := dk_182 1 4 (dk_at dksX0_leastCut_0 1 rfl rfl)
theorem dX0_leastCut_4 : decode cX0_leastCut 4 = .ok (.istore_n 1, 1) := dk_60 (dk_at dksX0_leastCut_0 4 rfl rfl)
theorem dX0_leastCut_5 : decode cX0_leastCut 5 = .ok (.iload_n 1, 1) := dk_27 (dk_at dksX0_leastCut_0 5 rfl rfl)
theorem dX0_leastCut_6 : decode cX0_leastCut 6 = .ok (.istore_n 2, 1) := dk_61 (dk_at dksX0_leastCut_0 6 rfl rfl)
theorem dX0_leastCut_7 : decode cX0_leastCut 7 = .ok (.iconst 0, 1) := dk_3 (dk_at dksX0_leastCut_0 7 rfl rfl)
theorem dX0_leastCut_8 : decode cX0_leastCut 8 = .ok (.istore_n 3, 1) := dk_62 (dk_at dksX0_leastCut_0 8 rfl rfl)
theorem dX0_leastCut_9 : decode cX0_leastCut 9 = .ok (.iload_n 3, 1) := dk_29 (dk_at dksX0_leastCut_0 9 rfl rfl)
theorem dX0_leastCut_10 : decode cX0_leastCut 10 = .ok (.iconst 1, 1) := dk_4 (dk_at dksX0_leastCut_0 10 rfl rfl)
theorem dX0_leastCut_11 : decode cX0_leastCut 11 = .ok (.aload_n 0, 1) := dk_42 (dk_at dksX0_leastCut_0 11 rfl rfl)
theorem dX0_leastCut_12 : decode cX0_leastCut 12 = .ok (.invokevirtual 173, 3) := dk_182 0 173 (dk_at dksX0_leastCut_0 12 rfl rfl)
theorem dX0_leastCut_15 : decode cX0_leastCut 15 = .ok (.ishl, 1) := dk_120 (dk_at dksX0_leastCut_0 15 rfl rfl)
theorem dX0_leastCut_16 : decode cX0_leastCut 16 = .ok (.if_icmp .ge 92, 3) := dk_162 0 92 (dk_at dksX0_leastCut_0 16 rfl rfl)
theorem dX0_leastCut_19 : decode cX0_leastCut 19 = .ok (.iload_n 3, 1) := dk_29 (dk_at dksX0_leastCut_0 19 rfl rfl)
theorem dX0_leastCut_20 : decode cX0_leastCut 20 = .ok (.iload_n 1, 1) := dk_27 (dk_at dksX0_leastCut_0 20 rfl rfl)
theorem dX0_leastCut_21 : decode cX0_leastCut 21 = .ok (.iconst (-1), 1) := dk_2 (dk_at dksX0_leastCut_0 21 rfl rfl)
theorem dX0_leastCut_22 : decode cX0_leastCut 22 = .ok (.ixor, 1) := dk_130 (dk_at dksX0_leastCut_0 22 rfl rfl)
theorem dX0_leastCut_23 : decode cX0_leastCut 23 = .ok (.iand, 1) := dk_126 (dk_at dksX0_leastCut_0 23 rfl rfl)
theorem dX0_leastCut_24 : decode cX0_leastCut 24 = .ok (.ifCond .ne 78, 3) := dk_154 0 78 (dk_at dksX0_leastCut_1 0 rfl rfl)
theorem dX0_leastCut_27 : decode cX0_leastCut 27 = .ok (.aload_n 0, 1) := dk_42 (dk_at dksX0_leastCut_1 3 rfl rfl)
theorem dX0_leastCut_28 : decode cX0_leastCut 28 = .ok (.getfield 106, 3) := dk_180 0 106 (dk_at dksX0_leastCut_1 4 rfl rfl)
theorem dX0_leastCut_31 : decode cX0_leastCut 31 = .ok (.iload_n 1, 1) := dk_27 (dk_at dksX0_leastCut_1 7 rfl rfl)
theorem dX0_leastCut_32 : decode cX0_leastCut 32 = .ok (.iload_n 3, 1) := dk_29 (dk_at dksX0_leastCut_1 8 rfl rfl)
theorem dX0_leastCut_33 : decode cX0_leastCut 33 = .ok (.iconst (-1), 1) := dk_2 (dk_at dksX0_leastCut_1 9 rfl rfl)
theorem dX0_leastCut_34 : decode cX0_leastCut 34 = .ok (.ixor, 1) := dk_130 (dk_at dksX0_leastCut_1 10 rfl rfl)
theorem dX0_leastCut_35 : decode cX0_leastCut 35 = .ok (.iand, 1) := dk_126 (dk_at dksX0_leastCut_1 11 rfl rfl)
theorem dX0_leastCut_36 : decode cX0_leastCut 36 = .ok (.iaload, 1) := dk_46 (dk_at dksX0_leastCut_1 12 rfl rfl)
theorem dX0_leastCut_37 : decode cX0_leastCut 37 = .ok (.ifCond .ne 6, 3) := dk_154 0 6 (dk_at dksX0_leastCut_1 13 rfl rfl)
theorem dX0_leastCut_40 : decode cX0_leastCut 40 = .ok (.goto 62, 3) := dk_167 0 62 (dk_at dksX0_leastCut_1 16 rfl rfl)
theorem dX0_leastCut_43 : decode cX0_leastCut 43 = .ok (.iload_n 3, 1) := dk_29 (dk_at dksX0_leastCut_1 19 rfl rfl)
theorem dX0_leastCut_44 : decode cX0_leastCut 44 = .ok (.invokestatic 263, 3) := dk_184 1 7 (dk_at dksX0_leastCut_1 20 rfl rfl)
theorem dX0_leastCut_47 : decode cX0_leastCut 47 = .ok (.istore 4, 2) := dk_54 4 (dk_at dksX0_leastCut_2 0 rfl rfl)
theorem dX0_leastCut_49 : decode cX0_leastCut 49 = .ok (.iload_n 2, 1) := dk_28 (dk_at dksX0_leastCut_2 2 rfl rfl)
theorem dX0_leastCut_50 : decode cX0_leastCut 50 = .ok (.invokestatic 263, 3) := dk_184 1 7 (dk_at dksX0_leastCut_2 3 rfl rfl)
theorem dX0_leastCut_53 : decode cX0_leastCut 53 = .ok (.istore 5, 2) := dk_54 5 (dk_at dksX0_leastCut_2 6 rfl rfl)
theorem dX0_leastCut_55 : decode cX0_leastCut 55 = .ok (.iload 4, 2) := dk_21 4 (dk_at dksX0_leastCut_2 8 rfl rfl)
theorem dX0_leastCut_57 : decode cX0_leastCut 57 = .ok (.iload 5, 2) := dk_21 5 (dk_at dksX0_leastCut_2 10 rfl rfl)
theorem dX0_leastCut_59 : decode cX0_leastCut 59 = .ok (.if_icmp .lt 41, 3) := dk_161 0 41 (dk_at dksX0_leastCut_2 12 rfl rfl)
theorem dX0_leastCut_62 : decode cX0_leastCut 62 = .ok (.iload 4, 2) := dk_21 4 (dk_at dksX0_leastCut_2 15 rfl rfl)
theorem dX0_leastCut_64 : decode cX0_leastCut 64 = .ok (.iload 5, 2) := dk_21 5 (dk_at dksX0_leastCut_2 17 rfl rfl)
theorem dX0_leastCut_66 : decode cX0_leastCut 66 = .ok (.if_icmp .ne 36, 3) := dk_160 0 36 (dk_at dksX0_leastCut_2 19 rfl rfl)
theorem dX0_leastCut_69 : decode cX0_leastCut 69 = .ok (.aload_n 0, 1) := dk_42 (dk_at dksX0_leastCut_2 22 rfl rfl)
theorem dX0_leastCut_70 : decode cX0_leastCut 70 = .ok (.iload_n 3, 1) := dk_29 (dk_at dksX0_leastCut_2 23 rfl rfl)
theorem dX0_leastCut_71 : decode cX0_leastCut 71 = .ok (.invokevirtual 268, 3) := dk_182 1 12 (dk_at dksX0_leastCut_3 0 rfl rfl)
theorem dX0_leastCut_74 : decode cX0_leastCut 74 = .ok (.aload_n 0, 1) := dk_42 (dk_at dksX0_leastCut_3 3 rfl rfl)
theorem dX0_leastCut_75 : decode cX0_leastCut 75 = .ok (.iload_n 2, 1) := dk_28 (dk_at dksX0_leastCut_3 4 rfl rfl)
theorem dX0_leastCut_76 : decode cX0_leastCut 76 = .ok (.invokevirtual 268, 3) := dk_182 1 12 (dk_at dksX0_leastCut_3 5 rfl rfl)
theorem dX0_leastCut_79 : decode cX0_leastCut 79 = .ok (.if_icmp .lt 21, 3) := dk_161 0 21 (dk_at dksX0_leastCut_3 8 rfl rfl)
theorem dX0_leastCut_82 : decode cX0_leastCut 82 = .ok (.aload_n 0, 1) := dk_42 (dk_at dksX0_leastCut_3 11 rfl rfl)
theorem dX0_leastCut_83 : decode cX0_leastCut 83 = .ok (.iload_n 3, 1) := dk_29 (dk_at dksX0_leastCut_3 12 rfl rfl)
theorem dX0_leastCut_84 : decode cX0_leastCut 84 = .ok (.invokevirtual 268, 3) := dk_182 1 12 (dk_at dksX0_leastCut_3 13 rfl rfl)
theorem dX0_leastCut_87 : decode cX0_leastCut 87 = .ok (.aload_n 0, 1) := dk_42 (dk_at dksX0_leastCut_3 16 rfl rfl)
theorem dX0_leastCut_88 : decode cX0_leastCut 88 = .ok (.iload_n 2, 1) := dk_28 (dk_at dksX0_leastCut_3 17 rfl rfl)
theorem dX0_leastCut_89 : decode cX0_leastCut 89 = .ok (.invokevirtual 268, 3) := dk_182 1 12 (dk_at dksX0_leastCut_3 18 rfl rfl)
theorem dX0_leastCut_92 : decode cX0_leastCut 92 = .ok (.if_icmp .ne 10, 3) := dk_160 0 10 (dk_at dksX0_leastCut_3 21 rfl rfl)
theorem dX0_leastCut_95 : decode cX0_leastCut 95 = .ok (.iload_n 3, 1) := dk_29 (dk_at dksX0_leastCut_4 0 rfl rfl)
theorem dX0_leastCut_96 : decode cX0_leastCut 96 = .ok (.iload_n 2, 1) := dk_28 (dk_at dksX0_leastCut_4 1 rfl rfl)
theorem dX0_leastCut_97 : decode cX0_leastCut 97 = .ok (.if_icmp .ge 5, 3) := dk_162 0 5 (dk_at dksX0_leastCut_4 2 rfl rfl)
theorem dX0_leastCut_100 : decode cX0_leastCut 100 = .ok (.iload_n 3, 1) := dk_29 (dk_at dksX0_leastCut_4 5 rfl rfl)
theorem dX0_leastCut_101 : decode cX0_leastCut 101 = .ok (.istore_n 2, 1) := dk_61 (dk_at dksX0_leastCut_4 6 rfl rfl)
theorem dX0_leastCut_102 : decode cX0_leastCut 102 = .ok (.iinc 3 1, 3) := dk_132 3 1 (dk_at dksX0_leastCut_4 7 rfl rfl)
theorem dX0_leastCut_105 : decode cX0_leastCut 105 = .ok (.goto (-96), 3) := dk_167 255 160 (dk_at dksX0_leastCut_4 10 rfl rfl)
theorem dX0_leastCut_108 : decode cX0_leastCut 108 = .ok (.iload_n 2, 1) := dk_28 (dk_at dksX0_leastCut_4 13 rfl rfl)
theorem dX0_leastCut_109 : decode cX0_leastCut 109 = .ok (.ireturn, 1) := dk_172 (dk_at dksX0_leastCut_4 14 rfl rfl)
abbrev cX0_piecesOf : ByteArray := prog_1_method_30_code
def yX0_piecesOf : MethodName := ⟨RX0, "piecesOf", "(I)I"⟩
def dkwX0_piecesOf_1 : List UInt8 := [180, 0, 63, 180, 0, 195, 29, 46, 167, 0, 4, 3, 96, 61, 132, 3, 1, 167, 255, 220, 28, 172]
abbrev dktX0_piecesOf_1 : List UInt8 := dkwX0_piecesOf_1 ++ []
def dkwX0_piecesOf_0 : List UInt8 := [3, 61, 3, 62, 29, 42, 182, 0, 173, 162, 0, 34, 28, 27, 29, 122, 4, 126, 4, 160, 0, 15, 42]
abbrev dktX0_piecesOf_0 : List UInt8 := dkwX0_piecesOf_0 ++ dktX0_piecesOf_1
theorem dksX0_piecesOf_0 : cX0_piecesOf.data.toList.drop 0 = dktX0_piecesOf_0 := by decide +kernel
theorem dksX0_piecesOf_1 : cX0_piecesOf.data.toList.drop 23 = dktX0_piecesOf_1 := dk_seg dksX0_piecesOf_0 23 rfl rfl
theorem dX0_piecesOf_0 : decode cX0_piecesOf 0 = .ok (.iconst 0, 1) := dk_3 (dk_at dksX0_piecesOf_0 0 rfl rfl)
theorem dX0_piecesOf_1 : decode cX0_piecesOf 1 = .ok (.istore_n 2, 1) := dk_61 (dk_at dksX0_piecesOf_0 1 rfl rfl)
theorem dX0_piecesOf_2 : decode cX0_piecesOf 2 = .ok (.iconst 0, 1) := dk_3 (dk_at dksX0_piecesOf_0 2 rfl rfl)
theorem dX0_piecesOf_3 : decode cX0_piecesOf 3 = .ok (.istore_n 3, 1) := dk_62 (dk_at dksX0_piecesOf_0 3 rfl rfl)
theorem dX0_piecesOf_4 : decode cX0_piecesOf 4 = .ok (.iload_n 3, 1) := dk_29 (dk_at dksX0_piecesOf_0 4 rfl rfl)
theorem dX0_piecesOf_5 : decode cX0_piecesOf 5 = .ok (.aload_n 0, 1) := dk_42 (dk_at dksX0_piecesOf_0 5 rfl rfl)
theorem dX0_piecesOf_6 : decode cX0_piecesOf 6 = .ok (.invokevirtual 173, 3) := dk_182 0 173 (dk_at dksX0_piecesOf_0 6 rfl rfl)
theorem dX0_piecesOf_9 : decode cX0_piecesOf 9 = .ok (.if_icmp .ge 34, 3) := dk_162 0 34 (dk_at dksX0_piecesOf_0 9 rfl rfl)
theorem dX0_piecesOf_12 : decode cX0_piecesOf 12 = .ok (.iload_n 2, 1) := dk_28 (dk_at dksX0_piecesOf_0 12 rfl rfl)
theorem dX0_piecesOf_13 : decode cX0_piecesOf 13 = .ok (.iload_n 1, 1) := dk_27 (dk_at dksX0_piecesOf_0 13 rfl rfl)
theorem dX0_piecesOf_14 : decode cX0_piecesOf 14 = .ok (.iload_n 3, 1) := dk_29 (dk_at dksX0_piecesOf_0 14 rfl rfl)
theorem dX0_piecesOf_15 : decode cX0_piecesOf 15 = .ok (.ishr, 1) := dk_122 (dk_at dksX0_piecesOf_0 15 rfl rfl)
theorem dX0_piecesOf_16 : decode cX0_piecesOf 16 = .ok (.iconst 1, 1) := dk_4 (dk_at dksX0_piecesOf_0 16 rfl rfl)
theorem dX0_piecesOf_17 : decode cX0_piecesOf 17 = .ok (.iand, 1) := dk_126 (dk_at dksX0_piecesOf_0 17 rfl rfl)
theorem dX0_piecesOf_18 : decode cX0_piecesOf 18 = .ok (.iconst 1, 1) := dk_4 (dk_at dksX0_piecesOf_0 18 rfl rfl)
theorem dX0_piecesOf_19 : decode cX0_piecesOf 19 = .ok (.if_icmp .ne 15, 3) := dk_160 0 15 (dk_at dksX0_piecesOf_0 19 rfl rfl)
theorem dX0_piecesOf_22 : decode cX0_piecesOf 22 = .ok (.aload_n 0, 1) := dk_42 (dk_at dksX0_piecesOf_0 22 rfl rfl)
theorem dX0_piecesOf_23 : decode cX0_piecesOf 23 = .ok (.getfield 63, 3) := dk_180 0 63 (dk_at dksX0_piecesOf_1 0 rfl rfl)
theorem dX0_piecesOf_26 : decode cX0_piecesOf 26 = .ok (.getfield 195, 3) := dk_180 0 195 (dk_at dksX0_piecesOf_1 3 rfl rfl)
theorem dX0_piecesOf_29 : decode cX0_piecesOf 29 = .ok (.iload_n 3, 1) := dk_29 (dk_at dksX0_piecesOf_1 6 rfl rfl)
theorem dX0_piecesOf_30 : decode cX0_piecesOf 30 = .ok (.iaload, 1) := dk_46 (dk_at dksX0_piecesOf_1 7 rfl rfl)
theorem dX0_piecesOf_31 : decode cX0_piecesOf 31 = .ok (.goto 4, 3) := dk_167 0 4 (dk_at dksX0_piecesOf_1 8 rfl rfl)
theorem dX0_piecesOf_34 : decode cX0_piecesOf 34 = .ok (.iconst 0, 1) := dk_3 (dk_at dksX0_piecesOf_1 11 rfl rfl)
theorem dX0_piecesOf_35 : decode cX0_piecesOf 35 = .ok (.iadd, 1) := dk_96 (dk_at dksX0_piecesOf_1 12 rfl rfl)
theorem dX0_piecesOf_36 : decode cX0_piecesOf 36 = .ok (.istore_n 2, 1) := dk_61 (dk_at dksX0_piecesOf_1 13 rfl rfl)
theorem dX0_piecesOf_37 : decode cX0_piecesOf 37 = .ok (.iinc 3 1, 3) := dk_132 3 1 (dk_at dksX0_piecesOf_1 14 rfl rfl)
theorem dX0_piecesOf_40 : decode cX0_piecesOf 40 = .ok (.goto (-36), 3) := dk_167 255 220 (dk_at dksX0_piecesOf_1 17 rfl rfl)
theorem dX0_piecesOf_43 : decode cX0_piecesOf 43 = .ok (.iload_n 2, 1) := dk_28 (dk_at dksX0_piecesOf_1 20 rfl rfl)
theorem dX0_piecesOf_44 : decode cX0_piecesOf 44 = .ok (.ireturn, 1) := dk_172 (dk_at dksX0_piecesOf_1 21 rfl rfl)
abbrev cX0_way : ByteArray := prog_1_method_36_code
def yX0_way : MethodName := ⟨RX0, "way", "(I)I"⟩
def dkwX0_way_1 : List UInt8 := [77, 42, 44, 182, 1, 32, 42, 44, 44, 180, 0, 204, 44, 180, 0, 209, 182, 1, 36, 172]
abbrev dktX0_way_1 : List UInt8 := dkwX0_way_1 ++ []
def dkwX0_way_0 : List UInt8 := [42, 27, 182, 0, 179, 154, 0, 5, 2, 172, 42, 180, 0, 52, 180, 0, 163, 27, 182, 0, 183, 192, 0, 187]
abbrev dktX0_way_0 : List UInt8 := dkwX0_way_0 ++ dktX0_way_1
theorem dksX0_way_0 : cX0_way.data.toList.drop 0 = dktX0_way_0 := by decide +kernel
theorem dksX0_way_1 : cX0_way.data.toList.drop 24 = dktX0_way_1 := dk_seg dksX0_way_0 24 rfl rfl
theorem dX0_way_0 : decode cX0_way 0 = .ok (.aload_n 0, 1) := dk_42 (dk_at dksX0_way_0 0 rfl rfl)
theorem dX0_way_1 : decode cX0_way 1 = .ok (.iload_n 1, 1) := dk_27 (dk_at dksX0_way_0 1 rfl rfl)
theorem dX0_way_2 : decode cX0_way 2 = .ok (.invokevirtual 179, 3) := dk_182 0 179 (dk_at dksX0_way_0 2 rfl rfl)
theorem dX0_way_5 : decode cX0_way 5 = .ok (.ifCond .ne 5, 3) := dk_154 0 5 (dk_at dksX0_way_0 5 rfl rfl)
theorem dX0_way_8 : decode cX0_way 8 = .ok (.iconst (-1), 1) := dk_2 (dk_at dksX0_way_0 8 rfl rfl)
theorem dX0_way_9 : decode cX0_way 9 = .ok (.ireturn, 1) := dk_172 (dk_at dksX0_way_0 9 rfl rfl)
theorem dX0_way_10 : decode cX0_way 10 = .ok (.aload_n 0, 1) := dk_42 (dk_at dksX0_way_0 10 rfl rfl)
theorem dX0_way_11 : decode cX0_way 11 = .ok (.getfield 52, 3) := dk_180 0 52 (dk_at dksX0_way_0 11 rfl rfl)
theorem dX0_way_14 : decode cX0_way 14 = .ok (.getfield 163, 3) := dk_180 0 163 (dk_at dksX0_way_0 14 rfl rfl)
theorem dX0_way_17 : decode cX0_way 17 = .ok (.iload_n 1, 1) := dk_27 (dk_at dksX0_way_0 17 rfl rfl)
theorem dX0_way_18 : decode cX0_way 18 = .ok (.invokevirtual 183, 3) := dk_182 0 183 (dk_at dksX0_way_0 18 rfl rfl)
theorem dX0_way_21 : decode cX0_way 21 = .ok (.checkcast 187, 3) := dk_192 0 187 (dk_at dksX0_way_0 21 rfl rfl)
theorem dX0_way_24 : decode cX0_way 24 = .ok (.astore_n 2, 1) := dk_77 (dk_at dksX0_way_1 0 rfl rfl)
theorem dX0_way_25 : decode cX0_way 25 = .ok (.aload_n 0, 1) := dk_42 (dk_at dksX0_way_1 1 rfl rfl)
theorem dX0_way_26 : decode cX0_way 26 = .ok (.aload_n 2, 1) := dk_44 (dk_at dksX0_way_1 2 rfl rfl)
theorem dX0_way_27 : decode cX0_way 27 = .ok (.invokevirtual 288, 3) := dk_182 1 32 (dk_at dksX0_way_1 3 rfl rfl)
theorem dX0_way_30 : decode cX0_way 30 = .ok (.aload_n 0, 1) := dk_42 (dk_at dksX0_way_1 6 rfl rfl)
theorem dX0_way_31 : decode cX0_way 31 = .ok (.aload_n 2, 1) := dk_44 (dk_at dksX0_way_1 7 rfl rfl)
theorem dX0_way_32 : decode cX0_way 32 = .ok (.aload_n 2, 1) := dk_44 (dk_at dksX0_way_1 8 rfl rfl)
theorem dX0_way_33 : decode cX0_way 33 = .ok (.getfield 204, 3) := dk_180 0 204 (dk_at dksX0_way_1 9 rfl rfl)
theorem dX0_way_36 : decode cX0_way 36 = .ok (.aload_n 2, 1) := dk_44 (dk_at dksX0_way_1 12 rfl rfl)
theorem dX0_way_37 : decode cX0_way 37 = .ok (.getfield 209, 3) := dk_180 0 209 (dk_at dksX0_way_1 13 rfl rfl)
theorem dX0_way_40 : decode cX0_way 40 = .ok (.invokevirtual 292, 3) := dk_182 1 36 (dk_at dksX0_way_1 16 rfl rfl)
theorem dX0_way_43 : decode cX0_way 43 = .ok (.ireturn, 1) := dk_172 (dk_at dksX0_way_1 19 rfl rfl)
abbrev cX0_laysLeft : ByteArray := prog_1_method_34_code
def yX0_laysLeft : MethodName := ⟨RX0, "laysLeft", "(LThreadTown$Man;)V"⟩
def dkwX0_laysLeft_6 : List UInt8 := [132, 2, 1, 167, 255, 115, 177]
abbrev dktX0_laysLeft_6 : List UInt8 := dkwX0_laysLeft_6 ++ []
def dkwX0_laysLeft_5 : List UInt8 := [126, 50, 21, 4, 46, 96, 184, 0, 12, 79, 132, 4, 1, 167, 255, 169, 132, 3, 1, 167, 255, 133]
abbrev dktX0_laysLeft_5 : List UInt8 := dkwX0_laysLeft_5 ++ dktX0_laysLeft_6
def dkwX0_laysLeft_4 : List UInt8 := [21, 4, 46, 43, 180, 1, 25, 21, 4, 46, 184, 1, 28, 42, 180, 0, 111, 28, 4, 21, 4, 120, 2, 130]
abbrev dktX0_laysLeft_4 : List UInt8 := dkwX0_laysLeft_4 ++ dktX0_laysLeft_5
def dkwX0_laysLeft_3 : List UInt8 := [180, 0, 111, 28, 50, 29, 46, 43, 180, 1, 22, 29, 46, 43, 180, 1, 25, 29, 46, 43, 180, 1, 22]
abbrev dktX0_laysLeft_3 : List UInt8 := dkwX0_laysLeft_3 ++ dktX0_laysLeft_4
def dkwX0_laysLeft_2 : List UInt8 := [180, 1, 18, 162, 0, 84, 28, 21, 4, 122, 4, 126, 4, 160, 0, 68, 42, 180, 0, 111, 28, 50, 29, 42]
abbrev dktX0_laysLeft_2 : List UInt8 := dkwX0_laysLeft_2 ++ dktX0_laysLeft_3
def dkwX0_laysLeft_1 : List UInt8 := [180, 0, 111, 28, 50, 29, 28, 154, 0, 7, 3, 167, 0, 6, 19, 1, 21, 79, 3, 54, 4, 21, 4, 43]
abbrev dktX0_laysLeft_1 : List UInt8 := dkwX0_laysLeft_1 ++ dktX0_laysLeft_2
def dkwX0_laysLeft_0 : List UInt8 := [3, 61, 28, 4, 43, 180, 1, 18, 120, 162, 0, 137, 3, 62, 29, 43, 180, 1, 18, 162, 0, 121, 42]
abbrev dktX0_laysLeft_0 : List UInt8 := dkwX0_laysLeft_0 ++ dktX0_laysLeft_1
theorem dksX0_laysLeft_0 : cX0_laysLeft.data.toList.drop 0 = dktX0_laysLeft_0 := by decide +kernel
theorem dksX0_laysLeft_1 : cX0_laysLeft.data.toList.drop 23 = dktX0_laysLeft_1 := dk_seg dksX0_laysLeft_0 23 rfl rfl
theorem dksX0_laysLeft_2 : cX0_laysLeft.data.toList.drop 47 = dktX0_laysLeft_2 := dk_seg dksX0_laysLeft_1 24 rfl rfl
theorem dksX0_laysLeft_3 : cX0_laysLeft.data.toList.drop 71 = dktX0_laysLeft_3 := dk_seg dksX0_laysLeft_2 24 rfl rfl
theorem dksX0_laysLeft_4 : cX0_laysLeft.data.toList.drop 94 = dktX0_laysLeft_4 := dk_seg dksX0_laysLeft_3 23 rfl rfl
theorem dksX0_laysLeft_5 : cX0_laysLeft.data.toList.drop 118 = dktX0_laysLeft_5 := dk_seg dksX0_laysLeft_4 24 rfl rfl
theorem dksX0_laysLeft_6 : cX0_laysLeft.data.toList.drop 140 = dktX0_laysLeft_6 := dk_seg dksX0_laysLeft_5 22 rfl rfl
theorem dX0_laysLeft_0 : decode cX0_laysLeft 0 = .ok (.iconst 0, 1) := dk_3 (dk_at dksX0_laysLeft_0 0 rfl rfl)
theorem dX0_laysLeft_1 : decode cX0_laysLeft 1 = .ok (.istore_n 2, 1) := dk_61 (dk_at dksX0_laysLeft_0 1 rfl rfl)
theorem dX0_laysLeft_2 : decode cX0_laysLeft 2 = .ok (.iload_n 2, 1) := dk_28 (dk_at dksX0_laysLeft_0 2 rfl rfl)
theorem dX0_laysLeft_3 : decode cX0_laysLeft 3 = .ok (.iconst 1, 1) := dk_4 (dk_at dksX0_laysLeft_0 3 rfl rfl)
theorem dX0_laysLeft_4 : decode cX0_laysLeft 4 = .ok (.aload_n 1, 1) := dk_43 (dk_at dksX0_laysLeft_0 4 rfl rfl)
theorem dX0_laysLeft_5 : decode cX0_laysLeft 5 = .ok (.getfield 274, 3) := dk_180 1 18 (dk_at dksX0_laysLeft_0 5 rfl rfl)
theorem dX0_laysLeft_8 : decode cX0_laysLeft 8 = .ok (.ishl, 1) := dk_120 (dk_at dksX0_laysLeft_0 8 rfl rfl)
theorem dX0_laysLeft_9 : decode cX0_laysLeft 9 = .ok (.if_icmp .ge 137, 3) := dk_162 0 137 (dk_at dksX0_laysLeft_0 9 rfl rfl)
theorem dX0_laysLeft_12 : decode cX0_laysLeft 12 = .ok (.iconst 0, 1) := dk_3 (dk_at dksX0_laysLeft_0 12 rfl rfl)
theorem dX0_laysLeft_13 : decode cX0_laysLeft 13 = .ok (.istore_n 3, 1) := dk_62 (dk_at dksX0_laysLeft_0 13 rfl rfl)
theorem dX0_laysLeft_14 : decode cX0_laysLeft 14 = .ok (.iload_n 3, 1) := dk_29 (dk_at dksX0_laysLeft_0 14 rfl rfl)
theorem dX0_laysLeft_15 : decode cX0_laysLeft 15 = .ok (.aload_n 1, 1) := dk_43 (dk_at dksX0_laysLeft_0 15 rfl rfl)
theorem dX0_laysLeft_16 : decode cX0_laysLeft 16 = .ok (.getfield 274, 3) := dk_180 1 18 (dk_at dksX0_laysLeft_0 16 rfl rfl)
theorem dX0_laysLeft_19 : decode cX0_laysLeft 19 = .ok (.if_icmp .ge 121, 3) := dk_162 0 121 (dk_at dksX0_laysLeft_0 19 rfl rfl)
theorem dX0_laysLeft_22 : decode cX0_laysLeft 22 = .ok (.aload_n 0, 1) := dk_42 (dk_at dksX0_laysLeft_0 22 rfl rfl)
theorem dX0_laysLeft_23 : decode cX0_laysLeft 23 = .ok (.getfield 111, 3) := dk_180 0 111 (dk_at dksX0_laysLeft_1 0 rfl rfl)
theorem dX0_laysLeft_26 : decode cX0_laysLeft 26 = .ok (.iload_n 2, 1) := dk_28 (dk_at dksX0_laysLeft_1 3 rfl rfl)
theorem dX0_laysLeft_27 : decode cX0_laysLeft 27 = .ok (.aaload, 1) := dk_50 (dk_at dksX0_laysLeft_1 4 rfl rfl)
theorem dX0_laysLeft_28 : decode cX0_laysLeft 28 = .ok (.iload_n 3, 1) := dk_29 (dk_at dksX0_laysLeft_1 5 rfl rfl)
theorem dX0_laysLeft_29 : decode cX0_laysLeft 29 = .ok (.iload_n 2, 1) := dk_28 (dk_at dksX0_laysLeft_1 6 rfl rfl)
theorem dX0_laysLeft_30 : decode cX0_laysLeft 30 = .ok (.ifCond .ne 7, 3) := dk_154 0 7 (dk_at dksX0_laysLeft_1 7 rfl rfl)
theorem dX0_laysLeft_33 : decode cX0_laysLeft 33 = .ok (.iconst 0, 1) := dk_3 (dk_at dksX0_laysLeft_1 10 rfl rfl)
theorem dX0_laysLeft_34 : decode cX0_laysLeft 34 = .ok (.goto 6, 3) := dk_167 0 6 (dk_at dksX0_laysLeft_1 11 rfl rfl)
theorem dX0_laysLeft_37 : decode cX0_laysLeft 37 = .ok (.ldc_w 277, 3) := dk_19 1 21 (dk_at dksX0_laysLeft_1 14 rfl rfl)
theorem dX0_laysLeft_40 : decode cX0_laysLeft 40 = .ok (.iastore, 1) := dk_79 (dk_at dksX0_laysLeft_1 17 rfl rfl)
theorem dX0_laysLeft_41 : decode cX0_laysLeft 41 = .ok (.iconst 0, 1) := dk_3 (dk_at dksX0_laysLeft_1 18 rfl rfl)
theorem dX0_laysLeft_42 : decode cX0_laysLeft 42 = .ok (.istore 4, 2) := dk_54 4 (dk_at dksX0_laysLeft_1 19 rfl rfl)
theorem dX0_laysLeft_44 : decode cX0_laysLeft 44 = .ok (.iload 4, 2) := dk_21 4 (dk_at dksX0_laysLeft_1 21 rfl rfl)
theorem dX0_laysLeft_46 : decode cX0_laysLeft 46 = .ok (.aload_n 1, 1) := dk_43 (dk_at dksX0_laysLeft_1 23 rfl rfl)
theorem dX0_laysLeft_47 : decode cX0_laysLeft 47 = .ok (.getfield 274, 3) := dk_180 1 18 (dk_at dksX0_laysLeft_2 0 rfl rfl)
theorem dX0_laysLeft_50 : decode cX0_laysLeft 50 = .ok (.if_icmp .ge 84, 3) := dk_162 0 84 (dk_at dksX0_laysLeft_2 3 rfl rfl)
theorem dX0_laysLeft_53 : decode cX0_laysLeft 53 = .ok (.iload_n 2, 1) := dk_28 (dk_at dksX0_laysLeft_2 6 rfl rfl)
theorem dX0_laysLeft_54 : decode cX0_laysLeft 54 = .ok (.iload 4, 2) := dk_21 4 (dk_at dksX0_laysLeft_2 7 rfl rfl)
theorem dX0_laysLeft_56 : decode cX0_laysLeft 56 = .ok (.ishr, 1) := dk_122 (dk_at dksX0_laysLeft_2 9 rfl rfl)
theorem dX0_laysLeft_57 : decode cX0_laysLeft 57 = .ok (.iconst 1, 1) := dk_4 (dk_at dksX0_laysLeft_2 10 rfl rfl)
theorem dX0_laysLeft_58 : decode cX0_laysLeft 58 = .ok (.iand, 1) := dk_126 (dk_at dksX0_laysLeft_2 11 rfl rfl)
theorem dX0_laysLeft_59 : decode cX0_laysLeft 59 = .ok (.iconst 1, 1) := dk_4 (dk_at dksX0_laysLeft_2 12 rfl rfl)
theorem dX0_laysLeft_60 : decode cX0_laysLeft 60 = .ok (.if_icmp .ne 68, 3) := dk_160 0 68 (dk_at dksX0_laysLeft_2 13 rfl rfl)
theorem dX0_laysLeft_63 : decode cX0_laysLeft 63 = .ok (.aload_n 0, 1) := dk_42 (dk_at dksX0_laysLeft_2 16 rfl rfl)
theorem dX0_laysLeft_64 : decode cX0_laysLeft 64 = .ok (.getfield 111, 3) := dk_180 0 111 (dk_at dksX0_laysLeft_2 17 rfl rfl)
theorem dX0_laysLeft_67 : decode cX0_laysLeft 67 = .ok (.iload_n 2, 1) := dk_28 (dk_at dksX0_laysLeft_2 20 rfl rfl)
theorem dX0_laysLeft_68 : decode cX0_laysLeft 68 = .ok (.aaload, 1) := dk_50 (dk_at dksX0_laysLeft_2 21 rfl rfl)
theorem dX0_laysLeft_69 : decode cX0_laysLeft 69 = .ok (.iload_n 3, 1) := dk_29 (dk_at dksX0_laysLeft_2 22 rfl rfl)
theorem dX0_laysLeft_70 : decode cX0_laysLeft 70 = .ok (.aload_n 0, 1) := dk_42 (dk_at dksX0_laysLeft_2 23 rfl rfl)
theorem dX0_laysLeft_71 : decode cX0_laysLeft 71 = .ok (.getfield 111, 3) := dk_180 0 111 (dk_at dksX0_laysLeft_3 0 rfl rfl)
theorem dX0_laysLeft_74 : decode cX0_laysLeft 74 = .ok (.iload_n 2, 1) := dk_28 (dk_at dksX0_laysLeft_3 3 rfl rfl)
theorem dX0_laysLeft_75 : decode cX0_laysLeft 75 = .ok (.aaload, 1) := dk_50 (dk_at dksX0_laysLeft_3 4 rfl rfl)
theorem dX0_laysLeft_76 : decode cX0_laysLeft 76 = .ok (.iload_n 3, 1) := dk_29 (dk_at dksX0_laysLeft_3 5 rfl rfl)
theorem dX0_laysLeft_77 : decode cX0_laysLeft 77 = .ok (.iaload, 1) := dk_46 (dk_at dksX0_laysLeft_3 6 rfl rfl)
theorem dX0_laysLeft_78 : decode cX0_laysLeft 78 = .ok (.aload_n 1, 1) := dk_43 (dk_at dksX0_laysLeft_3 7 rfl rfl)
theorem dX0_laysLeft_79 : decode cX0_laysLeft 79 = .ok (.getfield 278, 3) := dk_180 1 22 (dk_at dksX0_laysLeft_3 8 rfl rfl)
theorem dX0_laysLeft_82 : decode cX0_laysLeft 82 = .ok (.iload_n 3, 1) := dk_29 (dk_at dksX0_laysLeft_3 11 rfl rfl)
theorem dX0_laysLeft_83 : decode cX0_laysLeft 83 = .ok (.iaload, 1) := dk_46 (dk_at dksX0_laysLeft_3 12 rfl rfl)
theorem dX0_laysLeft_84 : decode cX0_laysLeft 84 = .ok (.aload_n 1, 1) := dk_43 (dk_at dksX0_laysLeft_3 13 rfl rfl)
theorem dX0_laysLeft_85 : decode cX0_laysLeft 85 = .ok (.getfield 281, 3) := dk_180 1 25 (dk_at dksX0_laysLeft_3 14 rfl rfl)
theorem dX0_laysLeft_88 : decode cX0_laysLeft 88 = .ok (.iload_n 3, 1) := dk_29 (dk_at dksX0_laysLeft_3 17 rfl rfl)
theorem dX0_laysLeft_89 : decode cX0_laysLeft 89 = .ok (.iaload, 1) := dk_46 (dk_at dksX0_laysLeft_3 18 rfl rfl)
theorem dX0_laysLeft_90 : decode cX0_laysLeft 90 = .ok (.aload_n 1, 1) := dk_43 (dk_at dksX0_laysLeft_3 19 rfl rfl)
theorem dX0_laysLeft_91 : decode cX0_laysLeft 91 = .ok (.getfield 278, 3) := dk_180 1 22 (dk_at dksX0_laysLeft_3 20 rfl rfl)
theorem dX0_laysLeft_94 : decode cX0_laysLeft 94 = .ok (.iload 4, 2) := dk_21 4 (dk_at dksX0_laysLeft_4 0 rfl rfl)
theorem dX0_laysLeft_96 : decode cX0_laysLeft 96 = .ok (.iaload, 1) := dk_46 (dk_at dksX0_laysLeft_4 2 rfl rfl)
theorem dX0_laysLeft_97 : decode cX0_laysLeft 97 = .ok (.aload_n 1, 1) := dk_43 (dk_at dksX0_laysLeft_4 3 rfl rfl)
theorem dX0_laysLeft_98 : decode cX0_laysLeft 98 = .ok (.getfield 281, 3) := dk_180 1 25 (dk_at dksX0_laysLeft_4 4 rfl rfl)
theorem dX0_laysLeft_101 : decode cX0_laysLeft 101 = .ok (.iload 4, 2) := dk_21 4 (dk_at dksX0_laysLeft_4 7 rfl rfl)
theorem dX0_laysLeft_103 : decode cX0_laysLeft 103 = .ok (.iaload, 1) := dk_46 (dk_at dksX0_laysLeft_4 9 rfl rfl)
theorem dX0_laysLeft_104 : decode cX0_laysLeft 104 = .ok (.invokestatic 284, 3) := dk_184 1 28 (dk_at dksX0_laysLeft_4 10 rfl rfl)
theorem dX0_laysLeft_107 : decode cX0_laysLeft 107 = .ok (.aload_n 0, 1) := dk_42 (dk_at dksX0_laysLeft_4 13 rfl rfl)
theorem dX0_laysLeft_108 : decode cX0_laysLeft 108 = .ok (.getfield 111, 3) := dk_180 0 111 (dk_at dksX0_laysLeft_4 14 rfl rfl)
theorem dX0_laysLeft_111 : decode cX0_laysLeft 111 = .ok (.iload_n 2, 1) := dk_28 (dk_at dksX0_laysLeft_4 17 rfl rfl)
theorem dX0_laysLeft_112 : decode cX0_laysLeft 112 = .ok (.iconst 1, 1) := dk_4 (dk_at dksX0_laysLeft_4 18 rfl rfl)
theorem dX0_laysLeft_113 : decode cX0_laysLeft 113 = .ok (.iload 4, 2) := dk_21 4 (dk_at dksX0_laysLeft_4 19 rfl rfl)
theorem dX0_laysLeft_115 : decode cX0_laysLeft 115 = .ok (.ishl, 1) := dk_120 (dk_at dksX0_laysLeft_4 21 rfl rfl)
theorem dX0_laysLeft_116 : decode cX0_laysLeft 116 = .ok (.iconst (-1), 1) := dk_2 (dk_at dksX0_laysLeft_4 22 rfl rfl)
theorem dX0_laysLeft_117 : decode cX0_laysLeft 117 = .ok (.ixor, 1) := dk_130 (dk_at dksX0_laysLeft_4 23 rfl rfl)
theorem dX0_laysLeft_118 : decode cX0_laysLeft 118 = .ok (.iand, 1) := dk_126 (dk_at dksX0_laysLeft_5 0 rfl rfl)
theorem dX0_laysLeft_119 : decode cX0_laysLeft 119 = .ok (.aaload, 1) := dk_50 (dk_at dksX0_laysLeft_5 1 rfl rfl)
theorem dX0_laysLeft_120 : decode cX0_laysLeft 120 = .ok (.iload 4, 2) := dk_21 4 (dk_at dksX0_laysLeft_5 2 rfl rfl)
theorem dX0_laysLeft_122 : decode cX0_laysLeft 122 = .ok (.iaload, 1) := dk_46 (dk_at dksX0_laysLeft_5 4 rfl rfl)
theorem dX0_laysLeft_123 : decode cX0_laysLeft 123 = .ok (.iadd, 1) := dk_96 (dk_at dksX0_laysLeft_5 5 rfl rfl)
theorem dX0_laysLeft_124 : decode cX0_laysLeft 124 = .ok (.invokestatic 12, 3) := dk_184 0 12 (dk_at dksX0_laysLeft_5 6 rfl rfl)
theorem dX0_laysLeft_127 : decode cX0_laysLeft 127 = .ok (.iastore, 1) := dk_79 (dk_at dksX0_laysLeft_5 9 rfl rfl)
theorem dX0_laysLeft_128 : decode cX0_laysLeft 128 = .ok (.iinc 4 1, 3) := dk_132 4 1 (dk_at dksX0_laysLeft_5 10 rfl rfl)
theorem dX0_laysLeft_131 : decode cX0_laysLeft 131 = .ok (.goto (-87), 3) := dk_167 255 169 (dk_at dksX0_laysLeft_5 13 rfl rfl)
theorem dX0_laysLeft_134 : decode cX0_laysLeft 134 = .ok (.iinc 3 1, 3) := dk_132 3 1 (dk_at dksX0_laysLeft_5 16 rfl rfl)
theorem dX0_laysLeft_137 : decode cX0_laysLeft 137 = .ok (.goto (-123), 3) := dk_167 255 133 (dk_at dksX0_laysLeft_5 19 rfl rfl)
theorem dX0_laysLeft_140 : decode cX0_laysLeft 140 = .ok (.iinc 2 1, 3) := dk_132 2 1 (dk_at dksX0_laysLeft_6 0 rfl rfl)
theorem dX0_laysLeft_143 : decode cX0_laysLeft 143 = .ok (.goto (-141), 3) := dk_167 255 115 (dk_at dksX0_laysLeft_6 3 rfl rfl)
theorem dX0_laysLeft_146 : decode cX0_laysLeft 146 = .ok (.return_, 1) := dk_177 (dk_at dksX0_laysLeft_6 6 rfl rfl)
abbrev cX0_apart : ByteArray := prog_1_method_33_code
def yX0_apart : MethodName := ⟨RX0, "apart", "(IIII)I"⟩
def dkwX0_apart_0 : List UInt8 := [26, 28, 100, 184, 0, 206, 27, 29, 100, 184, 0, 206, 96, 172]
abbrev dktX0_apart_0 : List UInt8 := dkwX0_apart_0 ++ []
theorem dksX0_apart_0 : cX0_apart.data.toList.drop 0 = dktX0_apart_0 := by decide +kernel
theorem dX0_apart_0 : decode cX0_apart 0 = .ok (.iload_n 0, 1) := dk_26 (dk_at dksX0_apart_0 0 rfl rfl)
theorem dX0_apart_1 : decode cX0_apart 1 = .ok (.iload_n 2, 1) := dk_28 (dk_at dksX0_apart_0 1 rfl rfl)
theorem dX0_apart_2 : decode cX0_apart 2 = .ok (.isub, 1) := dk_100 (dk_at dksX0_apart_0 2 rfl rfl)
theorem dX0_apart_3 : decode cX0_apart 3 = .ok (.invokestatic 206, 3) := dk_184 0 206 (dk_at dksX0_apart_0 3 rfl rfl)
theorem dX0_apart_6 : decode cX0_apart 6 = .ok (.iload_n 1, 1) := dk_27 (dk_at dksX0_apart_0 6 rfl rfl)
theorem dX0_apart_7 : decode cX0_apart 7 = .ok (.iload_n 3, 1) := dk_29 (dk_at dksX0_apart_0 7 rfl rfl)
theorem dX0_apart_8 : decode cX0_apart 8 = .ok (.isub, 1) := dk_100 (dk_at dksX0_apart_0 8 rfl rfl)
theorem dX0_apart_9 : decode cX0_apart 9 = .ok (.invokestatic 206, 3) := dk_184 0 206 (dk_at dksX0_apart_0 9 rfl rfl)
theorem dX0_apart_12 : decode cX0_apart 12 = .ok (.iadd, 1) := dk_96 (dk_at dksX0_apart_0 12 rfl rfl)
theorem dX0_apart_13 : decode cX0_apart 13 = .ok (.ireturn, 1) := dk_172 (dk_at dksX0_apart_0 13 rfl rfl)
abbrev cX0_wayFrom : ByteArray := prog_1_method_35_code
def yX0_wayFrom : MethodName := ⟨RX0, "wayFrom", "(LThreadTown$Man;II)I"⟩
def dkwX0_wayFrom_3 : List UInt8 := [21, 6, 46, 96, 184, 0, 12, 54, 5, 132, 6, 1, 167, 255, 200, 21, 5, 172]
abbrev dktX0_wayFrom_3 : List UInt8 := dkwX0_wayFrom_3 ++ []
def dkwX0_wayFrom_2 : List UInt8 := [180, 1, 25, 21, 6, 46, 184, 1, 28, 42, 180, 0, 111, 21, 4, 4, 21, 6, 120, 2, 130, 126, 50]
abbrev dktX0_wayFrom_2 : List UInt8 := dkwX0_wayFrom_2 ++ dktX0_wayFrom_3
def dkwX0_wayFrom_1 : List UInt8 := [3, 54, 6, 21, 6, 43, 180, 1, 18, 162, 0, 53, 21, 5, 28, 29, 43, 180, 1, 22, 21, 6, 46, 43]
abbrev dktX0_wayFrom_1 : List UInt8 := dkwX0_wayFrom_1 ++ dktX0_wayFrom_2
def dkwX0_wayFrom_0 : List UInt8 := [4, 43, 180, 1, 18, 120, 4, 100, 54, 4, 21, 4, 154, 0, 7, 3, 167, 0, 6, 19, 1, 21, 54, 5]
abbrev dktX0_wayFrom_0 : List UInt8 := dkwX0_wayFrom_0 ++ dktX0_wayFrom_1
theorem dksX0_wayFrom_0 : cX0_wayFrom.data.toList.drop 0 = dktX0_wayFrom_0 := by decide +kernel
theorem dksX0_wayFrom_1 : cX0_wayFrom.data.toList.drop 24 = dktX0_wayFrom_1 := dk_seg dksX0_wayFrom_0 24 rfl rfl
theorem dksX0_wayFrom_2 : cX0_wayFrom.data.toList.drop 48 = dktX0_wayFrom_2 := dk_seg dksX0_wayFrom_1 24 rfl rfl
theorem dksX0_wayFrom_3 : cX0_wayFrom.data.toList.drop 71 = dktX0_wayFrom_3 := dk_seg dksX0_wayFrom_2 23 rfl rfl
theorem dX0_wayFrom_0 : decode cX0_wayFrom 0 = .ok (.iconst 1, 1) := dk_4 (dk_at dksX0_wayFrom_0 0 rfl rfl)
theorem dX0_wayFrom_1 : decode cX0_wayFrom 1 = .ok (.aload_n 1, 1) := dk_43 (dk_at dksX0_wayFrom_0 1 rfl rfl)
theorem dX0_wayFrom_2 : decode cX0_wayFrom 2 = .ok (.getfield 274, 3) := dk_180 1 18 (dk_at dksX0_wayFrom_0 2 rfl rfl)
theorem dX0_wayFrom_5 : decode cX0_wayFrom 5 = .ok (.ishl, 1) := dk_120 (dk_at dksX0_wayFrom_0 5 rfl rfl)
theorem dX0_wayFrom_6 : decode cX0_wayFrom 6 = .ok (.iconst 1, 1) := dk_4 (dk_at dksX0_wayFrom_0 6 rfl rfl)
theorem dX0_wayFrom_7 : decode cX0_wayFrom 7 = .ok (.isub, 1) := dk_100 (dk_at dksX0_wayFrom_0 7 rfl rfl)
theorem dX0_wayFrom_8 : decode cX0_wayFrom 8 = .ok (.istore 4, 2) := dk_54 4 (dk_at dksX0_wayFrom_0 8 rfl rfl)
theorem dX0_wayFrom_10 : decode cX0_wayFrom 10 = .ok (.iload 4, 2) := dk_21 4 (dk_at dksX0_wayFrom_0 10 rfl rfl)
theorem dX0_wayFrom_12 : decode cX0_wayFrom 12 = .ok (.ifCond .ne 7, 3) := dk_154 0 7 (dk_at dksX0_wayFrom_0 12 rfl rfl)
theorem dX0_wayFrom_15 : decode cX0_wayFrom 15 = .ok (.iconst 0, 1) := dk_3 (dk_at dksX0_wayFrom_0 15 rfl rfl)
theorem dX0_wayFrom_16 : decode cX0_wayFrom 16 = .ok (.goto 6, 3) := dk_167 0 6 (dk_at dksX0_wayFrom_0 16 rfl rfl)
theorem dX0_wayFrom_19 : decode cX0_wayFrom 19 = .ok (.ldc_w 277, 3) := dk_19 1 21 (dk_at dksX0_wayFrom_0 19 rfl rfl)
theorem dX0_wayFrom_22 : decode cX0_wayFrom 22 = .ok (.istore 5, 2) := dk_54 5 (dk_at dksX0_wayFrom_0 22 rfl rfl)
theorem dX0_wayFrom_24 : decode cX0_wayFrom 24 = .ok (.iconst 0, 1) := dk_3 (dk_at dksX0_wayFrom_1 0 rfl rfl)
theorem dX0_wayFrom_25 : decode cX0_wayFrom 25 = .ok (.istore 6, 2) := dk_54 6 (dk_at dksX0_wayFrom_1 1 rfl rfl)
theorem dX0_wayFrom_27 : decode cX0_wayFrom 27 = .ok (.iload 6, 2) := dk_21 6 (dk_at dksX0_wayFrom_1 3 rfl rfl)
theorem dX0_wayFrom_29 : decode cX0_wayFrom 29 = .ok (.aload_n 1, 1) := dk_43 (dk_at dksX0_wayFrom_1 5 rfl rfl)
theorem dX0_wayFrom_30 : decode cX0_wayFrom 30 = .ok (.getfield 274, 3) := dk_180 1 18 (dk_at dksX0_wayFrom_1 6 rfl rfl)
theorem dX0_wayFrom_33 : decode cX0_wayFrom 33 = .ok (.if_icmp .ge 53, 3) := dk_162 0 53 (dk_at dksX0_wayFrom_1 9 rfl rfl)
theorem dX0_wayFrom_36 : decode cX0_wayFrom 36 = .ok (.iload 5, 2) := dk_21 5 (dk_at dksX0_wayFrom_1 12 rfl rfl)
theorem dX0_wayFrom_38 : decode cX0_wayFrom 38 = .ok (.iload_n 2, 1) := dk_28 (dk_at dksX0_wayFrom_1 14 rfl rfl)
theorem dX0_wayFrom_39 : decode cX0_wayFrom 39 = .ok (.iload_n 3, 1) := dk_29 (dk_at dksX0_wayFrom_1 15 rfl rfl)
theorem dX0_wayFrom_40 : decode cX0_wayFrom 40 = .ok (.aload_n 1, 1) := dk_43 (dk_at dksX0_wayFrom_1 16 rfl rfl)
theorem dX0_wayFrom_41 : decode cX0_wayFrom 41 = .ok (.getfield 278, 3) := dk_180 1 22 (dk_at dksX0_wayFrom_1 17 rfl rfl)
theorem dX0_wayFrom_44 : decode cX0_wayFrom 44 = .ok (.iload 6, 2) := dk_21 6 (dk_at dksX0_wayFrom_1 20 rfl rfl)
theorem dX0_wayFrom_46 : decode cX0_wayFrom 46 = .ok (.iaload, 1) := dk_46 (dk_at dksX0_wayFrom_1 22 rfl rfl)
theorem dX0_wayFrom_47 : decode cX0_wayFrom 47 = .ok (.aload_n 1, 1) := dk_43 (dk_at dksX0_wayFrom_1 23 rfl rfl)
theorem dX0_wayFrom_48 : decode cX0_wayFrom 48 = .ok (.getfield 281, 3) := dk_180 1 25 (dk_at dksX0_wayFrom_2 0 rfl rfl)
theorem dX0_wayFrom_51 : decode cX0_wayFrom 51 = .ok (.iload 6, 2) := dk_21 6 (dk_at dksX0_wayFrom_2 3 rfl rfl)
theorem dX0_wayFrom_53 : decode cX0_wayFrom 53 = .ok (.iaload, 1) := dk_46 (dk_at dksX0_wayFrom_2 5 rfl rfl)
theorem dX0_wayFrom_54 : decode cX0_wayFrom 54 = .ok (.invokestatic 284, 3) := dk_184 1 28 (dk_at dksX0_wayFrom_2 6 rfl rfl)
theorem dX0_wayFrom_57 : decode cX0_wayFrom 57 = .ok (.aload_n 0, 1) := dk_42 (dk_at dksX0_wayFrom_2 9 rfl rfl)
theorem dX0_wayFrom_58 : decode cX0_wayFrom 58 = .ok (.getfield 111, 3) := dk_180 0 111 (dk_at dksX0_wayFrom_2 10 rfl rfl)
theorem dX0_wayFrom_61 : decode cX0_wayFrom 61 = .ok (.iload 4, 2) := dk_21 4 (dk_at dksX0_wayFrom_2 13 rfl rfl)
theorem dX0_wayFrom_63 : decode cX0_wayFrom 63 = .ok (.iconst 1, 1) := dk_4 (dk_at dksX0_wayFrom_2 15 rfl rfl)
theorem dX0_wayFrom_64 : decode cX0_wayFrom 64 = .ok (.iload 6, 2) := dk_21 6 (dk_at dksX0_wayFrom_2 16 rfl rfl)
theorem dX0_wayFrom_66 : decode cX0_wayFrom 66 = .ok (.ishl, 1) := dk_120 (dk_at dksX0_wayFrom_2 18 rfl rfl)
theorem dX0_wayFrom_67 : decode cX0_wayFrom 67 = .ok (.iconst (-1), 1) := dk_2 (dk_at dksX0_wayFrom_2 19 rfl rfl)
theorem dX0_wayFrom_68 : decode cX0_wayFrom 68 = .ok (.ixor, 1) := dk_130 (dk_at dksX0_wayFrom_2 20 rfl rfl)
theorem dX0_wayFrom_69 : decode cX0_wayFrom 69 = .ok (.iand, 1) := dk_126 (dk_at dksX0_wayFrom_2 21 rfl rfl)
theorem dX0_wayFrom_70 : decode cX0_wayFrom 70 = .ok (.aaload, 1) := dk_50 (dk_at dksX0_wayFrom_2 22 rfl rfl)
theorem dX0_wayFrom_71 : decode cX0_wayFrom 71 = .ok (.iload 6, 2) := dk_21 6 (dk_at dksX0_wayFrom_3 0 rfl rfl)
theorem dX0_wayFrom_73 : decode cX0_wayFrom 73 = .ok (.iaload, 1) := dk_46 (dk_at dksX0_wayFrom_3 2 rfl rfl)
theorem dX0_wayFrom_74 : decode cX0_wayFrom 74 = .ok (.iadd, 1) := dk_96 (dk_at dksX0_wayFrom_3 3 rfl rfl)
theorem dX0_wayFrom_75 : decode cX0_wayFrom 75 = .ok (.invokestatic 12, 3) := dk_184 0 12 (dk_at dksX0_wayFrom_3 4 rfl rfl)
theorem dX0_wayFrom_78 : decode cX0_wayFrom 78 = .ok (.istore 5, 2) := dk_54 5 (dk_at dksX0_wayFrom_3 7 rfl rfl)
theorem dX0_wayFrom_80 : decode cX0_wayFrom 80 = .ok (.iinc 6 1, 3) := dk_132 6 1 (dk_at dksX0_wayFrom_3 9 rfl rfl)
theorem dX0_wayFrom_83 : decode cX0_wayFrom 83 = .ok (.goto (-56), 3) := dk_167 255 200 (dk_at dksX0_wayFrom_3 12 rfl rfl)
theorem dX0_wayFrom_86 : decode cX0_wayFrom 86 = .ok (.iload 5, 2) := dk_21 5 (dk_at dksX0_wayFrom_3 15 rfl rfl)
theorem dX0_wayFrom_88 : decode cX0_wayFrom 88 = .ok (.ireturn, 1) := dk_172 (dk_at dksX0_wayFrom_3 17 rfl rfl)
abbrev cX0_wayAt : ByteArray := prog_1_method_37_code
def yX0_wayAt : MethodName := ⟨RX0, "wayAt", "(II)I"⟩
def dkwX0_wayAt_8 : List UInt8 := [180, 1, 25, 21, 8, 46, 54, 7, 132, 9, 1, 167, 255, 143, 21, 8, 172]
abbrev dktX0_wayAt_8 : List UInt8 := dkwX0_wayAt_8 ++ []
def dkwX0_wayAt_7 : List UInt8 := [54, 5, 42, 180, 0, 111, 21, 5, 50, 21, 8, 46, 54, 4, 45, 180, 1, 22, 21, 8, 46, 54, 6, 45]
abbrev dktX0_wayAt_7 : List UInt8 := dkwX0_wayAt_7 ++ dktX0_wayAt_8
def dkwX0_wayAt_6 : List UInt8 := [21, 8, 46, 96, 21, 4, 159, 0, 9, 132, 8, 1, 167, 255, 199, 21, 5, 4, 21, 8, 120, 2, 130, 126]
abbrev dktX0_wayAt_6 : List UInt8 := dkwX0_wayAt_6 ++ dktX0_wayAt_7
def dkwX0_wayAt_5 : List UInt8 := [180, 1, 25, 21, 8, 46, 184, 1, 28, 42, 180, 0, 111, 21, 5, 4, 21, 8, 120, 2, 130, 126, 50]
abbrev dktX0_wayAt_5 : List UInt8 := dkwX0_wayAt_5 ++ dktX0_wayAt_6
def dkwX0_wayAt_4 : List UInt8 := [54, 8, 21, 5, 21, 8, 122, 4, 126, 153, 0, 47, 21, 6, 21, 7, 45, 180, 1, 22, 21, 8, 46, 45]
abbrev dktX0_wayAt_4 : List UInt8 := dkwX0_wayAt_4 ++ dktX0_wayAt_5
def dkwX0_wayAt_3 : List UInt8 := [180, 0, 204, 54, 6, 45, 180, 0, 209, 54, 7, 3, 54, 8, 3, 54, 9, 21, 9, 28, 163, 0, 113, 3]
abbrev dktX0_wayAt_3 : List UInt8 := dkwX0_wayAt_3 ++ dktX0_wayAt_4
def dkwX0_wayAt_2 : List UInt8 := [192, 0, 187, 78, 42, 27, 182, 1, 40, 54, 4, 4, 45, 180, 1, 18, 120, 4, 100, 54, 5, 45]
abbrev dktX0_wayAt_2 : List UInt8 := dkwX0_wayAt_2 ++ dktX0_wayAt_3
def dkwX0_wayAt_1 : List UInt8 := [180, 1, 18, 4, 100, 184, 0, 175, 154, 0, 5, 2, 172, 42, 180, 0, 52, 180, 0, 163, 27, 182, 0, 183]
abbrev dktX0_wayAt_1 : List UInt8 := dkwX0_wayAt_1 ++ dktX0_wayAt_2
def dkwX0_wayAt_0 : List UInt8 := [42, 27, 182, 0, 179, 153, 0, 30, 28, 3, 42, 180, 0, 52, 180, 0, 163, 27, 182, 0, 183, 192, 0, 187]
abbrev dktX0_wayAt_0 : List UInt8 := dkwX0_wayAt_0 ++ dktX0_wayAt_1
theorem dksX0_wayAt_0 : cX0_wayAt.data.toList.drop 0 = dktX0_wayAt_0 := by decide +kernel
theorem dksX0_wayAt_1 : cX0_wayAt.data.toList.drop 24 = dktX0_wayAt_1 := dk_seg dksX0_wayAt_0 24 rfl rfl
theorem dksX0_wayAt_2 : cX0_wayAt.data.toList.drop 48 = dktX0_wayAt_2 := dk_seg dksX0_wayAt_1 24 rfl rfl
theorem dksX0_wayAt_3 : cX0_wayAt.data.toList.drop 70 = dktX0_wayAt_3 := dk_seg dksX0_wayAt_2 22 rfl rfl
theorem dksX0_wayAt_4 : cX0_wayAt.data.toList.drop 94 = dktX0_wayAt_4 := dk_seg dksX0_wayAt_3 24 rfl rfl
theorem dksX0_wayAt_5 : cX0_wayAt.data.toList.drop 118 = dktX0_wayAt_5 := dk_seg dksX0_wayAt_4 24 rfl rfl
theorem dksX0_wayAt_6 : cX0_wayAt.data.toList.drop 141 = dktX0_wayAt_6 := dk_seg dksX0_wayAt_5 23 rfl rfl
theorem dksX0_wayAt_7 : cX0_wayAt.data.toList.drop 165 = dktX0_wayAt_7 := dk_seg dksX0_wayAt_6 24 rfl rfl
theorem dksX0_wayAt_8 : cX0_wayAt.data.toList.drop 189 = dktX0_wayAt_8 := dk_seg dksX0_wayAt_7 24 rfl rfl
theorem dX0_wayAt_0 : decode cX0_wayAt 0 = .ok (.aload_n 0, 1) := dk_42 (dk_at dksX0_wayAt_0 0 rfl rfl)
theorem dX0_wayAt_1 : decode cX0_wayAt 1 = .ok (.iload_n 1, 1) := dk_27 (dk_at dksX0_wayAt_0 1 rfl rfl)
theorem dX0_wayAt_2 : decode cX0_wayAt 2 = .ok (.invokevirtual 179, 3) := dk_182 0 179 (dk_at dksX0_wayAt_0 2 rfl rfl)
theorem dX0_wayAt_5 : decode cX0_wayAt 5 = .ok (.ifCond .eq 30, 3) := dk_153 0 30 (dk_at dksX0_wayAt_0 5 rfl rfl)
theorem dX0_wayAt_8 : decode cX0_wayAt 8 = .ok (.iload_n 2, 1) := dk_28 (dk_at dksX0_wayAt_0 8 rfl rfl)
theorem dX0_wayAt_9 : decode cX0_wayAt 9 = .ok (.iconst 0, 1) := dk_3 (dk_at dksX0_wayAt_0 9 rfl rfl)
theorem dX0_wayAt_10 : decode cX0_wayAt 10 = .ok (.aload_n 0, 1) := dk_42 (dk_at dksX0_wayAt_0 10 rfl rfl)
theorem dX0_wayAt_11 : decode cX0_wayAt 11 = .ok (.getfield 52, 3) := dk_180 0 52 (dk_at dksX0_wayAt_0 11 rfl rfl)
theorem dX0_wayAt_14 : decode cX0_wayAt 14 = .ok (.getfield 163, 3) := dk_180 0 163 (dk_at dksX0_wayAt_0 14 rfl rfl)
theorem dX0_wayAt_17 : decode cX0_wayAt 17 = .ok (.iload_n 1, 1) := dk_27 (dk_at dksX0_wayAt_0 17 rfl rfl)
theorem dX0_wayAt_18 : decode cX0_wayAt 18 = .ok (.invokevirtual 183, 3) := dk_182 0 183 (dk_at dksX0_wayAt_0 18 rfl rfl)
theorem dX0_wayAt_21 : decode cX0_wayAt 21 = .ok (.checkcast 187, 3) := dk_192 0 187 (dk_at dksX0_wayAt_0 21 rfl rfl)
theorem dX0_wayAt_24 : decode cX0_wayAt 24 = .ok (.getfield 274, 3) := dk_180 1 18 (dk_at dksX0_wayAt_1 0 rfl rfl)
theorem dX0_wayAt_27 : decode cX0_wayAt 27 = .ok (.iconst 1, 1) := dk_4 (dk_at dksX0_wayAt_1 3 rfl rfl)
theorem dX0_wayAt_28 : decode cX0_wayAt 28 = .ok (.isub, 1) := dk_100 (dk_at dksX0_wayAt_1 4 rfl rfl)
theorem dX0_wayAt_29 : decode cX0_wayAt 29 = .ok (.invokestatic 175, 3) := dk_184 0 175 (dk_at dksX0_wayAt_1 5 rfl rfl)
theorem dX0_wayAt_32 : decode cX0_wayAt 32 = .ok (.ifCond .ne 5, 3) := dk_154 0 5 (dk_at dksX0_wayAt_1 8 rfl rfl)
theorem dX0_wayAt_35 : decode cX0_wayAt 35 = .ok (.iconst (-1), 1) := dk_2 (dk_at dksX0_wayAt_1 11 rfl rfl)
theorem dX0_wayAt_36 : decode cX0_wayAt 36 = .ok (.ireturn, 1) := dk_172 (dk_at dksX0_wayAt_1 12 rfl rfl)
theorem dX0_wayAt_37 : decode cX0_wayAt 37 = .ok (.aload_n 0, 1) := dk_42 (dk_at dksX0_wayAt_1 13 rfl rfl)
theorem dX0_wayAt_38 : decode cX0_wayAt 38 = .ok (.getfield 52, 3) := dk_180 0 52 (dk_at dksX0_wayAt_1 14 rfl rfl)
theorem dX0_wayAt_41 : decode cX0_wayAt 41 = .ok (.getfield 163, 3) := dk_180 0 163 (dk_at dksX0_wayAt_1 17 rfl rfl)
theorem dX0_wayAt_44 : decode cX0_wayAt 44 = .ok (.iload_n 1, 1) := dk_27 (dk_at dksX0_wayAt_1 20 rfl rfl)
theorem dX0_wayAt_45 : decode cX0_wayAt 45 = .ok (.invokevirtual 183, 3) := dk_182 0 183 (dk_at dksX0_wayAt_1 21 rfl rfl)
theorem dX0_wayAt_48 : decode cX0_wayAt 48 = .ok (.checkcast 187, 3) := dk_192 0 187 (dk_at dksX0_wayAt_2 0 rfl rfl)
theorem dX0_wayAt_51 : decode cX0_wayAt 51 = .ok (.astore_n 3, 1) := dk_78 (dk_at dksX0_wayAt_2 3 rfl rfl)
theorem dX0_wayAt_52 : decode cX0_wayAt 52 = .ok (.aload_n 0, 1) := dk_42 (dk_at dksX0_wayAt_2 4 rfl rfl)
theorem dX0_wayAt_53 : decode cX0_wayAt 53 = .ok (.iload_n 1, 1) := dk_27 (dk_at dksX0_wayAt_2 5 rfl rfl)
theorem dX0_wayAt_54 : decode cX0_wayAt 54 = .ok (.invokevirtual 296, 3) := dk_182 1 40 (dk_at dksX0_wayAt_2 6 rfl rfl)
theorem dX0_wayAt_57 : decode cX0_wayAt 57 = .ok (.istore 4, 2) := dk_54 4 (dk_at dksX0_wayAt_2 9 rfl rfl)
theorem dX0_wayAt_59 : decode cX0_wayAt 59 = .ok (.iconst 1, 1) := dk_4 (dk_at dksX0_wayAt_2 11 rfl rfl)
theorem dX0_wayAt_60 : decode cX0_wayAt 60 = .ok (.aload_n 3, 1) := dk_45 (dk_at dksX0_wayAt_2 12 rfl rfl)
theorem dX0_wayAt_61 : decode cX0_wayAt 61 = .ok (.getfield 274, 3) := dk_180 1 18 (dk_at dksX0_wayAt_2 13 rfl rfl)
theorem dX0_wayAt_64 : decode cX0_wayAt 64 = .ok (.ishl, 1) := dk_120 (dk_at dksX0_wayAt_2 16 rfl rfl)
theorem dX0_wayAt_65 : decode cX0_wayAt 65 = .ok (.iconst 1, 1) := dk_4 (dk_at dksX0_wayAt_2 17 rfl rfl)
theorem dX0_wayAt_66 : decode cX0_wayAt 66 = .ok (.isub, 1) := dk_100 (dk_at dksX0_wayAt_2 18 rfl rfl)
theorem dX0_wayAt_67 : decode cX0_wayAt 67 = .ok (.istore 5, 2) := dk_54 5 (dk_at dksX0_wayAt_2 19 rfl rfl)
theorem dX0_wayAt_69 : decode cX0_wayAt 69 = .ok (.aload_n 3, 1) := dk_45 (dk_at dksX0_wayAt_2 21 rfl rfl)
theorem dX0_wayAt_70 : decode cX0_wayAt 70 = .ok (.getfield 204, 3) := dk_180 0 204 (dk_at dksX0_wayAt_3 0 rfl rfl)
theorem dX0_wayAt_73 : decode cX0_wayAt 73 = .ok (.istore 6, 2) := dk_54 6 (dk_at dksX0_wayAt_3 3 rfl rfl)
theorem dX0_wayAt_75 : decode cX0_wayAt 75 = .ok (.aload_n 3, 1) := dk_45 (dk_at dksX0_wayAt_3 5 rfl rfl)
theorem dX0_wayAt_76 : decode cX0_wayAt 76 = .ok (.getfield 209, 3) := dk_180 0 209 (dk_at dksX0_wayAt_3 6 rfl rfl)
theorem dX0_wayAt_79 : decode cX0_wayAt 79 = .ok (.istore 7, 2) := dk_54 7 (dk_at dksX0_wayAt_3 9 rfl rfl)
theorem dX0_wayAt_81 : decode cX0_wayAt 81 = .ok (.iconst 0, 1) := dk_3 (dk_at dksX0_wayAt_3 11 rfl rfl)
theorem dX0_wayAt_82 : decode cX0_wayAt 82 = .ok (.istore 8, 2) := dk_54 8 (dk_at dksX0_wayAt_3 12 rfl rfl)
theorem dX0_wayAt_84 : decode cX0_wayAt 84 = .ok (.iconst 0, 1) := dk_3 (dk_at dksX0_wayAt_3 14 rfl rfl)
theorem dX0_wayAt_85 : decode cX0_wayAt 85 = .ok (.istore 9, 2) := dk_54 9 (dk_at dksX0_wayAt_3 15 rfl rfl)
theorem dX0_wayAt_87 : decode cX0_wayAt 87 = .ok (.iload 9, 2) := dk_21 9 (dk_at dksX0_wayAt_3 17 rfl rfl)
theorem dX0_wayAt_89 : decode cX0_wayAt 89 = .ok (.iload_n 2, 1) := dk_28 (dk_at dksX0_wayAt_3 19 rfl rfl)
theorem dX0_wayAt_90 : decode cX0_wayAt 90 = .ok (.if_icmp .gt 113, 3) := dk_163 0 113 (dk_at dksX0_wayAt_3 20 rfl rfl)
theorem dX0_wayAt_93 : decode cX0_wayAt 93 = .ok (.iconst 0, 1) := dk_3 (dk_at dksX0_wayAt_3 23 rfl rfl)
theorem dX0_wayAt_94 : decode cX0_wayAt 94 = .ok (.istore 8, 2) := dk_54 8 (dk_at dksX0_wayAt_4 0 rfl rfl)
theorem dX0_wayAt_96 : decode cX0_wayAt 96 = .ok (.iload 5, 2) := dk_21 5 (dk_at dksX0_wayAt_4 2 rfl rfl)
theorem dX0_wayAt_98 : decode cX0_wayAt 98 = .ok (.iload 8, 2) := dk_21 8 (dk_at dksX0_wayAt_4 4 rfl rfl)
theorem dX0_wayAt_100 : decode cX0_wayAt 100 = .ok (.ishr, 1) := dk_122 (dk_at dksX0_wayAt_4 6 rfl rfl)
theorem dX0_wayAt_101 : decode cX0_wayAt 101 = .ok (.iconst 1, 1) := dk_4 (dk_at dksX0_wayAt_4 7 rfl rfl)
theorem dX0_wayAt_102 : decode cX0_wayAt 102 = .ok (.iand, 1) := dk_126 (dk_at dksX0_wayAt_4 8 rfl rfl)
theorem dX0_wayAt_103 : decode cX0_wayAt 103 = .ok (.ifCond .eq 47, 3) := dk_153 0 47 (dk_at dksX0_wayAt_4 9 rfl rfl)
theorem dX0_wayAt_106 : decode cX0_wayAt 106 = .ok (.iload 6, 2) := dk_21 6 (dk_at dksX0_wayAt_4 12 rfl rfl)
theorem dX0_wayAt_108 : decode cX0_wayAt 108 = .ok (.iload 7, 2) := dk_21 7 (dk_at dksX0_wayAt_4 14 rfl rfl)
theorem dX0_wayAt_110 : decode cX0_wayAt 110 = .ok (.aload_n 3, 1) := dk_45 (dk_at dksX0_wayAt_4 16 rfl rfl)
theorem dX0_wayAt_111 : decode cX0_wayAt 111 = .ok (.getfield 278, 3) := dk_180 1 22 (dk_at dksX0_wayAt_4 17 rfl rfl)
theorem dX0_wayAt_114 : decode cX0_wayAt 114 = .ok (.iload 8, 2) := dk_21 8 (dk_at dksX0_wayAt_4 20 rfl rfl)
theorem dX0_wayAt_116 : decode cX0_wayAt 116 = .ok (.iaload, 1) := dk_46 (dk_at dksX0_wayAt_4 22 rfl rfl)
theorem dX0_wayAt_117 : decode cX0_wayAt 117 = .ok (.aload_n 3, 1) := dk_45 (dk_at dksX0_wayAt_4 23 rfl rfl)
theorem dX0_wayAt_118 : decode cX0_wayAt 118 = .ok (.getfield 281, 3) := dk_180 1 25 (dk_at dksX0_wayAt_5 0 rfl rfl)
theorem dX0_wayAt_121 : decode cX0_wayAt 121 = .ok (.iload 8, 2) := dk_21 8 (dk_at dksX0_wayAt_5 3 rfl rfl)
theorem dX0_wayAt_123 : decode cX0_wayAt 123 = .ok (.iaload, 1) := dk_46 (dk_at dksX0_wayAt_5 5 rfl rfl)
theorem dX0_wayAt_124 : decode cX0_wayAt 124 = .ok (.invokestatic 284, 3) := dk_184 1 28 (dk_at dksX0_wayAt_5 6 rfl rfl)
theorem dX0_wayAt_127 : decode cX0_wayAt 127 = .ok (.aload_n 0, 1) := dk_42 (dk_at dksX0_wayAt_5 9 rfl rfl)
theorem dX0_wayAt_128 : decode cX0_wayAt 128 = .ok (.getfield 111, 3) := dk_180 0 111 (dk_at dksX0_wayAt_5 10 rfl rfl)
theorem dX0_wayAt_131 : decode cX0_wayAt 131 = .ok (.iload 5, 2) := dk_21 5 (dk_at dksX0_wayAt_5 13 rfl rfl)
theorem dX0_wayAt_133 : decode cX0_wayAt 133 = .ok (.iconst 1, 1) := dk_4 (dk_at dksX0_wayAt_5 15 rfl rfl)
theorem dX0_wayAt_134 : decode cX0_wayAt 134 = .ok (.iload 8, 2) := dk_21 8 (dk_at dksX0_wayAt_5 16 rfl rfl)
theorem dX0_wayAt_136 : decode cX0_wayAt 136 = .ok (.ishl, 1) := dk_120 (dk_at dksX0_wayAt_5 18 rfl rfl)
theorem dX0_wayAt_137 : decode cX0_wayAt 137 = .ok (.iconst (-1), 1) := dk_2 (dk_at dksX0_wayAt_5 19 rfl rfl)
theorem dX0_wayAt_138 : decode cX0_wayAt 138 = .ok (.ixor, 1) := dk_130 (dk_at dksX0_wayAt_5 20 rfl rfl)
theorem dX0_wayAt_139 : decode cX0_wayAt 139 = .ok (.iand, 1) := dk_126 (dk_at dksX0_wayAt_5 21 rfl rfl)
theorem dX0_wayAt_140 : decode cX0_wayAt 140 = .ok (.aaload, 1) := dk_50 (dk_at dksX0_wayAt_5 22 rfl rfl)
theorem dX0_wayAt_141 : decode cX0_wayAt 141 = .ok (.iload 8, 2) := dk_21 8 (dk_at dksX0_wayAt_6 0 rfl rfl)
theorem dX0_wayAt_143 : decode cX0_wayAt 143 = .ok (.iaload, 1) := dk_46 (dk_at dksX0_wayAt_6 2 rfl rfl)
theorem dX0_wayAt_144 : decode cX0_wayAt 144 = .ok (.iadd, 1) := dk_96 (dk_at dksX0_wayAt_6 3 rfl rfl)
theorem dX0_wayAt_145 : decode cX0_wayAt 145 = .ok (.iload 4, 2) := dk_21 4 (dk_at dksX0_wayAt_6 4 rfl rfl)
theorem dX0_wayAt_147 : decode cX0_wayAt 147 = .ok (.if_icmp .eq 9, 3) := dk_159 0 9 (dk_at dksX0_wayAt_6 6 rfl rfl)
theorem dX0_wayAt_150 : decode cX0_wayAt 150 = .ok (.iinc 8 1, 3) := dk_132 8 1 (dk_at dksX0_wayAt_6 9 rfl rfl)
theorem dX0_wayAt_153 : decode cX0_wayAt 153 = .ok (.goto (-57), 3) := dk_167 255 199 (dk_at dksX0_wayAt_6 12 rfl rfl)
theorem dX0_wayAt_156 : decode cX0_wayAt 156 = .ok (.iload 5, 2) := dk_21 5 (dk_at dksX0_wayAt_6 15 rfl rfl)
theorem dX0_wayAt_158 : decode cX0_wayAt 158 = .ok (.iconst 1, 1) := dk_4 (dk_at dksX0_wayAt_6 17 rfl rfl)
theorem dX0_wayAt_159 : decode cX0_wayAt 159 = .ok (.iload 8, 2) := dk_21 8 (dk_at dksX0_wayAt_6 18 rfl rfl)
theorem dX0_wayAt_161 : decode cX0_wayAt 161 = .ok (.ishl, 1) := dk_120 (dk_at dksX0_wayAt_6 20 rfl rfl)
theorem dX0_wayAt_162 : decode cX0_wayAt 162 = .ok (.iconst (-1), 1) := dk_2 (dk_at dksX0_wayAt_6 21 rfl rfl)
theorem dX0_wayAt_163 : decode cX0_wayAt 163 = .ok (.ixor, 1) := dk_130 (dk_at dksX0_wayAt_6 22 rfl rfl)
theorem dX0_wayAt_164 : decode cX0_wayAt 164 = .ok (.iand, 1) := dk_126 (dk_at dksX0_wayAt_6 23 rfl rfl)
theorem dX0_wayAt_165 : decode cX0_wayAt 165 = .ok (.istore 5, 2) := dk_54 5 (dk_at dksX0_wayAt_7 0 rfl rfl)
theorem dX0_wayAt_167 : decode cX0_wayAt 167 = .ok (.aload_n 0, 1) := dk_42 (dk_at dksX0_wayAt_7 2 rfl rfl)
theorem dX0_wayAt_168 : decode cX0_wayAt 168 = .ok (.getfield 111, 3) := dk_180 0 111 (dk_at dksX0_wayAt_7 3 rfl rfl)
theorem dX0_wayAt_171 : decode cX0_wayAt 171 = .ok (.iload 5, 2) := dk_21 5 (dk_at dksX0_wayAt_7 6 rfl rfl)
theorem dX0_wayAt_173 : decode cX0_wayAt 173 = .ok (.aaload, 1) := dk_50 (dk_at dksX0_wayAt_7 8 rfl rfl)
theorem dX0_wayAt_174 : decode cX0_wayAt 174 = .ok (.iload 8, 2) := dk_21 8 (dk_at dksX0_wayAt_7 9 rfl rfl)
theorem dX0_wayAt_176 : decode cX0_wayAt 176 = .ok (.iaload, 1) := dk_46 (dk_at dksX0_wayAt_7 11 rfl rfl)
theorem dX0_wayAt_177 : decode cX0_wayAt 177 = .ok (.istore 4, 2) := dk_54 4 (dk_at dksX0_wayAt_7 12 rfl rfl)
theorem dX0_wayAt_179 : decode cX0_wayAt 179 = .ok (.aload_n 3, 1) := dk_45 (dk_at dksX0_wayAt_7 14 rfl rfl)
theorem dX0_wayAt_180 : decode cX0_wayAt 180 = .ok (.getfield 278, 3) := dk_180 1 22 (dk_at dksX0_wayAt_7 15 rfl rfl)
theorem dX0_wayAt_183 : decode cX0_wayAt 183 = .ok (.iload 8, 2) := dk_21 8 (dk_at dksX0_wayAt_7 18 rfl rfl)
theorem dX0_wayAt_185 : decode cX0_wayAt 185 = .ok (.iaload, 1) := dk_46 (dk_at dksX0_wayAt_7 20 rfl rfl)
theorem dX0_wayAt_186 : decode cX0_wayAt 186 = .ok (.istore 6, 2) := dk_54 6 (dk_at dksX0_wayAt_7 21 rfl rfl)
theorem dX0_wayAt_188 : decode cX0_wayAt 188 = .ok (.aload_n 3, 1) := dk_45 (dk_at dksX0_wayAt_7 23 rfl rfl)
theorem dX0_wayAt_189 : decode cX0_wayAt 189 = .ok (.getfield 281, 3) := dk_180 1 25 (dk_at dksX0_wayAt_8 0 rfl rfl)
theorem dX0_wayAt_192 : decode cX0_wayAt 192 = .ok (.iload 8, 2) := dk_21 8 (dk_at dksX0_wayAt_8 3 rfl rfl)
theorem dX0_wayAt_194 : decode cX0_wayAt 194 = .ok (.iaload, 1) := dk_46 (dk_at dksX0_wayAt_8 5 rfl rfl)
theorem dX0_wayAt_195 : decode cX0_wayAt 195 = .ok (.istore 7, 2) := dk_54 7 (dk_at dksX0_wayAt_8 6 rfl rfl)
theorem dX0_wayAt_197 : decode cX0_wayAt 197 = .ok (.iinc 9 1, 3) := dk_132 9 1 (dk_at dksX0_wayAt_8 8 rfl rfl)
theorem dX0_wayAt_200 : decode cX0_wayAt 200 = .ok (.goto (-113), 3) := dk_167 255 143 (dk_at dksX0_wayAt_8 11 rfl rfl)
theorem dX0_wayAt_203 : decode cX0_wayAt 203 = .ok (.iload 8, 2) := dk_21 8 (dk_at dksX0_wayAt_8 14 rfl rfl)
theorem dX0_wayAt_205 : decode cX0_wayAt 205 = .ok (.ireturn, 1) := dk_172 (dk_at dksX0_wayAt_8 16 rfl rfl)
abbrev cX0_lives : ByteArray := prog_1_method_38_code
def yX0_lives : MethodName := ⟨RX0, "lives", "(I)I"⟩
def dkwX0_lives_4 : List UInt8 := [167, 255, 212, 132, 4, 1, 167, 255, 191, 29, 172]
abbrev dktX0_lives_4 : List UInt8 := dkwX0_lives_4 ++ []
def dkwX0_lives_3 : List UInt8 := [42, 180, 0, 63, 180, 0, 198, 27, 46, 163, 0, 7, 4, 167, 0, 4, 3, 96, 62, 132, 5, 1]
abbrev dktX0_lives_3 : List UInt8 := dkwX0_lives_3 ++ dktX0_lives_4
def dkwX0_lives_2 : List UInt8 := [54, 5, 21, 5, 42, 180, 0, 52, 180, 1, 45, 162, 0, 38, 29, 42, 44, 21, 5, 21, 4, 182, 1, 36]
abbrev dktX0_lives_2 : List UInt8 := dkwX0_lives_2 ++ dktX0_lives_3
def dkwX0_lives_1 : List UInt8 := [77, 3, 62, 42, 44, 182, 1, 32, 3, 54, 4, 21, 4, 42, 180, 0, 52, 180, 1, 42, 162, 0, 59, 3]
abbrev dktX0_lives_1 : List UInt8 := dkwX0_lives_1 ++ dktX0_lives_2
def dkwX0_lives_0 : List UInt8 := [42, 27, 182, 0, 179, 154, 0, 5, 2, 172, 42, 180, 0, 52, 180, 0, 163, 27, 182, 0, 183, 192, 0, 187]
abbrev dktX0_lives_0 : List UInt8 := dkwX0_lives_0 ++ dktX0_lives_1
theorem dksX0_lives_0 : cX0_lives.data.toList.drop 0 = dktX0_lives_0 := by decide +kernel
theorem dksX0_lives_1 : cX0_lives.data.toList.drop 24 = dktX0_lives_1 := dk_seg dksX0_lives_0 24 rfl rfl
theorem dksX0_lives_2 : cX0_lives.data.toList.drop 48 = dktX0_lives_2 := dk_seg dksX0_lives_1 24 rfl rfl
theorem dksX0_lives_3 : cX0_lives.data.toList.drop 72 = dktX0_lives_3 := dk_seg dksX0_lives_2 24 rfl rfl
theorem dksX0_lives_4 : cX0_lives.data.toList.drop 94 = dktX0_lives_4 := dk_seg dksX0_lives_3 22 rfl rfl
theorem dX0_lives_0 : decode cX0_lives 0 = .ok (.aload_n 0, 1) := dk_42 (dk_at dksX0_lives_0 0 rfl rfl)
theorem dX0_lives_1 : decode cX0_lives 1 = .ok (.iload_n 1, 1) := dk_27 (dk_at dksX0_lives_0 1 rfl rfl)
theorem dX0_lives_2 : decode cX0_lives 2 = .ok (.invokevirtual 179, 3) := dk_182 0 179 (dk_at dksX0_lives_0 2 rfl rfl)
theorem dX0_lives_5 : decode cX0_lives 5 = .ok (.ifCond .ne 5, 3) := dk_154 0 5 (dk_at dksX0_lives_0 5 rfl rfl)
theorem dX0_lives_8 : decode cX0_lives 8 = .ok (.iconst (-1), 1) := dk_2 (dk_at dksX0_lives_0 8 rfl rfl)
theorem dX0_lives_9 : decode cX0_lives 9 = .ok (.ireturn, 1) := dk_172 (dk_at dksX0_lives_0 9 rfl rfl)
theorem dX0_lives_10 : decode cX0_lives 10 = .ok (.aload_n 0, 1) := dk_42 (dk_at dksX0_lives_0 10 rfl rfl)
theorem dX0_lives_11 : decode cX0_lives 11 = .ok (.getfield 52, 3) := dk_180 0 52 (dk_at dksX0_lives_0 11 rfl rfl)
theorem dX0_lives_14 : decode cX0_lives 14 = .ok (.getfield 163, 3) := dk_180 0 163 (dk_at dksX0_lives_0 14 rfl rfl)
theorem dX0_lives_17 : decode cX0_lives 17 = .ok (.iload_n 1, 1) := dk_27 (dk_at dksX0_lives_0 17 rfl rfl)
theorem dX0_lives_18 : decode cX0_lives 18 = .ok (.invokevirtual 183, 3) := dk_182 0 183 (dk_at dksX0_lives_0 18 rfl rfl)
theorem dX0_lives_21 : decode cX0_lives 21 = .ok (.checkcast 187, 3) := dk_192 0 187 (dk_at dksX0_lives_0 21 rfl rfl)
theorem dX0_lives_24 : decode cX0_lives 24 = .ok (.astore_n 2, 1) := dk_77 (dk_at dksX0_lives_1 0 rfl rfl)
theorem dX0_lives_25 : decode cX0_lives 25 = .ok (.iconst 0, 1) := dk_3 (dk_at dksX0_lives_1 1 rfl rfl)
theorem dX0_lives_26 : decode cX0_lives 26 = .ok (.istore_n 3, 1) := dk_62 (dk_at dksX0_lives_1 2 rfl rfl)
theorem dX0_lives_27 : decode cX0_lives 27 = .ok (.aload_n 0, 1) := dk_42 (dk_at dksX0_lives_1 3 rfl rfl)
theorem dX0_lives_28 : decode cX0_lives 28 = .ok (.aload_n 2, 1) := dk_44 (dk_at dksX0_lives_1 4 rfl rfl)
theorem dX0_lives_29 : decode cX0_lives 29 = .ok (.invokevirtual 288, 3) := dk_182 1 32 (dk_at dksX0_lives_1 5 rfl rfl)
theorem dX0_lives_32 : decode cX0_lives 32 = .ok (.iconst 0, 1) := dk_3 (dk_at dksX0_lives_1 8 rfl rfl)
theorem dX0_lives_33 : decode cX0_lives 33 = .ok (.istore 4, 2) := dk_54 4 (dk_at dksX0_lives_1 9 rfl rfl)
theorem dX0_lives_35 : decode cX0_lives 35 = .ok (.iload 4, 2) := dk_21 4 (dk_at dksX0_lives_1 11 rfl rfl)
theorem dX0_lives_37 : decode cX0_lives 37 = .ok (.aload_n 0, 1) := dk_42 (dk_at dksX0_lives_1 13 rfl rfl)
theorem dX0_lives_38 : decode cX0_lives 38 = .ok (.getfield 52, 3) := dk_180 0 52 (dk_at dksX0_lives_1 14 rfl rfl)
theorem dX0_lives_41 : decode cX0_lives 41 = .ok (.getfield 298, 3) := dk_180 1 42 (dk_at dksX0_lives_1 17 rfl rfl)
theorem dX0_lives_44 : decode cX0_lives 44 = .ok (.if_icmp .ge 59, 3) := dk_162 0 59 (dk_at dksX0_lives_1 20 rfl rfl)
theorem dX0_lives_47 : decode cX0_lives 47 = .ok (.iconst 0, 1) := dk_3 (dk_at dksX0_lives_1 23 rfl rfl)
theorem dX0_lives_48 : decode cX0_lives 48 = .ok (.istore 5, 2) := dk_54 5 (dk_at dksX0_lives_2 0 rfl rfl)
theorem dX0_lives_50 : decode cX0_lives 50 = .ok (.iload 5, 2) := dk_21 5 (dk_at dksX0_lives_2 2 rfl rfl)
theorem dX0_lives_52 : decode cX0_lives 52 = .ok (.aload_n 0, 1) := dk_42 (dk_at dksX0_lives_2 4 rfl rfl)
theorem dX0_lives_53 : decode cX0_lives 53 = .ok (.getfield 52, 3) := dk_180 0 52 (dk_at dksX0_lives_2 5 rfl rfl)
theorem dX0_lives_56 : decode cX0_lives 56 = .ok (.getfield 301, 3) := dk_180 1 45 (dk_at dksX0_lives_2 8 rfl rfl)
theorem dX0_lives_59 : decode cX0_lives 59 = .ok (.if_icmp .ge 38, 3) := dk_162 0 38 (dk_at dksX0_lives_2 11 rfl rfl)
theorem dX0_lives_62 : decode cX0_lives 62 = .ok (.iload_n 3, 1) := dk_29 (dk_at dksX0_lives_2 14 rfl rfl)
theorem dX0_lives_63 : decode cX0_lives 63 = .ok (.aload_n 0, 1) := dk_42 (dk_at dksX0_lives_2 15 rfl rfl)
theorem dX0_lives_64 : decode cX0_lives 64 = .ok (.aload_n 2, 1) := dk_44 (dk_at dksX0_lives_2 16 rfl rfl)
theorem dX0_lives_65 : decode cX0_lives 65 = .ok (.iload 5, 2) := dk_21 5 (dk_at dksX0_lives_2 17 rfl rfl)
theorem dX0_lives_67 : decode cX0_lives 67 = .ok (.iload 4, 2) := dk_21 4 (dk_at dksX0_lives_2 19 rfl rfl)
theorem dX0_lives_69 : decode cX0_lives 69 = .ok (.invokevirtual 292, 3) := dk_182 1 36 (dk_at dksX0_lives_2 21 rfl rfl)
theorem dX0_lives_72 : decode cX0_lives 72 = .ok (.aload_n 0, 1) := dk_42 (dk_at dksX0_lives_3 0 rfl rfl)
theorem dX0_lives_73 : decode cX0_lives 73 = .ok (.getfield 63, 3) := dk_180 0 63 (dk_at dksX0_lives_3 1 rfl rfl)
theorem dX0_lives_76 : decode cX0_lives 76 = .ok (.getfield 198, 3) := dk_180 0 198 (dk_at dksX0_lives_3 4 rfl rfl)
theorem dX0_lives_79 : decode cX0_lives 79 = .ok (.iload_n 1, 1) := dk_27 (dk_at dksX0_lives_3 7 rfl rfl)
theorem dX0_lives_80 : decode cX0_lives 80 = .ok (.iaload, 1) := dk_46 (dk_at dksX0_lives_3 8 rfl rfl)
theorem dX0_lives_81 : decode cX0_lives 81 = .ok (.if_icmp .gt 7, 3) := dk_163 0 7 (dk_at dksX0_lives_3 9 rfl rfl)
theorem dX0_lives_84 : decode cX0_lives 84 = .ok (.iconst 1, 1) := dk_4 (dk_at dksX0_lives_3 12 rfl rfl)
theorem dX0_lives_85 : decode cX0_lives 85 = .ok (.goto 4, 3) := dk_167 0 4 (dk_at dksX0_lives_3 13 rfl rfl)
theorem dX0_lives_88 : decode cX0_lives 88 = .ok (.iconst 0, 1) := dk_3 (dk_at dksX0_lives_3 16 rfl rfl)
theorem dX0_lives_89 : decode cX0_lives 89 = .ok (.iadd, 1) := dk_96 (dk_at dksX0_lives_3 17 rfl rfl)
theorem dX0_lives_90 : decode cX0_lives 90 = .ok (.istore_n 3, 1) := dk_62 (dk_at dksX0_lives_3 18 rfl rfl)
theorem dX0_lives_91 : decode cX0_lives 91 = .ok (.iinc 5 1, 3) := dk_132 5 1 (dk_at dksX0_lives_3 19 rfl rfl)
theorem dX0_lives_94 : decode cX0_lives 94 = .ok (.goto (-44), 3) := dk_167 255 212 (dk_at dksX0_lives_4 0 rfl rfl)
theorem dX0_lives_97 : decode cX0_lives 97 = .ok (.iinc 4 1, 3) := dk_132 4 1 (dk_at dksX0_lives_4 3 rfl rfl)
theorem dX0_lives_100 : decode cX0_lives 100 = .ok (.goto (-65), 3) := dk_167 255 191 (dk_at dksX0_lives_4 6 rfl rfl)
theorem dX0_lives_103 : decode cX0_lives 103 = .ok (.iload_n 3, 1) := dk_29 (dk_at dksX0_lives_4 9 rfl rfl)
theorem dX0_lives_104 : decode cX0_lives 104 = .ok (.ireturn, 1) := dk_172 (dk_at dksX0_lives_4 10 rfl rfl)
abbrev cX0_turns : ByteArray := prog_1_method_39_code
def yX0_turns : MethodName := ⟨RX0, "turns", "(II)I"⟩
def dkwX0_turns_7 : List UInt8 := [54, 4, 21, 5, 21, 7, 184, 0, 17, 96, 54, 5, 132, 6, 1, 167, 255, 150, 29, 172]
abbrev dktX0_turns_7 : List UInt8 := dkwX0_turns_7 ++ []
def dkwX0_turns_6 : List UInt8 := [180, 1, 54, 28, 46, 160, 0, 11, 29, 21, 7, 184, 0, 17, 96, 62, 21, 4, 21, 7, 184, 0, 8, 96]
abbrev dktX0_turns_6 : List UInt8 := dkwX0_turns_6 ++ dktX0_turns_7
def dkwX0_turns_5 : List UInt8 := [184, 0, 17, 153, 0, 36, 21, 5, 21, 5, 21, 7, 184, 0, 17, 96, 184, 0, 12, 42, 180, 0, 52]
abbrev dktX0_turns_5 : List UInt8 := dkwX0_turns_5 ++ dktX0_turns_6
def dkwX0_turns_4 : List UInt8 := [27, 50, 21, 6, 46, 54, 7, 21, 4, 42, 180, 0, 52, 180, 1, 51, 28, 46, 164, 0, 44, 21, 7]
abbrev dktX0_turns_4 : List UInt8 := dkwX0_turns_4 ++ dktX0_turns_5
def dkwX0_turns_3 : List UInt8 := [3, 54, 6, 21, 6, 42, 180, 0, 63, 180, 0, 195, 27, 46, 162, 0, 98, 42, 180, 0, 63, 180, 0, 218]
abbrev dktX0_turns_3 : List UInt8 := dkwX0_turns_3 ++ dktX0_turns_4
def dkwX0_turns_2 : List UInt8 := [180, 0, 204, 54, 4, 42, 180, 0, 52, 180, 0, 163, 27, 182, 0, 183, 192, 0, 187, 180, 0, 209, 54, 5]
abbrev dktX0_turns_2 : List UInt8 := dkwX0_turns_2 ++ dktX0_turns_3
def dkwX0_turns_1 : List UInt8 := [154, 0, 7, 17, 252, 24, 172, 3, 62, 42, 180, 0, 52, 180, 0, 163, 27, 182, 0, 183, 192, 0, 187]
abbrev dktX0_turns_1 : List UInt8 := dkwX0_turns_1 ++ dktX0_turns_2
def dkwX0_turns_0 : List UInt8 := [42, 27, 182, 0, 179, 153, 0, 20, 28, 3, 42, 180, 0, 52, 180, 1, 48, 4, 100, 184, 0, 175]
abbrev dktX0_turns_0 : List UInt8 := dkwX0_turns_0 ++ dktX0_turns_1
theorem dksX0_turns_0 : cX0_turns.data.toList.drop 0 = dktX0_turns_0 := by decide +kernel
theorem dksX0_turns_1 : cX0_turns.data.toList.drop 22 = dktX0_turns_1 := dk_seg dksX0_turns_0 22 rfl rfl
theorem dksX0_turns_2 : cX0_turns.data.toList.drop 45 = dktX0_turns_2 := dk_seg dksX0_turns_1 23 rfl rfl
theorem dksX0_turns_3 : cX0_turns.data.toList.drop 69 = dktX0_turns_3 := dk_seg dksX0_turns_2 24 rfl rfl
theorem dksX0_turns_4 : cX0_turns.data.toList.drop 93 = dktX0_turns_4 := dk_seg dksX0_turns_3 24 rfl rfl
theorem dksX0_turns_5 : cX0_turns.data.toList.drop 116 = dktX0_turns_5 := dk_seg dksX0_turns_4 23 rfl rfl
theorem dksX0_turns_6 : cX0_turns.data.toList.drop 139 = dktX0_turns_6 := dk_seg dksX0_turns_5 23 rfl rfl
theorem dksX0_turns_7 : cX0_turns.data.toList.drop 163 = dktX0_turns_7 := dk_seg dksX0_turns_6 24 rfl rfl
theorem dX0_turns_0 : decode cX0_turns 0 = .ok (.aload_n 0, 1) := dk_42 (dk_at dksX0_turns_0 0 rfl rfl)
theorem dX0_turns_1 : decode cX0_turns 1 = .ok (.iload_n 1, 1) := dk_27 (dk_at dksX0_turns_0 1 rfl rfl)
theorem dX0_turns_2 : decode cX0_turns 2 = .ok (.invokevirtual 179, 3) := dk_182 0 179 (dk_at dksX0_turns_0 2 rfl rfl)
theorem dX0_turns_5 : decode cX0_turns 5 = .ok (.ifCond .eq 20, 3) := dk_153 0 20 (dk_at dksX0_turns_0 5 rfl rfl)
theorem dX0_turns_8 : decode cX0_turns 8 = .ok (.iload_n 2, 1) := dk_28 (dk_at dksX0_turns_0 8 rfl rfl)
theorem dX0_turns_9 : decode cX0_turns 9 = .ok (.iconst 0, 1) := dk_3 (dk_at dksX0_turns_0 9 rfl rfl)
theorem dX0_turns_10 : decode cX0_turns 10 = .ok (.aload_n 0, 1) := dk_42 (dk_at dksX0_turns_0 10 rfl rfl)
theorem dX0_turns_11 : decode cX0_turns 11 = .ok (.getfield 52, 3) := dk_180 0 52 (dk_at dksX0_turns_0 11 rfl rfl)
theorem dX0_turns_14 : decode cX0_turns 14 = .ok (.getfield 304, 3) := dk_180 1 48 (dk_at dksX0_turns_0 14 rfl rfl)
theorem dX0_turns_17 : decode cX0_turns 17 = .ok (.iconst 1, 1) := dk_4 (dk_at dksX0_turns_0 17 rfl rfl)
theorem dX0_turns_18 : decode cX0_turns 18 = .ok (.isub, 1) := dk_100 (dk_at dksX0_turns_0 18 rfl rfl)
theorem dX0_turns_19 : decode cX0_turns 19 = .ok (.invokestatic 175, 3) := dk_184 0 175 (dk_at dksX0_turns_0 19 rfl rfl)
theorem dX0_turns_22 : decode cX0_turns 22 = .ok (.ifCond .ne 7, 3) := dk_154 0 7 (dk_at dksX0_turns_1 0 rfl rfl)
theorem dX0_turns_25 : decode cX0_turns 25 = .ok (.sipush (-1000), 3) := dk_17 252 24 (dk_at dksX0_turns_1 3 rfl rfl)
theorem dX0_turns_28 : decode cX0_turns 28 = .ok (.ireturn, 1) := dk_172 (dk_at dksX0_turns_1 6 rfl rfl)
theorem dX0_turns_29 : decode cX0_turns 29 = .ok (.iconst 0, 1) := dk_3 (dk_at dksX0_turns_1 7 rfl rfl)
theorem dX0_turns_30 : decode cX0_turns 30 = .ok (.istore_n 3, 1) := dk_62 (dk_at dksX0_turns_1 8 rfl rfl)
theorem dX0_turns_31 : decode cX0_turns 31 = .ok (.aload_n 0, 1) := dk_42 (dk_at dksX0_turns_1 9 rfl rfl)
theorem dX0_turns_32 : decode cX0_turns 32 = .ok (.getfield 52, 3) := dk_180 0 52 (dk_at dksX0_turns_1 10 rfl rfl)
theorem dX0_turns_35 : decode cX0_turns 35 = .ok (.getfield 163, 3) := dk_180 0 163 (dk_at dksX0_turns_1 13 rfl rfl)
theorem dX0_turns_38 : decode cX0_turns 38 = .ok (.iload_n 1, 1) := dk_27 (dk_at dksX0_turns_1 16 rfl rfl)
theorem dX0_turns_39 : decode cX0_turns 39 = .ok (.invokevirtual 183, 3) := dk_182 0 183 (dk_at dksX0_turns_1 17 rfl rfl)
theorem dX0_turns_42 : decode cX0_turns 42 = .ok (.checkcast 187, 3) := dk_192 0 187 (dk_at dksX0_turns_1 20 rfl rfl)
theorem dX0_turns_45 : decode cX0_turns 45 = .ok (.getfield 204, 3) := dk_180 0 204 (dk_at dksX0_turns_2 0 rfl rfl)
theorem dX0_turns_48 : decode cX0_turns 48 = .ok (.istore 4, 2) := dk_54 4 (dk_at dksX0_turns_2 3 rfl rfl)
theorem dX0_turns_50 : decode cX0_turns 50 = .ok (.aload_n 0, 1) := dk_42 (dk_at dksX0_turns_2 5 rfl rfl)
theorem dX0_turns_51 : decode cX0_turns 51 = .ok (.getfield 52, 3) := dk_180 0 52 (dk_at dksX0_turns_2 6 rfl rfl)
theorem dX0_turns_54 : decode cX0_turns 54 = .ok (.getfield 163, 3) := dk_180 0 163 (dk_at dksX0_turns_2 9 rfl rfl)
theorem dX0_turns_57 : decode cX0_turns 57 = .ok (.iload_n 1, 1) := dk_27 (dk_at dksX0_turns_2 12 rfl rfl)
theorem dX0_turns_58 : decode cX0_turns 58 = .ok (.invokevirtual 183, 3) := dk_182 0 183 (dk_at dksX0_turns_2 13 rfl rfl)
theorem dX0_turns_61 : decode cX0_turns 61 = .ok (.checkcast 187, 3) := dk_192 0 187 (dk_at dksX0_turns_2 16 rfl rfl)
theorem dX0_turns_64 : decode cX0_turns 64 = .ok (.getfield 209, 3) := dk_180 0 209 (dk_at dksX0_turns_2 19 rfl rfl)
theorem dX0_turns_67 : decode cX0_turns 67 = .ok (.istore 5, 2) := dk_54 5 (dk_at dksX0_turns_2 22 rfl rfl)
theorem dX0_turns_69 : decode cX0_turns 69 = .ok (.iconst 0, 1) := dk_3 (dk_at dksX0_turns_3 0 rfl rfl)
theorem dX0_turns_70 : decode cX0_turns 70 = .ok (.istore 6, 2) := dk_54 6 (dk_at dksX0_turns_3 1 rfl rfl)
theorem dX0_turns_72 : decode cX0_turns 72 = .ok (.iload 6, 2) := dk_21 6 (dk_at dksX0_turns_3 3 rfl rfl)
theorem dX0_turns_74 : decode cX0_turns 74 = .ok (.aload_n 0, 1) := dk_42 (dk_at dksX0_turns_3 5 rfl rfl)
theorem dX0_turns_75 : decode cX0_turns 75 = .ok (.getfield 63, 3) := dk_180 0 63 (dk_at dksX0_turns_3 6 rfl rfl)
theorem dX0_turns_78 : decode cX0_turns 78 = .ok (.getfield 195, 3) := dk_180 0 195 (dk_at dksX0_turns_3 9 rfl rfl)
theorem dX0_turns_81 : decode cX0_turns 81 = .ok (.iload_n 1, 1) := dk_27 (dk_at dksX0_turns_3 12 rfl rfl)
theorem dX0_turns_82 : decode cX0_turns 82 = .ok (.iaload, 1) := dk_46 (dk_at dksX0_turns_3 13 rfl rfl)
theorem dX0_turns_83 : decode cX0_turns 83 = .ok (.if_icmp .ge 98, 3) := dk_162 0 98 (dk_at dksX0_turns_3 14 rfl rfl)
theorem dX0_turns_86 : decode cX0_turns 86 = .ok (.aload_n 0, 1) := dk_42 (dk_at dksX0_turns_3 17 rfl rfl)
theorem dX0_turns_87 : decode cX0_turns 87 = .ok (.getfield 63, 3) := dk_180 0 63 (dk_at dksX0_turns_3 18 rfl rfl)
theorem dX0_turns_90 : decode cX0_turns 90 = .ok (.getfield 218, 3) := dk_180 0 218 (dk_at dksX0_turns_3 21 rfl rfl)
theorem dX0_turns_93 : decode cX0_turns 93 = .ok (.iload_n 1, 1) := dk_27 (dk_at dksX0_turns_4 0 rfl rfl)
theorem dX0_turns_94 : decode cX0_turns 94 = .ok (.aaload, 1) := dk_50 (dk_at dksX0_turns_4 1 rfl rfl)
theorem dX0_turns_95 : decode cX0_turns 95 = .ok (.iload 6, 2) := dk_21 6 (dk_at dksX0_turns_4 2 rfl rfl)
theorem dX0_turns_97 : decode cX0_turns 97 = .ok (.iaload, 1) := dk_46 (dk_at dksX0_turns_4 4 rfl rfl)
theorem dX0_turns_98 : decode cX0_turns 98 = .ok (.istore 7, 2) := dk_54 7 (dk_at dksX0_turns_4 5 rfl rfl)
theorem dX0_turns_100 : decode cX0_turns 100 = .ok (.iload 4, 2) := dk_21 4 (dk_at dksX0_turns_4 7 rfl rfl)
theorem dX0_turns_102 : decode cX0_turns 102 = .ok (.aload_n 0, 1) := dk_42 (dk_at dksX0_turns_4 9 rfl rfl)
theorem dX0_turns_103 : decode cX0_turns 103 = .ok (.getfield 52, 3) := dk_180 0 52 (dk_at dksX0_turns_4 10 rfl rfl)
theorem dX0_turns_106 : decode cX0_turns 106 = .ok (.getfield 307, 3) := dk_180 1 51 (dk_at dksX0_turns_4 13 rfl rfl)
theorem dX0_turns_109 : decode cX0_turns 109 = .ok (.iload_n 2, 1) := dk_28 (dk_at dksX0_turns_4 16 rfl rfl)
theorem dX0_turns_110 : decode cX0_turns 110 = .ok (.iaload, 1) := dk_46 (dk_at dksX0_turns_4 17 rfl rfl)
theorem dX0_turns_111 : decode cX0_turns 111 = .ok (.if_icmp .le 44, 3) := dk_164 0 44 (dk_at dksX0_turns_4 18 rfl rfl)
theorem dX0_turns_114 : decode cX0_turns 114 = .ok (.iload 7, 2) := dk_21 7 (dk_at dksX0_turns_4 21 rfl rfl)
theorem dX0_turns_116 : decode cX0_turns 116 = .ok (.invokestatic 17, 3) := dk_184 0 17 (dk_at dksX0_turns_5 0 rfl rfl)
theorem dX0_turns_119 : decode cX0_turns 119 = .ok (.ifCond .eq 36, 3) := dk_153 0 36 (dk_at dksX0_turns_5 3 rfl rfl)
theorem dX0_turns_122 : decode cX0_turns 122 = .ok (.iload 5, 2) := dk_21 5 (dk_at dksX0_turns_5 6 rfl rfl)
theorem dX0_turns_124 : decode cX0_turns 124 = .ok (.iload 5, 2) := dk_21 5 (dk_at dksX0_turns_5 8 rfl rfl)
theorem dX0_turns_126 : decode cX0_turns 126 = .ok (.iload 7, 2) := dk_21 7 (dk_at dksX0_turns_5 10 rfl rfl)
theorem dX0_turns_128 : decode cX0_turns 128 = .ok (.invokestatic 17, 3) := dk_184 0 17 (dk_at dksX0_turns_5 12 rfl rfl)
theorem dX0_turns_131 : decode cX0_turns 131 = .ok (.iadd, 1) := dk_96 (dk_at dksX0_turns_5 15 rfl rfl)
theorem dX0_turns_132 : decode cX0_turns 132 = .ok (.invokestatic 12, 3) := dk_184 0 12 (dk_at dksX0_turns_5 16 rfl rfl)
theorem dX0_turns_135 : decode cX0_turns 135 = .ok (.aload_n 0, 1) := dk_42 (dk_at dksX0_turns_5 19 rfl rfl)
theorem dX0_turns_136 : decode cX0_turns 136 = .ok (.getfield 52, 3) := dk_180 0 52 (dk_at dksX0_turns_5 20 rfl rfl)
theorem dX0_turns_139 : decode cX0_turns 139 = .ok (.getfield 310, 3) := dk_180 1 54 (dk_at dksX0_turns_6 0 rfl rfl)
theorem dX0_turns_142 : decode cX0_turns 142 = .ok (.iload_n 2, 1) := dk_28 (dk_at dksX0_turns_6 3 rfl rfl)
theorem dX0_turns_143 : decode cX0_turns 143 = .ok (.iaload, 1) := dk_46 (dk_at dksX0_turns_6 4 rfl rfl)
theorem dX0_turns_144 : decode cX0_turns 144 = .ok (.if_icmp .ne 11, 3) := dk_160 0 11 (dk_at dksX0_turns_6 5 rfl rfl)
theorem dX0_turns_147 : decode cX0_turns 147 = .ok (.iload_n 3, 1) := dk_29 (dk_at dksX0_turns_6 8 rfl rfl)
theorem dX0_turns_148 : decode cX0_turns 148 = .ok (.iload 7, 2) := dk_21 7 (dk_at dksX0_turns_6 9 rfl rfl)
theorem dX0_turns_150 : decode cX0_turns 150 = .ok (.invokestatic 17, 3) := dk_184 0 17 (dk_at dksX0_turns_6 11 rfl rfl)
theorem dX0_turns_153 : decode cX0_turns 153 = .ok (.iadd, 1) := dk_96 (dk_at dksX0_turns_6 14 rfl rfl)
theorem dX0_turns_154 : decode cX0_turns 154 = .ok (.istore_n 3, 1) := dk_62 (dk_at dksX0_turns_6 15 rfl rfl)
theorem dX0_turns_155 : decode cX0_turns 155 = .ok (.iload 4, 2) := dk_21 4 (dk_at dksX0_turns_6 16 rfl rfl)
theorem dX0_turns_157 : decode cX0_turns 157 = .ok (.iload 7, 2) := dk_21 7 (dk_at dksX0_turns_6 18 rfl rfl)
theorem dX0_turns_159 : decode cX0_turns 159 = .ok (.invokestatic 8, 3) := dk_184 0 8 (dk_at dksX0_turns_6 20 rfl rfl)
theorem dX0_turns_162 : decode cX0_turns 162 = .ok (.iadd, 1) := dk_96 (dk_at dksX0_turns_6 23 rfl rfl)
theorem dX0_turns_163 : decode cX0_turns 163 = .ok (.istore 4, 2) := dk_54 4 (dk_at dksX0_turns_7 0 rfl rfl)
theorem dX0_turns_165 : decode cX0_turns 165 = .ok (.iload 5, 2) := dk_21 5 (dk_at dksX0_turns_7 2 rfl rfl)
theorem dX0_turns_167 : decode cX0_turns 167 = .ok (.iload 7, 2) := dk_21 7 (dk_at dksX0_turns_7 4 rfl rfl)
theorem dX0_turns_169 : decode cX0_turns 169 = .ok (.invokestatic 17, 3) := dk_184 0 17 (dk_at dksX0_turns_7 6 rfl rfl)
theorem dX0_turns_172 : decode cX0_turns 172 = .ok (.iadd, 1) := dk_96 (dk_at dksX0_turns_7 9 rfl rfl)
theorem dX0_turns_173 : decode cX0_turns 173 = .ok (.istore 5, 2) := dk_54 5 (dk_at dksX0_turns_7 10 rfl rfl)
theorem dX0_turns_175 : decode cX0_turns 175 = .ok (.iinc 6 1, 3) := dk_132 6 1 (dk_at dksX0_turns_7 12 rfl rfl)
theorem dX0_turns_178 : decode cX0_turns 178 = .ok (.goto (-106), 3) := dk_167 255 150 (dk_at dksX0_turns_7 15 rfl rfl)
theorem dX0_turns_181 : decode cX0_turns 181 = .ok (.iload_n 3, 1) := dk_29 (dk_at dksX0_turns_7 18 rfl rfl)
theorem dX0_turns_182 : decode cX0_turns 182 = .ok (.ireturn, 1) := dk_172 (dk_at dksX0_turns_7 19 rfl rfl)
abbrev cX0_meet : ByteArray := prog_1_method_40_code
def yX0_meet : MethodName := ⟨RX0, "meet", "(II)I"⟩
def dkwX0_meet_4 : List UInt8 := [172]
abbrev dktX0_meet_4 : List UInt8 := dkwX0_meet_4 ++ []
def dkwX0_meet_3 : List UInt8 := [160, 0, 5, 29, 172, 42, 180, 0, 67, 42, 180, 0, 52, 182, 0, 245, 132, 3, 1, 167, 255, 191, 16, 254]
abbrev dktX0_meet_3 : List UInt8 := dkwX0_meet_3 ++ dktX0_meet_4
def dkwX0_meet_2 : List UInt8 := [46, 160, 0, 26, 42, 180, 0, 67, 180, 0, 192, 27, 46, 42, 180, 0, 67, 180, 0, 192, 28, 46]
abbrev dktX0_meet_2 : List UInt8 := dkwX0_meet_2 ++ dktX0_meet_3
def dkwX0_meet_1 : List UInt8 := [29, 17, 0, 200, 163, 0, 64, 42, 180, 0, 67, 180, 0, 189, 27, 46, 42, 180, 0, 67, 180, 0, 189, 28]
abbrev dktX0_meet_1 : List UInt8 := dkwX0_meet_1 ++ dktX0_meet_2
def dkwX0_meet_0 : List UInt8 := [42, 27, 28, 182, 0, 250, 154, 0, 5, 2, 172, 42, 180, 0, 67, 42, 180, 0, 63, 182, 0, 228, 3, 62]
abbrev dktX0_meet_0 : List UInt8 := dkwX0_meet_0 ++ dktX0_meet_1
theorem dksX0_meet_0 : cX0_meet.data.toList.drop 0 = dktX0_meet_0 := by decide +kernel
theorem dksX0_meet_1 : cX0_meet.data.toList.drop 24 = dktX0_meet_1 := dk_seg dksX0_meet_0 24 rfl rfl
theorem dksX0_meet_2 : cX0_meet.data.toList.drop 48 = dktX0_meet_2 := dk_seg dksX0_meet_1 24 rfl rfl
theorem dksX0_meet_3 : cX0_meet.data.toList.drop 70 = dktX0_meet_3 := dk_seg dksX0_meet_2 22 rfl rfl
theorem dksX0_meet_4 : cX0_meet.data.toList.drop 94 = dktX0_meet_4 := dk_seg dksX0_meet_3 24 rfl rfl
theorem dX0_meet_0 : decode cX0_meet 0 = .ok (.aload_n 0, 1) := dk_42 (dk_at dksX0_meet_0 0 rfl rfl)
theorem dX0_meet_1 : decode cX0_meet 1 = .ok (.iload_n 1, 1) := dk_27 (dk_at dksX0_meet_0 1 rfl rfl)
theorem dX0_meet_2 : decode cX0_meet 2 = .ok (.iload_n 2, 1) := dk_28 (dk_at dksX0_meet_0 2 rfl rfl)
theorem dX0_meet_3 : decode cX0_meet 3 = .ok (.invokevirtual 250, 3) := dk_182 0 250 (dk_at dksX0_meet_0 3 rfl rfl)
theorem dX0_meet_6 : decode cX0_meet 6 = .ok (.ifCond .ne 5, 3) := dk_154 0 5 (dk_at dksX0_meet_0 6 rfl rfl)
theorem dX0_meet_9 : decode cX0_meet 9 = .ok (.iconst (-1), 1) := dk_2 (dk_at dksX0_meet_0 9 rfl rfl)
theorem dX0_meet_10 : decode cX0_meet 10 = .ok (.ireturn, 1) := dk_172 (dk_at dksX0_meet_0 10 rfl rfl)
theorem dX0_meet_11 : decode cX0_meet 11 = .ok (.aload_n 0, 1) := dk_42 (dk_at dksX0_meet_0 11 rfl rfl)
theorem dX0_meet_12 : decode cX0_meet 12 = .ok (.getfield 67, 3) := dk_180 0 67 (dk_at dksX0_meet_0 12 rfl rfl)
theorem dX0_meet_15 : decode cX0_meet 15 = .ok (.aload_n 0, 1) := dk_42 (dk_at dksX0_meet_0 15 rfl rfl)
theorem dX0_meet_16 : decode cX0_meet 16 = .ok (.getfield 63, 3) := dk_180 0 63 (dk_at dksX0_meet_0 16 rfl rfl)
theorem dX0_meet_19 : decode cX0_meet 19 = .ok (.invokevirtual 228, 3) := dk_182 0 228 (dk_at dksX0_meet_0 19 rfl rfl)
theorem dX0_meet_22 : decode cX0_meet 22 = .ok (.iconst 0, 1) := dk_3 (dk_at dksX0_meet_0 22 rfl rfl)
theorem dX0_meet_23 : decode cX0_meet 23 = .ok (.istore_n 3, 1) := dk_62 (dk_at dksX0_meet_0 23 rfl rfl)
theorem dX0_meet_24 : decode cX0_meet 24 = .ok (.iload_n 3, 1) := dk_29 (dk_at dksX0_meet_1 0 rfl rfl)
theorem dX0_meet_25 : decode cX0_meet 25 = .ok (.sipush 200, 3) := dk_17 0 200 (dk_at dksX0_meet_1 1 rfl rfl)
theorem dX0_meet_28 : decode cX0_meet 28 = .ok (.if_icmp .gt 64, 3) := dk_163 0 64 (dk_at dksX0_meet_1 4 rfl rfl)
theorem dX0_meet_31 : decode cX0_meet 31 = .ok (.aload_n 0, 1) := dk_42 (dk_at dksX0_meet_1 7 rfl rfl)
theorem dX0_meet_32 : decode cX0_meet 32 = .ok (.getfield 67, 3) := dk_180 0 67 (dk_at dksX0_meet_1 8 rfl rfl)
theorem dX0_meet_35 : decode cX0_meet 35 = .ok (.getfield 189, 3) := dk_180 0 189 (dk_at dksX0_meet_1 11 rfl rfl)
theorem dX0_meet_38 : decode cX0_meet 38 = .ok (.iload_n 1, 1) := dk_27 (dk_at dksX0_meet_1 14 rfl rfl)
theorem dX0_meet_39 : decode cX0_meet 39 = .ok (.iaload, 1) := dk_46 (dk_at dksX0_meet_1 15 rfl rfl)
theorem dX0_meet_40 : decode cX0_meet 40 = .ok (.aload_n 0, 1) := dk_42 (dk_at dksX0_meet_1 16 rfl rfl)
theorem dX0_meet_41 : decode cX0_meet 41 = .ok (.getfield 67, 3) := dk_180 0 67 (dk_at dksX0_meet_1 17 rfl rfl)
theorem dX0_meet_44 : decode cX0_meet 44 = .ok (.getfield 189, 3) := dk_180 0 189 (dk_at dksX0_meet_1 20 rfl rfl)
theorem dX0_meet_47 : decode cX0_meet 47 = .ok (.iload_n 2, 1) := dk_28 (dk_at dksX0_meet_1 23 rfl rfl)
theorem dX0_meet_48 : decode cX0_meet 48 = .ok (.iaload, 1) := dk_46 (dk_at dksX0_meet_2 0 rfl rfl)
theorem dX0_meet_49 : decode cX0_meet 49 = .ok (.if_icmp .ne 26, 3) := dk_160 0 26 (dk_at dksX0_meet_2 1 rfl rfl)
theorem dX0_meet_52 : decode cX0_meet 52 = .ok (.aload_n 0, 1) := dk_42 (dk_at dksX0_meet_2 4 rfl rfl)
theorem dX0_meet_53 : decode cX0_meet 53 = .ok (.getfield 67, 3) := dk_180 0 67 (dk_at dksX0_meet_2 5 rfl rfl)
theorem dX0_meet_56 : decode cX0_meet 56 = .ok (.getfield 192, 3) := dk_180 0 192 (dk_at dksX0_meet_2 8 rfl rfl)
theorem dX0_meet_59 : decode cX0_meet 59 = .ok (.iload_n 1, 1) := dk_27 (dk_at dksX0_meet_2 11 rfl rfl)
theorem dX0_meet_60 : decode cX0_meet 60 = .ok (.iaload, 1) := dk_46 (dk_at dksX0_meet_2 12 rfl rfl)
theorem dX0_meet_61 : decode cX0_meet 61 = .ok (.aload_n 0, 1) := dk_42 (dk_at dksX0_meet_2 13 rfl rfl)
theorem dX0_meet_62 : decode cX0_meet 62 = .ok (.getfield 67, 3) := dk_180 0 67 (dk_at dksX0_meet_2 14 rfl rfl)
theorem dX0_meet_65 : decode cX0_meet 65 = .ok (.getfield 192, 3) := dk_180 0 192 (dk_at dksX0_meet_2 17 rfl rfl)
theorem dX0_meet_68 : decode cX0_meet 68 = .ok (.iload_n 2, 1) := dk_28 (dk_at dksX0_meet_2 20 rfl rfl)
theorem dX0_meet_69 : decode cX0_meet 69 = .ok (.iaload, 1) := dk_46 (dk_at dksX0_meet_2 21 rfl rfl)
theorem dX0_meet_70 : decode cX0_meet 70 = .ok (.if_icmp .ne 5, 3) := dk_160 0 5 (dk_at dksX0_meet_3 0 rfl rfl)
theorem dX0_meet_73 : decode cX0_meet 73 = .ok (.iload_n 3, 1) := dk_29 (dk_at dksX0_meet_3 3 rfl rfl)
theorem dX0_meet_74 : decode cX0_meet 74 = .ok (.ireturn, 1) := dk_172 (dk_at dksX0_meet_3 4 rfl rfl)
theorem dX0_meet_75 : decode cX0_meet 75 = .ok (.aload_n 0, 1) := dk_42 (dk_at dksX0_meet_3 5 rfl rfl)
theorem dX0_meet_76 : decode cX0_meet 76 = .ok (.getfield 67, 3) := dk_180 0 67 (dk_at dksX0_meet_3 6 rfl rfl)
theorem dX0_meet_79 : decode cX0_meet 79 = .ok (.aload_n 0, 1) := dk_42 (dk_at dksX0_meet_3 9 rfl rfl)
theorem dX0_meet_80 : decode cX0_meet 80 = .ok (.getfield 52, 3) := dk_180 0 52 (dk_at dksX0_meet_3 10 rfl rfl)
theorem dX0_meet_83 : decode cX0_meet 83 = .ok (.invokevirtual 245, 3) := dk_182 0 245 (dk_at dksX0_meet_3 13 rfl rfl)
theorem dX0_meet_86 : decode cX0_meet 86 = .ok (.iinc 3 1, 3) := dk_132 3 1 (dk_at dksX0_meet_3 16 rfl rfl)
theorem dX0_meet_89 : decode cX0_meet 89 = .ok (.goto (-65), 3) := dk_167 255 191 (dk_at dksX0_meet_3 19 rfl rfl)
theorem dX0_meet_92 : decode cX0_meet 92 = .ok (.bipush (-2), 2) := dk_16 254 (dk_at dksX0_meet_3 22 rfl rfl)
theorem dX0_meet_94 : decode cX0_meet 94 = .ok (.ireturn, 1) := dk_172 (dk_at dksX0_meet_4 0 rfl rfl)
abbrev cX0_most : ByteArray := prog_1_method_42_code
def yX0_most : MethodName := ⟨RX0, "most", "(I)I"⟩
def dkwX0_most_2 : List UInt8 := [167, 255, 226, 27, 153, 0, 7, 28, 156, 0, 7, 28, 167, 0, 8, 42, 28, 182, 1, 57, 172]
abbrev dktX0_most_2 : List UInt8 := dkwX0_most_2 ++ []
def dkwX0_most_1 : List UInt8 := [28, 155, 0, 16, 42, 29, 182, 1, 57, 42, 28, 182, 1, 57, 164, 0, 5, 29, 61, 132, 3, 1]
abbrev dktX0_most_1 : List UInt8 := dkwX0_most_1 ++ dktX0_most_2
def dkwX0_most_0 : List UInt8 := [27, 3, 4, 184, 0, 175, 154, 0, 5, 2, 172, 16, 254, 61, 3, 62, 29, 42, 182, 0, 173, 162, 0, 28]
abbrev dktX0_most_0 : List UInt8 := dkwX0_most_0 ++ dktX0_most_1
theorem dksX0_most_0 : cX0_most.data.toList.drop 0 = dktX0_most_0 := by decide +kernel
theorem dksX0_most_1 : cX0_most.data.toList.drop 24 = dktX0_most_1 := dk_seg dksX0_most_0 24 rfl rfl
theorem dksX0_most_2 : cX0_most.data.toList.drop 46 = dktX0_most_2 := dk_seg dksX0_most_1 22 rfl rfl
theorem dX0_most_0 : decode cX0_most 0 = .ok (.iload_n 1, 1) := dk_27 (dk_at dksX0_most_0 0 rfl rfl)
theorem dX0_most_1 : decode cX0_most 1 = .ok (.iconst 0, 1) := dk_3 (dk_at dksX0_most_0 1 rfl rfl)
theorem dX0_most_2 : decode cX0_most 2 = .ok (.iconst 1, 1) := dk_4 (dk_at dksX0_most_0 2 rfl rfl)
theorem dX0_most_3 : decode cX0_most 3 = .ok (.invokestatic 175, 3) := dk_184 0 175 (dk_at dksX0_most_0 3 rfl rfl)
theorem dX0_most_6 : decode cX0_most 6 = .ok (.ifCond .ne 5, 3) := dk_154 0 5 (dk_at dksX0_most_0 6 rfl rfl)
theorem dX0_most_9 : decode cX0_most 9 = .ok (.iconst (-1), 1) := dk_2 (dk_at dksX0_most_0 9 rfl rfl)
theorem dX0_most_10 : decode cX0_most 10 = .ok (.ireturn, 1) := dk_172 (dk_at dksX0_most_0 10 rfl rfl)
theorem dX0_most_11 : decode cX0_most 11 = .ok (.bipush (-2), 2) := dk_16 254 (dk_at dksX0_most_0 11 rfl rfl)
theorem dX0_most_13 : decode cX0_most 13 = .ok (.istore_n 2, 1) := dk_61 (dk_at dksX0_most_0 13 rfl rfl)
theorem dX0_most_14 : decode cX0_most 14 = .ok (.iconst 0, 1) := dk_3 (dk_at dksX0_most_0 14 rfl rfl)
theorem dX0_most_15 : decode cX0_most 15 = .ok (.istore_n 3, 1) := dk_62 (dk_at dksX0_most_0 15 rfl rfl)
theorem dX0_most_16 : decode cX0_most 16 = .ok (.iload_n 3, 1) := dk_29 (dk_at dksX0_most_0 16 rfl rfl)
theorem dX0_most_17 : decode cX0_most 17 = .ok (.aload_n 0, 1) := dk_42 (dk_at dksX0_most_0 17 rfl rfl)
theorem dX0_most_18 : decode cX0_most 18 = .ok (.invokevirtual 173, 3) := dk_182 0 173 (dk_at dksX0_most_0 18 rfl rfl)
theorem dX0_most_21 : decode cX0_most 21 = .ok (.if_icmp .ge 28, 3) := dk_162 0 28 (dk_at dksX0_most_0 21 rfl rfl)
theorem dX0_most_24 : decode cX0_most 24 = .ok (.iload_n 2, 1) := dk_28 (dk_at dksX0_most_1 0 rfl rfl)
theorem dX0_most_25 : decode cX0_most 25 = .ok (.ifCond .lt 16, 3) := dk_155 0 16 (dk_at dksX0_most_1 1 rfl rfl)
theorem dX0_most_28 : decode cX0_most 28 = .ok (.aload_n 0, 1) := dk_42 (dk_at dksX0_most_1 4 rfl rfl)
theorem dX0_most_29 : decode cX0_most 29 = .ok (.iload_n 3, 1) := dk_29 (dk_at dksX0_most_1 5 rfl rfl)
theorem dX0_most_30 : decode cX0_most 30 = .ok (.invokevirtual 313, 3) := dk_182 1 57 (dk_at dksX0_most_1 6 rfl rfl)
theorem dX0_most_33 : decode cX0_most 33 = .ok (.aload_n 0, 1) := dk_42 (dk_at dksX0_most_1 9 rfl rfl)
theorem dX0_most_34 : decode cX0_most 34 = .ok (.iload_n 2, 1) := dk_28 (dk_at dksX0_most_1 10 rfl rfl)
theorem dX0_most_35 : decode cX0_most 35 = .ok (.invokevirtual 313, 3) := dk_182 1 57 (dk_at dksX0_most_1 11 rfl rfl)
theorem dX0_most_38 : decode cX0_most 38 = .ok (.if_icmp .le 5, 3) := dk_164 0 5 (dk_at dksX0_most_1 14 rfl rfl)
theorem dX0_most_41 : decode cX0_most 41 = .ok (.iload_n 3, 1) := dk_29 (dk_at dksX0_most_1 17 rfl rfl)
theorem dX0_most_42 : decode cX0_most 42 = .ok (.istore_n 2, 1) := dk_61 (dk_at dksX0_most_1 18 rfl rfl)
theorem dX0_most_43 : decode cX0_most 43 = .ok (.iinc 3 1, 3) := dk_132 3 1 (dk_at dksX0_most_1 19 rfl rfl)
theorem dX0_most_46 : decode cX0_most 46 = .ok (.goto (-30), 3) := dk_167 255 226 (dk_at dksX0_most_2 0 rfl rfl)
theorem dX0_most_49 : decode cX0_most 49 = .ok (.iload_n 1, 1) := dk_27 (dk_at dksX0_most_2 3 rfl rfl)
theorem dX0_most_50 : decode cX0_most 50 = .ok (.ifCond .eq 7, 3) := dk_153 0 7 (dk_at dksX0_most_2 4 rfl rfl)
theorem dX0_most_53 : decode cX0_most 53 = .ok (.iload_n 2, 1) := dk_28 (dk_at dksX0_most_2 7 rfl rfl)
theorem dX0_most_54 : decode cX0_most 54 = .ok (.ifCond .ge 7, 3) := dk_156 0 7 (dk_at dksX0_most_2 8 rfl rfl)
theorem dX0_most_57 : decode cX0_most 57 = .ok (.iload_n 2, 1) := dk_28 (dk_at dksX0_most_2 11 rfl rfl)
theorem dX0_most_58 : decode cX0_most 58 = .ok (.goto 8, 3) := dk_167 0 8 (dk_at dksX0_most_2 12 rfl rfl)
theorem dX0_most_61 : decode cX0_most 61 = .ok (.aload_n 0, 1) := dk_42 (dk_at dksX0_most_2 15 rfl rfl)
theorem dX0_most_62 : decode cX0_most 62 = .ok (.iload_n 2, 1) := dk_28 (dk_at dksX0_most_2 16 rfl rfl)
theorem dX0_most_63 : decode cX0_most 63 = .ok (.invokevirtual 313, 3) := dk_182 1 57 (dk_at dksX0_most_2 17 rfl rfl)
theorem dX0_most_66 : decode cX0_most 66 = .ok (.ireturn, 1) := dk_172 (dk_at dksX0_most_2 20 rfl rfl)
abbrev cX0_overAll : ByteArray := prog_1_method_41_code
def yX0_overAll : MethodName := ⟨RX0, "overAll", "(I)I"⟩
def dkwX0_overAll_1 : List UInt8 := [180, 0, 63, 27, 29, 182, 0, 254, 96, 61, 132, 3, 1, 167, 255, 224, 28, 172]
abbrev dktX0_overAll_1 : List UInt8 := dkwX0_overAll_1 ++ []
def dkwX0_overAll_0 : List UInt8 := [3, 61, 3, 62, 29, 42, 182, 0, 173, 162, 0, 30, 28, 29, 27, 160, 0, 7, 3, 167, 0, 12, 42]
abbrev dktX0_overAll_0 : List UInt8 := dkwX0_overAll_0 ++ dktX0_overAll_1
theorem dksX0_overAll_0 : cX0_overAll.data.toList.drop 0 = dktX0_overAll_0 := by decide +kernel
theorem dksX0_overAll_1 : cX0_overAll.data.toList.drop 23 = dktX0_overAll_1 := dk_seg dksX0_overAll_0 23 rfl rfl
theorem dX0_overAll_0 : decode cX0_overAll 0 = .ok (.iconst 0, 1) := dk_3 (dk_at dksX0_overAll_0 0 rfl rfl)
theorem dX0_overAll_1 : decode cX0_overAll 1 = .ok (.istore_n 2, 1) := dk_61 (dk_at dksX0_overAll_0 1 rfl rfl)
theorem dX0_overAll_2 : decode cX0_overAll 2 = .ok (.iconst 0, 1) := dk_3 (dk_at dksX0_overAll_0 2 rfl rfl)
theorem dX0_overAll_3 : decode cX0_overAll 3 = .ok (.istore_n 3, 1) := dk_62 (dk_at dksX0_overAll_0 3 rfl rfl)
theorem dX0_overAll_4 : decode cX0_overAll 4 = .ok (.iload_n 3, 1) := dk_29 (dk_at dksX0_overAll_0 4 rfl rfl)
theorem dX0_overAll_5 : decode cX0_overAll 5 = .ok (.aload_n 0, 1) := dk_42 (dk_at dksX0_overAll_0 5 rfl rfl)
theorem dX0_overAll_6 : decode cX0_overAll 6 = .ok (.invokevirtual 173, 3) := dk_182 0 173 (dk_at dksX0_overAll_0 6 rfl rfl)
theorem dX0_overAll_9 : decode cX0_overAll 9 = .ok (.if_icmp .ge 30, 3) := dk_162 0 30 (dk_at dksX0_overAll_0 9 rfl rfl)
theorem dX0_overAll_12 : decode cX0_overAll 12 = .ok (.iload_n 2, 1) := dk_28 (dk_at dksX0_overAll_0 12 rfl rfl)
theorem dX0_overAll_13 : decode cX0_overAll 13 = .ok (.iload_n 3, 1) := dk_29 (dk_at dksX0_overAll_0 13 rfl rfl)
theorem dX0_overAll_14 : decode cX0_overAll 14 = .ok (.iload_n 1, 1) := dk_27 (dk_at dksX0_overAll_0 14 rfl rfl)
theorem dX0_overAll_15 : decode cX0_overAll 15 = .ok (.if_icmp .ne 7, 3) := dk_160 0 7 (dk_at dksX0_overAll_0 15 rfl rfl)
theorem dX0_overAll_18 : decode cX0_overAll 18 = .ok (.iconst 0, 1) := dk_3 (dk_at dksX0_overAll_0 18 rfl rfl)
theorem dX0_overAll_19 : decode cX0_overAll 19 = .ok (.goto 12, 3) := dk_167 0 12 (dk_at dksX0_overAll_0 19 rfl rfl)
theorem dX0_overAll_22 : decode cX0_overAll 22 = .ok (.aload_n 0, 1) := dk_42 (dk_at dksX0_overAll_0 22 rfl rfl)
theorem dX0_overAll_23 : decode cX0_overAll 23 = .ok (.getfield 63, 3) := dk_180 0 63 (dk_at dksX0_overAll_1 0 rfl rfl)
theorem dX0_overAll_26 : decode cX0_overAll 26 = .ok (.iload_n 1, 1) := dk_27 (dk_at dksX0_overAll_1 3 rfl rfl)
theorem dX0_overAll_27 : decode cX0_overAll 27 = .ok (.iload_n 3, 1) := dk_29 (dk_at dksX0_overAll_1 4 rfl rfl)
theorem dX0_overAll_28 : decode cX0_overAll 28 = .ok (.invokevirtual 254, 3) := dk_182 0 254 (dk_at dksX0_overAll_1 5 rfl rfl)
theorem dX0_overAll_31 : decode cX0_overAll 31 = .ok (.iadd, 1) := dk_96 (dk_at dksX0_overAll_1 8 rfl rfl)
theorem dX0_overAll_32 : decode cX0_overAll 32 = .ok (.istore_n 2, 1) := dk_61 (dk_at dksX0_overAll_1 9 rfl rfl)
theorem dX0_overAll_33 : decode cX0_overAll 33 = .ok (.iinc 3 1, 3) := dk_132 3 1 (dk_at dksX0_overAll_1 10 rfl rfl)
theorem dX0_overAll_36 : decode cX0_overAll 36 = .ok (.goto (-32), 3) := dk_167 255 224 (dk_at dksX0_overAll_1 13 rfl rfl)
theorem dX0_overAll_39 : decode cX0_overAll 39 = .ok (.iload_n 2, 1) := dk_28 (dk_at dksX0_overAll_1 16 rfl rfl)
theorem dX0_overAll_40 : decode cX0_overAll 40 = .ok (.ireturn, 1) := dk_172 (dk_at dksX0_overAll_1 17 rfl rfl)
abbrev cX0_street : ByteArray := prog_1_method_43_code
def yX0_street : MethodName := ⟨RX0, "street", "(IIII)I"⟩
def dkwX0_street_5 : List UInt8 := [160, 0, 8, 21, 6, 167, 0, 4, 2, 172]
abbrev dktX0_street_5 : List UInt8 := dkwX0_street_5 ++ []
def dkwX0_street_4 : List UInt8 := [160, 0, 6, 21, 7, 172, 132, 6, 1, 132, 8, 1, 167, 255, 194, 132, 7, 1, 167, 255, 176, 21, 4, 2]
abbrev dktX0_street_4 : List UInt8 := dkwX0_street_4 ++ dktX0_street_5
def dkwX0_street_3 : List UInt8 := [46, 21, 5, 159, 0, 6, 167, 0, 26, 42, 180, 0, 63, 21, 7, 21, 8, 3, 182, 0, 221, 21, 4]
abbrev dktX0_street_3 : List UInt8 := dkwX0_street_3 ++ dktX0_street_4
def dkwX0_street_2 : List UInt8 := [180, 0, 63, 180, 0, 195, 21, 7, 46, 162, 0, 53, 42, 180, 0, 63, 180, 1, 67, 21, 7, 50, 21, 8]
abbrev dktX0_street_2 : List UInt8 := dkwX0_street_2 ++ dktX0_street_3
def dkwX0_street_1 : List UInt8 := [54, 5, 3, 54, 6, 3, 54, 7, 21, 7, 42, 182, 0, 173, 162, 0, 77, 3, 54, 8, 21, 8, 42]
abbrev dktX0_street_1 : List UInt8 := dkwX0_street_1 ++ dktX0_street_2
def dkwX0_street_0 : List UInt8 := [42, 27, 28, 29, 182, 1, 60, 153, 0, 9, 21, 4, 2, 162, 0, 5, 2, 172, 27, 28, 29, 184, 1, 63]
abbrev dktX0_street_0 : List UInt8 := dkwX0_street_0 ++ dktX0_street_1
theorem dksX0_street_0 : cX0_street.data.toList.drop 0 = dktX0_street_0 := by decide +kernel
theorem dksX0_street_1 : cX0_street.data.toList.drop 24 = dktX0_street_1 := dk_seg dksX0_street_0 24 rfl rfl
theorem dksX0_street_2 : cX0_street.data.toList.drop 47 = dktX0_street_2 := dk_seg dksX0_street_1 23 rfl rfl
theorem dksX0_street_3 : cX0_street.data.toList.drop 71 = dktX0_street_3 := dk_seg dksX0_street_2 24 rfl rfl
theorem dksX0_street_4 : cX0_street.data.toList.drop 94 = dktX0_street_4 := dk_seg dksX0_street_3 23 rfl rfl
theorem dksX0_street_5 : cX0_street.data.toList.drop 118 = dktX0_street_5 := dk_seg dksX0_street_4 24 rfl rfl
theorem dX0_street_0 : decode cX0_street 0 = .ok (.aload_n 0, 1) := dk_42 (dk_at dksX0_street_0 0 rfl rfl)
theorem dX0_street_1 : decode cX0_street 1 = .ok (.iload_n 1, 1) := dk_27 (dk_at dksX0_street_0 1 rfl rfl)
theorem dX0_street_2 : decode cX0_street 2 = .ok (.iload_n 2, 1) := dk_28 (dk_at dksX0_street_0 2 rfl rfl)
theorem dX0_street_3 : decode cX0_street 3 = .ok (.iload_n 3, 1) := dk_29 (dk_at dksX0_street_0 3 rfl rfl)
theorem dX0_street_4 : decode cX0_street 4 = .ok (.invokevirtual 316, 3) := dk_182 1 60 (dk_at dksX0_street_0 4 rfl rfl)
theorem dX0_street_7 : decode cX0_street 7 = .ok (.ifCond .eq 9, 3) := dk_153 0 9 (dk_at dksX0_street_0 7 rfl rfl)
theorem dX0_street_10 : decode cX0_street 10 = .ok (.iload 4, 2) := dk_21 4 (dk_at dksX0_street_0 10 rfl rfl)
theorem dX0_street_12 : decode cX0_street 12 = .ok (.iconst (-1), 1) := dk_2 (dk_at dksX0_street_0 12 rfl rfl)
theorem dX0_street_13 : decode cX0_street 13 = .ok (.if_icmp .ge 5, 3) := dk_162 0 5 (dk_at dksX0_street_0 13 rfl rfl)
theorem dX0_street_16 : decode cX0_street 16 = .ok (.iconst (-1), 1) := dk_2 (dk_at dksX0_street_0 16 rfl rfl)
theorem dX0_street_17 : decode cX0_street 17 = .ok (.ireturn, 1) := dk_172 (dk_at dksX0_street_0 17 rfl rfl)
theorem dX0_street_18 : decode cX0_street 18 = .ok (.iload_n 1, 1) := dk_27 (dk_at dksX0_street_0 18 rfl rfl)
theorem dX0_street_19 : decode cX0_street 19 = .ok (.iload_n 2, 1) := dk_28 (dk_at dksX0_street_0 19 rfl rfl)
theorem dX0_street_20 : decode cX0_street 20 = .ok (.iload_n 3, 1) := dk_29 (dk_at dksX0_street_0 20 rfl rfl)
theorem dX0_street_21 : decode cX0_street 21 = .ok (.invokestatic 319, 3) := dk_184 1 63 (dk_at dksX0_street_0 21 rfl rfl)
theorem dX0_street_24 : decode cX0_street 24 = .ok (.istore 5, 2) := dk_54 5 (dk_at dksX0_street_1 0 rfl rfl)
theorem dX0_street_26 : decode cX0_street 26 = .ok (.iconst 0, 1) := dk_3 (dk_at dksX0_street_1 2 rfl rfl)
theorem dX0_street_27 : decode cX0_street 27 = .ok (.istore 6, 2) := dk_54 6 (dk_at dksX0_street_1 3 rfl rfl)
theorem dX0_street_29 : decode cX0_street 29 = .ok (.iconst 0, 1) := dk_3 (dk_at dksX0_street_1 5 rfl rfl)
theorem dX0_street_30 : decode cX0_street 30 = .ok (.istore 7, 2) := dk_54 7 (dk_at dksX0_street_1 6 rfl rfl)
theorem dX0_street_32 : decode cX0_street 32 = .ok (.iload 7, 2) := dk_21 7 (dk_at dksX0_street_1 8 rfl rfl)
theorem dX0_street_34 : decode cX0_street 34 = .ok (.aload_n 0, 1) := dk_42 (dk_at dksX0_street_1 10 rfl rfl)
theorem dX0_street_35 : decode cX0_street 35 = .ok (.invokevirtual 173, 3) := dk_182 0 173 (dk_at dksX0_street_1 11 rfl rfl)
theorem dX0_street_38 : decode cX0_street 38 = .ok (.if_icmp .ge 77, 3) := dk_162 0 77 (dk_at dksX0_street_1 14 rfl rfl)
theorem dX0_street_41 : decode cX0_street 41 = .ok (.iconst 0, 1) := dk_3 (dk_at dksX0_street_1 17 rfl rfl)
theorem dX0_street_42 : decode cX0_street 42 = .ok (.istore 8, 2) := dk_54 8 (dk_at dksX0_street_1 18 rfl rfl)
theorem dX0_street_44 : decode cX0_street 44 = .ok (.iload 8, 2) := dk_21 8 (dk_at dksX0_street_1 20 rfl rfl)
theorem dX0_street_46 : decode cX0_street 46 = .ok (.aload_n 0, 1) := dk_42 (dk_at dksX0_street_1 22 rfl rfl)
theorem dX0_street_47 : decode cX0_street 47 = .ok (.getfield 63, 3) := dk_180 0 63 (dk_at dksX0_street_2 0 rfl rfl)
theorem dX0_street_50 : decode cX0_street 50 = .ok (.getfield 195, 3) := dk_180 0 195 (dk_at dksX0_street_2 3 rfl rfl)
theorem dX0_street_53 : decode cX0_street 53 = .ok (.iload 7, 2) := dk_21 7 (dk_at dksX0_street_2 6 rfl rfl)
theorem dX0_street_55 : decode cX0_street 55 = .ok (.iaload, 1) := dk_46 (dk_at dksX0_street_2 8 rfl rfl)
theorem dX0_street_56 : decode cX0_street 56 = .ok (.if_icmp .ge 53, 3) := dk_162 0 53 (dk_at dksX0_street_2 9 rfl rfl)
theorem dX0_street_59 : decode cX0_street 59 = .ok (.aload_n 0, 1) := dk_42 (dk_at dksX0_street_2 12 rfl rfl)
theorem dX0_street_60 : decode cX0_street 60 = .ok (.getfield 63, 3) := dk_180 0 63 (dk_at dksX0_street_2 13 rfl rfl)
theorem dX0_street_63 : decode cX0_street 63 = .ok (.getfield 323, 3) := dk_180 1 67 (dk_at dksX0_street_2 16 rfl rfl)
theorem dX0_street_66 : decode cX0_street 66 = .ok (.iload 7, 2) := dk_21 7 (dk_at dksX0_street_2 19 rfl rfl)
theorem dX0_street_68 : decode cX0_street 68 = .ok (.aaload, 1) := dk_50 (dk_at dksX0_street_2 21 rfl rfl)
theorem dX0_street_69 : decode cX0_street 69 = .ok (.iload 8, 2) := dk_21 8 (dk_at dksX0_street_2 22 rfl rfl)
theorem dX0_street_71 : decode cX0_street 71 = .ok (.iaload, 1) := dk_46 (dk_at dksX0_street_3 0 rfl rfl)
theorem dX0_street_72 : decode cX0_street 72 = .ok (.iload 5, 2) := dk_21 5 (dk_at dksX0_street_3 1 rfl rfl)
theorem dX0_street_74 : decode cX0_street 74 = .ok (.if_icmp .eq 6, 3) := dk_159 0 6 (dk_at dksX0_street_3 3 rfl rfl)
theorem dX0_street_77 : decode cX0_street 77 = .ok (.goto 26, 3) := dk_167 0 26 (dk_at dksX0_street_3 6 rfl rfl)
theorem dX0_street_80 : decode cX0_street 80 = .ok (.aload_n 0, 1) := dk_42 (dk_at dksX0_street_3 9 rfl rfl)
theorem dX0_street_81 : decode cX0_street 81 = .ok (.getfield 63, 3) := dk_180 0 63 (dk_at dksX0_street_3 10 rfl rfl)
theorem dX0_street_84 : decode cX0_street 84 = .ok (.iload 7, 2) := dk_21 7 (dk_at dksX0_street_3 13 rfl rfl)
theorem dX0_street_86 : decode cX0_street 86 = .ok (.iload 8, 2) := dk_21 8 (dk_at dksX0_street_3 15 rfl rfl)
theorem dX0_street_88 : decode cX0_street 88 = .ok (.iconst 0, 1) := dk_3 (dk_at dksX0_street_3 17 rfl rfl)
theorem dX0_street_89 : decode cX0_street 89 = .ok (.invokevirtual 221, 3) := dk_182 0 221 (dk_at dksX0_street_3 18 rfl rfl)
theorem dX0_street_92 : decode cX0_street 92 = .ok (.iload 4, 2) := dk_21 4 (dk_at dksX0_street_3 21 rfl rfl)
theorem dX0_street_94 : decode cX0_street 94 = .ok (.if_icmp .ne 6, 3) := dk_160 0 6 (dk_at dksX0_street_4 0 rfl rfl)
theorem dX0_street_97 : decode cX0_street 97 = .ok (.iload 7, 2) := dk_21 7 (dk_at dksX0_street_4 3 rfl rfl)
theorem dX0_street_99 : decode cX0_street 99 = .ok (.ireturn, 1) := dk_172 (dk_at dksX0_street_4 5 rfl rfl)
theorem dX0_street_100 : decode cX0_street 100 = .ok (.iinc 6 1, 3) := dk_132 6 1 (dk_at dksX0_street_4 6 rfl rfl)
theorem dX0_street_103 : decode cX0_street 103 = .ok (.iinc 8 1, 3) := dk_132 8 1 (dk_at dksX0_street_4 9 rfl rfl)
theorem dX0_street_106 : decode cX0_street 106 = .ok (.goto (-62), 3) := dk_167 255 194 (dk_at dksX0_street_4 12 rfl rfl)
theorem dX0_street_109 : decode cX0_street 109 = .ok (.iinc 7 1, 3) := dk_132 7 1 (dk_at dksX0_street_4 15 rfl rfl)
theorem dX0_street_112 : decode cX0_street 112 = .ok (.goto (-80), 3) := dk_167 255 176 (dk_at dksX0_street_4 18 rfl rfl)
theorem dX0_street_115 : decode cX0_street 115 = .ok (.iload 4, 2) := dk_21 4 (dk_at dksX0_street_4 21 rfl rfl)
theorem dX0_street_117 : decode cX0_street 117 = .ok (.iconst (-1), 1) := dk_2 (dk_at dksX0_street_4 23 rfl rfl)
theorem dX0_street_118 : decode cX0_street 118 = .ok (.if_icmp .ne 8, 3) := dk_160 0 8 (dk_at dksX0_street_5 0 rfl rfl)
theorem dX0_street_121 : decode cX0_street 121 = .ok (.iload 6, 2) := dk_21 6 (dk_at dksX0_street_5 3 rfl rfl)
theorem dX0_street_123 : decode cX0_street 123 = .ok (.goto 4, 3) := dk_167 0 4 (dk_at dksX0_street_5 5 rfl rfl)
theorem dX0_street_126 : decode cX0_street 126 = .ok (.iconst (-1), 1) := dk_2 (dk_at dksX0_street_5 8 rfl rfl)
theorem dX0_street_127 : decode cX0_street 127 = .ok (.ireturn, 1) := dk_172 (dk_at dksX0_street_5 9 rfl rfl)
abbrev cX0_isStreet : ByteArray := prog_1_method_49_code
def yX0_isStreet : MethodName := ⟨RX0, "isStreet", "(III)Z"⟩
def dkwX0_isStreet_2 : List UInt8 := [167, 0, 4, 3, 172]
abbrev dktX0_isStreet_2 : List UInt8 := dkwX0_isStreet_2 ++ []
def dkwX0_isStreet_1 : List UInt8 := [180, 0, 52, 27, 29, 184, 0, 8, 96, 28, 29, 184, 0, 17, 96, 182, 1, 89, 153, 0, 7, 4]
abbrev dktX0_isStreet_1 : List UInt8 := dkwX0_isStreet_1 ++ dktX0_isStreet_2
def dkwX0_isStreet_0 : List UInt8 := [29, 4, 7, 184, 0, 175, 153, 0, 41, 42, 180, 0, 52, 27, 28, 182, 1, 89, 153, 0, 29, 42]
abbrev dktX0_isStreet_0 : List UInt8 := dkwX0_isStreet_0 ++ dktX0_isStreet_1
theorem dksX0_isStreet_0 : cX0_isStreet.data.toList.drop 0 = dktX0_isStreet_0 := by decide +kernel
theorem dksX0_isStreet_1 : cX0_isStreet.data.toList.drop 22 = dktX0_isStreet_1 := dk_seg dksX0_isStreet_0 22 rfl rfl
theorem dksX0_isStreet_2 : cX0_isStreet.data.toList.drop 44 = dktX0_isStreet_2 := dk_seg dksX0_isStreet_1 22 rfl rfl
theorem dX0_isStreet_0 : decode cX0_isStreet 0 = .ok (.iload_n 3, 1) := dk_29 (dk_at dksX0_isStreet_0 0 rfl rfl)
theorem dX0_isStreet_1 : decode cX0_isStreet 1 = .ok (.iconst 1, 1) := dk_4 (dk_at dksX0_isStreet_0 1 rfl rfl)
theorem dX0_isStreet_2 : decode cX0_isStreet 2 = .ok (.iconst 4, 1) := dk_7 (dk_at dksX0_isStreet_0 2 rfl rfl)
theorem dX0_isStreet_3 : decode cX0_isStreet 3 = .ok (.invokestatic 175, 3) := dk_184 0 175 (dk_at dksX0_isStreet_0 3 rfl rfl)
theorem dX0_isStreet_6 : decode cX0_isStreet 6 = .ok (.ifCond .eq 41, 3) := dk_153 0 41 (dk_at dksX0_isStreet_0 6 rfl rfl)
theorem dX0_isStreet_9 : decode cX0_isStreet 9 = .ok (.aload_n 0, 1) := dk_42 (dk_at dksX0_isStreet_0 9 rfl rfl)
theorem dX0_isStreet_10 : decode cX0_isStreet 10 = .ok (.getfield 52, 3) := dk_180 0 52 (dk_at dksX0_isStreet_0 10 rfl rfl)
theorem dX0_isStreet_13 : decode cX0_isStreet 13 = .ok (.iload_n 1, 1) := dk_27 (dk_at dksX0_isStreet_0 13 rfl rfl)
theorem dX0_isStreet_14 : decode cX0_isStreet 14 = .ok (.iload_n 2, 1) := dk_28 (dk_at dksX0_isStreet_0 14 rfl rfl)
theorem dX0_isStreet_15 : decode cX0_isStreet 15 = .ok (.invokevirtual 345, 3) := dk_182 1 89 (dk_at dksX0_isStreet_0 15 rfl rfl)
theorem dX0_isStreet_18 : decode cX0_isStreet 18 = .ok (.ifCond .eq 29, 3) := dk_153 0 29 (dk_at dksX0_isStreet_0 18 rfl rfl)
theorem dX0_isStreet_21 : decode cX0_isStreet 21 = .ok (.aload_n 0, 1) := dk_42 (dk_at dksX0_isStreet_0 21 rfl rfl)
theorem dX0_isStreet_22 : decode cX0_isStreet 22 = .ok (.getfield 52, 3) := dk_180 0 52 (dk_at dksX0_isStreet_1 0 rfl rfl)
theorem dX0_isStreet_25 : decode cX0_isStreet 25 = .ok (.iload_n 1, 1) := dk_27 (dk_at dksX0_isStreet_1 3 rfl rfl)
theorem dX0_isStreet_26 : decode cX0_isStreet 26 = .ok (.iload_n 3, 1) := dk_29 (dk_at dksX0_isStreet_1 4 rfl rfl)
theorem dX0_isStreet_27 : decode cX0_isStreet 27 = .ok (.invokestatic 8, 3) := dk_184 0 8 (dk_at dksX0_isStreet_1 5 rfl rfl)
theorem dX0_isStreet_30 : decode cX0_isStreet 30 = .ok (.iadd, 1) := dk_96 (dk_at dksX0_isStreet_1 8 rfl rfl)
theorem dX0_isStreet_31 : decode cX0_isStreet 31 = .ok (.iload_n 2, 1) := dk_28 (dk_at dksX0_isStreet_1 9 rfl rfl)
theorem dX0_isStreet_32 : decode cX0_isStreet 32 = .ok (.iload_n 3, 1) := dk_29 (dk_at dksX0_isStreet_1 10 rfl rfl)
theorem dX0_isStreet_33 : decode cX0_isStreet 33 = .ok (.invokestatic 17, 3) := dk_184 0 17 (dk_at dksX0_isStreet_1 11 rfl rfl)
theorem dX0_isStreet_36 : decode cX0_isStreet 36 = .ok (.iadd, 1) := dk_96 (dk_at dksX0_isStreet_1 14 rfl rfl)
theorem dX0_isStreet_37 : decode cX0_isStreet 37 = .ok (.invokevirtual 345, 3) := dk_182 1 89 (dk_at dksX0_isStreet_1 15 rfl rfl)
theorem dX0_isStreet_40 : decode cX0_isStreet 40 = .ok (.ifCond .eq 7, 3) := dk_153 0 7 (dk_at dksX0_isStreet_1 18 rfl rfl)
theorem dX0_isStreet_43 : decode cX0_isStreet 43 = .ok (.iconst 1, 1) := dk_4 (dk_at dksX0_isStreet_1 21 rfl rfl)
theorem dX0_isStreet_44 : decode cX0_isStreet 44 = .ok (.goto 4, 3) := dk_167 0 4 (dk_at dksX0_isStreet_2 0 rfl rfl)
theorem dX0_isStreet_47 : decode cX0_isStreet 47 = .ok (.iconst 0, 1) := dk_3 (dk_at dksX0_isStreet_2 3 rfl rfl)
theorem dX0_isStreet_48 : decode cX0_isStreet 48 = .ok (.ireturn, 1) := dk_172 (dk_at dksX0_isStreet_2 4 rfl rfl)
abbrev cX0_dusk : ByteArray := prog_1_method_47_code
def yX0_dusk : MethodName := ⟨RX0, "dusk", "(II)I"⟩
def dkwX0_dusk_5 : List UInt8 := [5, 160, 0, 7, 29, 167, 0, 5, 21, 4, 172]
abbrev dktX0_dusk_5 : List UInt8 := dkwX0_dusk_5 ++ []
def dkwX0_dusk_4 : List UInt8 := [28, 154, 0, 10, 42, 180, 1, 77, 167, 0, 26, 28, 4, 160, 0, 10, 42, 180, 1, 80, 167, 0, 14, 28]
abbrev dktX0_dusk_4 : List UInt8 := dkwX0_dusk_4 ++ dktX0_dusk_5
def dkwX0_dusk_3 : List UInt8 := [180, 0, 67, 21, 5, 182, 0, 201, 154, 0, 10, 29, 4, 21, 5, 120, 128, 62, 132, 5, 1, 167, 255, 200]
abbrev dktX0_dusk_3 : List UInt8 := dkwX0_dusk_3 ++ dktX0_dusk_4
def dkwX0_dusk_2 : List UInt8 := [180, 0, 195, 21, 5, 46, 158, 0, 15, 21, 4, 4, 21, 5, 120, 128, 54, 4, 167, 0, 22, 42]
abbrev dktX0_dusk_2 : List UInt8 := dkwX0_dusk_2 ++ dktX0_dusk_3
def dkwX0_dusk_1 : List UInt8 := [54, 4, 42, 27, 182, 1, 86, 3, 54, 5, 21, 5, 42, 182, 0, 173, 162, 0, 53, 42, 180, 0, 67]
abbrev dktX0_dusk_1 : List UInt8 := dkwX0_dusk_1 ++ dktX0_dusk_2
def dkwX0_dusk_0 : List UInt8 := [27, 3, 7, 184, 0, 175, 153, 0, 12, 28, 3, 6, 184, 0, 175, 154, 0, 5, 2, 172, 3, 62, 3]
abbrev dktX0_dusk_0 : List UInt8 := dkwX0_dusk_0 ++ dktX0_dusk_1
theorem dksX0_dusk_0 : cX0_dusk.data.toList.drop 0 = dktX0_dusk_0 := by decide +kernel
theorem dksX0_dusk_1 : cX0_dusk.data.toList.drop 23 = dktX0_dusk_1 := dk_seg dksX0_dusk_0 23 rfl rfl
theorem dksX0_dusk_2 : cX0_dusk.data.toList.drop 46 = dktX0_dusk_2 := dk_seg dksX0_dusk_1 23 rfl rfl
theorem dksX0_dusk_3 : cX0_dusk.data.toList.drop 68 = dktX0_dusk_3 := dk_seg dksX0_dusk_2 22 rfl rfl
theorem dksX0_dusk_4 : cX0_dusk.data.toList.drop 92 = dktX0_dusk_4 := dk_seg dksX0_dusk_3 24 rfl rfl
theorem dksX0_dusk_5 : cX0_dusk.data.toList.drop 116 = dktX0_dusk_5 := dk_seg dksX0_dusk_4 24 rfl rfl
theorem dX0_dusk_0 : decode cX0_dusk 0 = .ok (.iload_n 1, 1) := dk_27 (dk_at dksX0_dusk_0 0 rfl rfl)
theorem dX0_dusk_1 : decode cX0_dusk 1 = .ok (.iconst 0, 1) := dk_3 (dk_at dksX0_dusk_0 1 rfl rfl)
theorem dX0_dusk_2 : decode cX0_dusk 2 = .ok (.iconst 4, 1) := dk_7 (dk_at dksX0_dusk_0 2 rfl rfl)
theorem dX0_dusk_3 : decode cX0_dusk 3 = .ok (.invokestatic 175, 3) := dk_184 0 175 (dk_at dksX0_dusk_0 3 rfl rfl)
theorem dX0_dusk_6 : decode cX0_dusk 6 = .ok (.ifCond .eq 12, 3) := dk_153 0 12 (dk_at dksX0_dusk_0 6 rfl rfl)
theorem dX0_dusk_9 : decode cX0_dusk 9 = .ok (.iload_n 2, 1) := dk_28 (dk_at dksX0_dusk_0 9 rfl rfl)
theorem dX0_dusk_10 : decode cX0_dusk 10 = .ok (.iconst 0, 1) := dk_3 (dk_at dksX0_dusk_0 10 rfl rfl)
theorem dX0_dusk_11 : decode cX0_dusk 11 = .ok (.iconst 3, 1) := dk_6 (dk_at dksX0_dusk_0 11 rfl rfl)
theorem dX0_dusk_12 : decode cX0_dusk 12 = .ok (.invokestatic 175, 3) := dk_184 0 175 (dk_at dksX0_dusk_0 12 rfl rfl)
theorem dX0_dusk_15 : decode cX0_dusk 15 = .ok (.ifCond .ne 5, 3) := dk_154 0 5 (dk_at dksX0_dusk_0 15 rfl rfl)
theorem dX0_dusk_18 : decode cX0_dusk 18 = .ok (.iconst (-1), 1) := dk_2 (dk_at dksX0_dusk_0 18 rfl rfl)
theorem dX0_dusk_19 : decode cX0_dusk 19 = .ok (.ireturn, 1) := dk_172 (dk_at dksX0_dusk_0 19 rfl rfl)
theorem dX0_dusk_20 : decode cX0_dusk 20 = .ok (.iconst 0, 1) := dk_3 (dk_at dksX0_dusk_0 20 rfl rfl)
theorem dX0_dusk_21 : decode cX0_dusk 21 = .ok (.istore_n 3, 1) := dk_62 (dk_at dksX0_dusk_0 21 rfl rfl)
theorem dX0_dusk_22 : decode cX0_dusk 22 = .ok (.iconst 0, 1) := dk_3 (dk_at dksX0_dusk_0 22 rfl rfl)
theorem dX0_dusk_23 : decode cX0_dusk 23 = .ok (.istore 4, 2) := dk_54 4 (dk_at dksX0_dusk_1 0 rfl rfl)
theorem dX0_dusk_25 : decode cX0_dusk 25 = .ok (.aload_n 0, 1) := dk_42 (dk_at dksX0_dusk_1 2 rfl rfl)
theorem dX0_dusk_26 : decode cX0_dusk 26 = .ok (.iload_n 1, 1) := dk_27 (dk_at dksX0_dusk_1 3 rfl rfl)
theorem dX0_dusk_27 : decode cX0_dusk 27 = .ok (.invokevirtual 342, 3) := dk_182 1 86 (dk_at dksX0_dusk_1 4 rfl rfl)
theorem dX0_dusk_30 : decode cX0_dusk 30 = .ok (.iconst 0, 1) := dk_3 (dk_at dksX0_dusk_1 7 rfl rfl)
theorem dX0_dusk_31 : decode cX0_dusk 31 = .ok (.istore 5, 2) := dk_54 5 (dk_at dksX0_dusk_1 8 rfl rfl)
theorem dX0_dusk_33 : decode cX0_dusk 33 = .ok (.iload 5, 2) := dk_21 5 (dk_at dksX0_dusk_1 10 rfl rfl)
theorem dX0_dusk_35 : decode cX0_dusk 35 = .ok (.aload_n 0, 1) := dk_42 (dk_at dksX0_dusk_1 12 rfl rfl)
theorem dX0_dusk_36 : decode cX0_dusk 36 = .ok (.invokevirtual 173, 3) := dk_182 0 173 (dk_at dksX0_dusk_1 13 rfl rfl)
theorem dX0_dusk_39 : decode cX0_dusk 39 = .ok (.if_icmp .ge 53, 3) := dk_162 0 53 (dk_at dksX0_dusk_1 16 rfl rfl)
theorem dX0_dusk_42 : decode cX0_dusk 42 = .ok (.aload_n 0, 1) := dk_42 (dk_at dksX0_dusk_1 19 rfl rfl)
theorem dX0_dusk_43 : decode cX0_dusk 43 = .ok (.getfield 67, 3) := dk_180 0 67 (dk_at dksX0_dusk_1 20 rfl rfl)
theorem dX0_dusk_46 : decode cX0_dusk 46 = .ok (.getfield 195, 3) := dk_180 0 195 (dk_at dksX0_dusk_2 0 rfl rfl)
theorem dX0_dusk_49 : decode cX0_dusk 49 = .ok (.iload 5, 2) := dk_21 5 (dk_at dksX0_dusk_2 3 rfl rfl)
theorem dX0_dusk_51 : decode cX0_dusk 51 = .ok (.iaload, 1) := dk_46 (dk_at dksX0_dusk_2 5 rfl rfl)
theorem dX0_dusk_52 : decode cX0_dusk 52 = .ok (.ifCond .le 15, 3) := dk_158 0 15 (dk_at dksX0_dusk_2 6 rfl rfl)
theorem dX0_dusk_55 : decode cX0_dusk 55 = .ok (.iload 4, 2) := dk_21 4 (dk_at dksX0_dusk_2 9 rfl rfl)
theorem dX0_dusk_57 : decode cX0_dusk 57 = .ok (.iconst 1, 1) := dk_4 (dk_at dksX0_dusk_2 11 rfl rfl)
theorem dX0_dusk_58 : decode cX0_dusk 58 = .ok (.iload 5, 2) := dk_21 5 (dk_at dksX0_dusk_2 12 rfl rfl)
theorem dX0_dusk_60 : decode cX0_dusk 60 = .ok (.ishl, 1) := dk_120 (dk_at dksX0_dusk_2 14 rfl rfl)
theorem dX0_dusk_61 : decode cX0_dusk 61 = .ok (.ior, 1) := dk_128 (dk_at dksX0_dusk_2 15 rfl rfl)
theorem dX0_dusk_62 : decode cX0_dusk 62 = .ok (.istore 4, 2) := dk_54 4 (dk_at dksX0_dusk_2 16 rfl rfl)
theorem dX0_dusk_64 : decode cX0_dusk 64 = .ok (.goto 22, 3) := dk_167 0 22 (dk_at dksX0_dusk_2 18 rfl rfl)
theorem dX0_dusk_67 : decode cX0_dusk 67 = .ok (.aload_n 0, 1) := dk_42 (dk_at dksX0_dusk_2 21 rfl rfl)
theorem dX0_dusk_68 : decode cX0_dusk 68 = .ok (.getfield 67, 3) := dk_180 0 67 (dk_at dksX0_dusk_3 0 rfl rfl)
theorem dX0_dusk_71 : decode cX0_dusk 71 = .ok (.iload 5, 2) := dk_21 5 (dk_at dksX0_dusk_3 3 rfl rfl)
theorem dX0_dusk_73 : decode cX0_dusk 73 = .ok (.invokevirtual 201, 3) := dk_182 0 201 (dk_at dksX0_dusk_3 5 rfl rfl)
theorem dX0_dusk_76 : decode cX0_dusk 76 = .ok (.ifCond .ne 10, 3) := dk_154 0 10 (dk_at dksX0_dusk_3 8 rfl rfl)
theorem dX0_dusk_79 : decode cX0_dusk 79 = .ok (.iload_n 3, 1) := dk_29 (dk_at dksX0_dusk_3 11 rfl rfl)
theorem dX0_dusk_80 : decode cX0_dusk 80 = .ok (.iconst 1, 1) := dk_4 (dk_at dksX0_dusk_3 12 rfl rfl)
theorem dX0_dusk_81 : decode cX0_dusk 81 = .ok (.iload 5, 2) := dk_21 5 (dk_at dksX0_dusk_3 13 rfl rfl)
theorem dX0_dusk_83 : decode cX0_dusk 83 = .ok (.ishl, 1) := dk_120 (dk_at dksX0_dusk_3 15 rfl rfl)
theorem dX0_dusk_84 : decode cX0_dusk 84 = .ok (.ior, 1) := dk_128 (dk_at dksX0_dusk_3 16 rfl rfl)
theorem dX0_dusk_85 : decode cX0_dusk 85 = .ok (.istore_n 3, 1) := dk_62 (dk_at dksX0_dusk_3 17 rfl rfl)
theorem dX0_dusk_86 : decode cX0_dusk 86 = .ok (.iinc 5 1, 3) := dk_132 5 1 (dk_at dksX0_dusk_3 18 rfl rfl)
theorem dX0_dusk_89 : decode cX0_dusk 89 = .ok (.goto (-56), 3) := dk_167 255 200 (dk_at dksX0_dusk_3 21 rfl rfl)
theorem dX0_dusk_92 : decode cX0_dusk 92 = .ok (.iload_n 2, 1) := dk_28 (dk_at dksX0_dusk_4 0 rfl rfl)
theorem dX0_dusk_93 : decode cX0_dusk 93 = .ok (.ifCond .ne 10, 3) := dk_154 0 10 (dk_at dksX0_dusk_4 1 rfl rfl)
theorem dX0_dusk_96 : decode cX0_dusk 96 = .ok (.aload_n 0, 1) := dk_42 (dk_at dksX0_dusk_4 4 rfl rfl)
theorem dX0_dusk_97 : decode cX0_dusk 97 = .ok (.getfield 333, 3) := dk_180 1 77 (dk_at dksX0_dusk_4 5 rfl rfl)
theorem dX0_dusk_100 : decode cX0_dusk 100 = .ok (.goto 26, 3) := dk_167 0 26 (dk_at dksX0_dusk_4 8 rfl rfl)
theorem dX0_dusk_103 : decode cX0_dusk 103 = .ok (.iload_n 2, 1) := dk_28 (dk_at dksX0_dusk_4 11 rfl rfl)
theorem dX0_dusk_104 : decode cX0_dusk 104 = .ok (.iconst 1, 1) := dk_4 (dk_at dksX0_dusk_4 12 rfl rfl)
theorem dX0_dusk_105 : decode cX0_dusk 105 = .ok (.if_icmp .ne 10, 3) := dk_160 0 10 (dk_at dksX0_dusk_4 13 rfl rfl)
theorem dX0_dusk_108 : decode cX0_dusk 108 = .ok (.aload_n 0, 1) := dk_42 (dk_at dksX0_dusk_4 16 rfl rfl)
theorem dX0_dusk_109 : decode cX0_dusk 109 = .ok (.getfield 336, 3) := dk_180 1 80 (dk_at dksX0_dusk_4 17 rfl rfl)
theorem dX0_dusk_112 : decode cX0_dusk 112 = .ok (.goto 14, 3) := dk_167 0 14 (dk_at dksX0_dusk_4 20 rfl rfl)
theorem dX0_dusk_115 : decode cX0_dusk 115 = .ok (.iload_n 2, 1) := dk_28 (dk_at dksX0_dusk_4 23 rfl rfl)
theorem dX0_dusk_116 : decode cX0_dusk 116 = .ok (.iconst 2, 1) := dk_5 (dk_at dksX0_dusk_5 0 rfl rfl)
theorem dX0_dusk_117 : decode cX0_dusk 117 = .ok (.if_icmp .ne 7, 3) := dk_160 0 7 (dk_at dksX0_dusk_5 1 rfl rfl)
theorem dX0_dusk_120 : decode cX0_dusk 120 = .ok (.iload_n 3, 1) := dk_29 (dk_at dksX0_dusk_5 4 rfl rfl)
theorem dX0_dusk_121 : decode cX0_dusk 121 = .ok (.goto 5, 3) := dk_167 0 5 (dk_at dksX0_dusk_5 5 rfl rfl)
theorem dX0_dusk_124 : decode cX0_dusk 124 = .ok (.iload 4, 2) := dk_21 4 (dk_at dksX0_dusk_5 8 rfl rfl)
theorem dX0_dusk_126 : decode cX0_dusk 126 = .ok (.ireturn, 1) := dk_172 (dk_at dksX0_dusk_5 10 rfl rfl)
abbrev cX0_runsDusk : ByteArray := prog_1_method_46_code
def yX0_runsDusk : MethodName := ⟨RX0, "runsDusk", "(I)V"⟩
def dkwX0_runsDusk_2 : List UInt8 := [96, 181, 1, 80, 42, 27, 42, 180, 1, 77, 182, 1, 83, 61, 167, 255, 222, 177]
abbrev dktX0_runsDusk_2 : List UInt8 := dkwX0_runsDusk_2 ++ []
def dkwX0_runsDusk_1 : List UInt8 := [182, 1, 83, 61, 28, 158, 0, 36, 42, 89, 180, 1, 77, 4, 96, 181, 1, 77, 42, 89, 180, 1, 80, 28]
abbrev dktX0_runsDusk_1 : List UInt8 := dkwX0_runsDusk_1 ++ dktX0_runsDusk_2
def dkwX0_runsDusk_0 : List UInt8 := [42, 3, 181, 1, 77, 42, 3, 181, 1, 80, 42, 180, 0, 67, 42, 180, 0, 63, 182, 0, 228, 42, 27, 3]
abbrev dktX0_runsDusk_0 : List UInt8 := dkwX0_runsDusk_0 ++ dktX0_runsDusk_1
theorem dksX0_runsDusk_0 : cX0_runsDusk.data.toList.drop 0 = dktX0_runsDusk_0 := by decide +kernel
theorem dksX0_runsDusk_1 : cX0_runsDusk.data.toList.drop 24 = dktX0_runsDusk_1 := dk_seg dksX0_runsDusk_0 24 rfl rfl
theorem dksX0_runsDusk_2 : cX0_runsDusk.data.toList.drop 48 = dktX0_runsDusk_2 := dk_seg dksX0_runsDusk_1 24 rfl rfl
theorem dX0_runsDusk_0 : decode cX0_runsDusk 0 = .ok (.aload_n 0, 1) := dk_42 (dk_at dksX0_runsDusk_0 0 rfl rfl)
theorem dX0_runsDusk_1 : decode cX0_runsDusk 1 = .ok (.iconst 0, 1) := dk_3 (dk_at dksX0_runsDusk_0 1 rfl rfl)
theorem dX0_runsDusk_2 : decode cX0_runsDusk 2 = .ok (.putfield 333, 3) := dk_181 1 77 (dk_at dksX0_runsDusk_0 2 rfl rfl)
theorem dX0_runsDusk_5 : decode cX0_runsDusk 5 = .ok (.aload_n 0, 1) := dk_42 (dk_at dksX0_runsDusk_0 5 rfl rfl)
theorem dX0_runsDusk_6 : decode cX0_runsDusk 6 = .ok (.iconst 0, 1) := dk_3 (dk_at dksX0_runsDusk_0 6 rfl rfl)
theorem dX0_runsDusk_7 : decode cX0_runsDusk 7 = .ok (.putfield 336, 3) := dk_181 1 80 (dk_at dksX0_runsDusk_0 7 rfl rfl)
theorem dX0_runsDusk_10 : decode cX0_runsDusk 10 = .ok (.aload_n 0, 1) := dk_42 (dk_at dksX0_runsDusk_0 10 rfl rfl)
theorem dX0_runsDusk_11 : decode cX0_runsDusk 11 = .ok (.getfield 67, 3) := dk_180 0 67 (dk_at dksX0_runsDusk_0 11 rfl rfl)
theorem dX0_runsDusk_14 : decode cX0_runsDusk 14 = .ok (.aload_n 0, 1) := dk_42 (dk_at dksX0_runsDusk_0 14 rfl rfl)
theorem dX0_runsDusk_15 : decode cX0_runsDusk 15 = .ok (.getfield 63, 3) := dk_180 0 63 (dk_at dksX0_runsDusk_0 15 rfl rfl)
theorem dX0_runsDusk_18 : decode cX0_runsDusk 18 = .ok (.invokevirtual 228, 3) := dk_182 0 228 (dk_at dksX0_runsDusk_0 18 rfl rfl)
theorem dX0_runsDusk_21 : decode cX0_runsDusk 21 = .ok (.aload_n 0, 1) := dk_42 (dk_at dksX0_runsDusk_0 21 rfl rfl)
theorem dX0_runsDusk_22 : decode cX0_runsDusk 22 = .ok (.iload_n 1, 1) := dk_27 (dk_at dksX0_runsDusk_0 22 rfl rfl)
theorem dX0_runsDusk_23 : decode cX0_runsDusk 23 = .ok (.iconst 0, 1) := dk_3 (dk_at dksX0_runsDusk_0 23 rfl rfl)
theorem dX0_runsDusk_24 : decode cX0_runsDusk 24 = .ok (.invokevirtual 339, 3) := dk_182 1 83 (dk_at dksX0_runsDusk_1 0 rfl rfl)
theorem dX0_runsDusk_27 : decode cX0_runsDusk 27 = .ok (.istore_n 2, 1) := dk_61 (dk_at dksX0_runsDusk_1 3 rfl rfl)
theorem dX0_runsDusk_28 : decode cX0_runsDusk 28 = .ok (.iload_n 2, 1) := dk_28 (dk_at dksX0_runsDusk_1 4 rfl rfl)
theorem dX0_runsDusk_29 : decode cX0_runsDusk 29 = .ok (.ifCond .le 36, 3) := dk_158 0 36 (dk_at dksX0_runsDusk_1 5 rfl rfl)
theorem dX0_runsDusk_32 : decode cX0_runsDusk 32 = .ok (.aload_n 0, 1) := dk_42 (dk_at dksX0_runsDusk_1 8 rfl rfl)
theorem dX0_runsDusk_33 : decode cX0_runsDusk 33 = .ok (.dup, 1) := dk_89 (dk_at dksX0_runsDusk_1 9 rfl rfl)
theorem dX0_runsDusk_34 : decode cX0_runsDusk 34 = .ok (.getfield 333, 3) := dk_180 1 77 (dk_at dksX0_runsDusk_1 10 rfl rfl)
theorem dX0_runsDusk_37 : decode cX0_runsDusk 37 = .ok (.iconst 1, 1) := dk_4 (dk_at dksX0_runsDusk_1 13 rfl rfl)
theorem dX0_runsDusk_38 : decode cX0_runsDusk 38 = .ok (.iadd, 1) := dk_96 (dk_at dksX0_runsDusk_1 14 rfl rfl)
theorem dX0_runsDusk_39 : decode cX0_runsDusk 39 = .ok (.putfield 333, 3) := dk_181 1 77 (dk_at dksX0_runsDusk_1 15 rfl rfl)
theorem dX0_runsDusk_42 : decode cX0_runsDusk 42 = .ok (.aload_n 0, 1) := dk_42 (dk_at dksX0_runsDusk_1 18 rfl rfl)
theorem dX0_runsDusk_43 : decode cX0_runsDusk 43 = .ok (.dup, 1) := dk_89 (dk_at dksX0_runsDusk_1 19 rfl rfl)
theorem dX0_runsDusk_44 : decode cX0_runsDusk 44 = .ok (.getfield 336, 3) := dk_180 1 80 (dk_at dksX0_runsDusk_1 20 rfl rfl)
theorem dX0_runsDusk_47 : decode cX0_runsDusk 47 = .ok (.iload_n 2, 1) := dk_28 (dk_at dksX0_runsDusk_1 23 rfl rfl)
theorem dX0_runsDusk_48 : decode cX0_runsDusk 48 = .ok (.iadd, 1) := dk_96 (dk_at dksX0_runsDusk_2 0 rfl rfl)
theorem dX0_runsDusk_49 : decode cX0_runsDusk 49 = .ok (.putfield 336, 3) := dk_181 1 80 (dk_at dksX0_runsDusk_2 1 rfl rfl)
theorem dX0_runsDusk_52 : decode cX0_runsDusk 52 = .ok (.aload_n 0, 1) := dk_42 (dk_at dksX0_runsDusk_2 4 rfl rfl)
theorem dX0_runsDusk_53 : decode cX0_runsDusk 53 = .ok (.iload_n 1, 1) := dk_27 (dk_at dksX0_runsDusk_2 5 rfl rfl)
theorem dX0_runsDusk_54 : decode cX0_runsDusk 54 = .ok (.aload_n 0, 1) := dk_42 (dk_at dksX0_runsDusk_2 6 rfl rfl)
theorem dX0_runsDusk_55 : decode cX0_runsDusk 55 = .ok (.getfield 333, 3) := dk_180 1 77 (dk_at dksX0_runsDusk_2 7 rfl rfl)
theorem dX0_runsDusk_58 : decode cX0_runsDusk 58 = .ok (.invokevirtual 339, 3) := dk_182 1 83 (dk_at dksX0_runsDusk_2 10 rfl rfl)
theorem dX0_runsDusk_61 : decode cX0_runsDusk 61 = .ok (.istore_n 2, 1) := dk_61 (dk_at dksX0_runsDusk_2 13 rfl rfl)
theorem dX0_runsDusk_62 : decode cX0_runsDusk 62 = .ok (.goto (-34), 3) := dk_167 255 222 (dk_at dksX0_runsDusk_2 14 rfl rfl)
theorem dX0_runsDusk_65 : decode cX0_runsDusk 65 = .ok (.return_, 1) := dk_177 (dk_at dksX0_runsDusk_2 17 rfl rfl)
abbrev cX0_windsAll : ByteArray := prog_1_method_45_code
def yX0_windsAll : MethodName := ⟨RX0, "windsAll", "(II)I"⟩
def dkwX0_windsAll_4 : List UInt8 := [2, 130, 126, 62, 167, 255, 214, 21, 4, 172]
abbrev dktX0_windsAll_4 : List UInt8 := dkwX0_windsAll_4 ++ []
def dkwX0_windsAll_3 : List UInt8 := [180, 0, 67, 21, 5, 182, 0, 239, 153, 0, 7, 4, 167, 0, 4, 3, 96, 54, 4, 29, 4, 21, 5, 120]
abbrev dktX0_windsAll_3 : List UInt8 := dkwX0_windsAll_3 ++ dktX0_windsAll_4
def dkwX0_windsAll_2 : List UInt8 := [182, 1, 70, 79, 132, 5, 1, 167, 255, 217, 29, 153, 0, 44, 42, 29, 182, 1, 74, 54, 5, 21, 4, 42]
abbrev dktX0_windsAll_2 : List UInt8 := dkwX0_windsAll_2 ++ dktX0_windsAll_3
def dkwX0_windsAll_1 : List UInt8 := [42, 180, 0, 114, 21, 5, 42, 180, 0, 94, 27, 50, 42, 180, 0, 67, 42, 180, 0, 52, 21, 5, 28]
abbrev dktX0_windsAll_1 : List UInt8 := dkwX0_windsAll_1 ++ dktX0_windsAll_2
def dkwX0_windsAll_0 : List UInt8 := [4, 42, 182, 0, 173, 120, 4, 100, 62, 3, 54, 4, 3, 54, 5, 21, 5, 42, 182, 0, 173, 162, 0, 36]
abbrev dktX0_windsAll_0 : List UInt8 := dkwX0_windsAll_0 ++ dktX0_windsAll_1
theorem dksX0_windsAll_0 : cX0_windsAll.data.toList.drop 0 = dktX0_windsAll_0 := by decide +kernel
theorem dksX0_windsAll_1 : cX0_windsAll.data.toList.drop 24 = dktX0_windsAll_1 := dk_seg dksX0_windsAll_0 24 rfl rfl
theorem dksX0_windsAll_2 : cX0_windsAll.data.toList.drop 47 = dktX0_windsAll_2 := dk_seg dksX0_windsAll_1 23 rfl rfl
theorem dksX0_windsAll_3 : cX0_windsAll.data.toList.drop 71 = dktX0_windsAll_3 := dk_seg dksX0_windsAll_2 24 rfl rfl
theorem dksX0_windsAll_4 : cX0_windsAll.data.toList.drop 95 = dktX0_windsAll_4 := dk_seg dksX0_windsAll_3 24 rfl rfl
theorem dX0_windsAll_0 : decode cX0_windsAll 0 = .ok (.iconst 1, 1) := dk_4 (dk_at dksX0_windsAll_0 0 rfl rfl)
theorem dX0_windsAll_1 : decode cX0_windsAll 1 = .ok (.aload_n 0, 1) := dk_42 (dk_at dksX0_windsAll_0 1 rfl rfl)
theorem dX0_windsAll_2 : decode cX0_windsAll 2 = .ok (.invokevirtual 173, 3) := dk_182 0 173 (dk_at dksX0_windsAll_0 2 rfl rfl)
theorem dX0_windsAll_5 : decode cX0_windsAll 5 = .ok (.ishl, 1) := dk_120 (dk_at dksX0_windsAll_0 5 rfl rfl)
theorem dX0_windsAll_6 : decode cX0_windsAll 6 = .ok (.iconst 1, 1) := dk_4 (dk_at dksX0_windsAll_0 6 rfl rfl)
theorem dX0_windsAll_7 : decode cX0_windsAll 7 = .ok (.isub, 1) := dk_100 (dk_at dksX0_windsAll_0 7 rfl rfl)
theorem dX0_windsAll_8 : decode cX0_windsAll 8 = .ok (.istore_n 3, 1) := dk_62 (dk_at dksX0_windsAll_0 8 rfl rfl)
theorem dX0_windsAll_9 : decode cX0_windsAll 9 = .ok (.iconst 0, 1) := dk_3 (dk_at dksX0_windsAll_0 9 rfl rfl)
theorem dX0_windsAll_10 : decode cX0_windsAll 10 = .ok (.istore 4, 2) := dk_54 4 (dk_at dksX0_windsAll_0 10 rfl rfl)
theorem dX0_windsAll_12 : decode cX0_windsAll 12 = .ok (.iconst 0, 1) := dk_3 (dk_at dksX0_windsAll_0 12 rfl rfl)
theorem dX0_windsAll_13 : decode cX0_windsAll 13 = .ok (.istore 5, 2) := dk_54 5 (dk_at dksX0_windsAll_0 13 rfl rfl)
theorem dX0_windsAll_15 : decode cX0_windsAll 15 = .ok (.iload 5, 2) := dk_21 5 (dk_at dksX0_windsAll_0 15 rfl rfl)
theorem dX0_windsAll_17 : decode cX0_windsAll 17 = .ok (.aload_n 0, 1) := dk_42 (dk_at dksX0_windsAll_0 17 rfl rfl)
theorem dX0_windsAll_18 : decode cX0_windsAll 18 = .ok (.invokevirtual 173, 3) := dk_182 0 173 (dk_at dksX0_windsAll_0 18 rfl rfl)
theorem dX0_windsAll_21 : decode cX0_windsAll 21 = .ok (.if_icmp .ge 36, 3) := dk_162 0 36 (dk_at dksX0_windsAll_0 21 rfl rfl)
theorem dX0_windsAll_24 : decode cX0_windsAll 24 = .ok (.aload_n 0, 1) := dk_42 (dk_at dksX0_windsAll_1 0 rfl rfl)
theorem dX0_windsAll_25 : decode cX0_windsAll 25 = .ok (.getfield 114, 3) := dk_180 0 114 (dk_at dksX0_windsAll_1 1 rfl rfl)
theorem dX0_windsAll_28 : decode cX0_windsAll 28 = .ok (.iload 5, 2) := dk_21 5 (dk_at dksX0_windsAll_1 4 rfl rfl)
theorem dX0_windsAll_30 : decode cX0_windsAll 30 = .ok (.aload_n 0, 1) := dk_42 (dk_at dksX0_windsAll_1 6 rfl rfl)
theorem dX0_windsAll_31 : decode cX0_windsAll 31 = .ok (.getfield 94, 3) := dk_180 0 94 (dk_at dksX0_windsAll_1 7 rfl rfl)
theorem dX0_windsAll_34 : decode cX0_windsAll 34 = .ok (.iload_n 1, 1) := dk_27 (dk_at dksX0_windsAll_1 10 rfl rfl)
theorem dX0_windsAll_35 : decode cX0_windsAll 35 = .ok (.aaload, 1) := dk_50 (dk_at dksX0_windsAll_1 11 rfl rfl)
theorem dX0_windsAll_36 : decode cX0_windsAll 36 = .ok (.aload_n 0, 1) := dk_42 (dk_at dksX0_windsAll_1 12 rfl rfl)
theorem dX0_windsAll_37 : decode cX0_windsAll 37 = .ok (.getfield 67, 3) := dk_180 0 67 (dk_at dksX0_windsAll_1 13 rfl rfl)
theorem dX0_windsAll_40 : decode cX0_windsAll 40 = .ok (.aload_n 0, 1) := dk_42 (dk_at dksX0_windsAll_1 16 rfl rfl)
theorem dX0_windsAll_41 : decode cX0_windsAll 41 = .ok (.getfield 52, 3) := dk_180 0 52 (dk_at dksX0_windsAll_1 17 rfl rfl)
theorem dX0_windsAll_44 : decode cX0_windsAll 44 = .ok (.iload 5, 2) := dk_21 5 (dk_at dksX0_windsAll_1 20 rfl rfl)
theorem dX0_windsAll_46 : decode cX0_windsAll 46 = .ok (.iload_n 2, 1) := dk_28 (dk_at dksX0_windsAll_1 22 rfl rfl)
theorem dX0_windsAll_47 : decode cX0_windsAll 47 = .ok (.invokevirtual 326, 3) := dk_182 1 70 (dk_at dksX0_windsAll_2 0 rfl rfl)
theorem dX0_windsAll_50 : decode cX0_windsAll 50 = .ok (.iastore, 1) := dk_79 (dk_at dksX0_windsAll_2 3 rfl rfl)
theorem dX0_windsAll_51 : decode cX0_windsAll 51 = .ok (.iinc 5 1, 3) := dk_132 5 1 (dk_at dksX0_windsAll_2 4 rfl rfl)
theorem dX0_windsAll_54 : decode cX0_windsAll 54 = .ok (.goto (-39), 3) := dk_167 255 217 (dk_at dksX0_windsAll_2 7 rfl rfl)
theorem dX0_windsAll_57 : decode cX0_windsAll 57 = .ok (.iload_n 3, 1) := dk_29 (dk_at dksX0_windsAll_2 10 rfl rfl)
theorem dX0_windsAll_58 : decode cX0_windsAll 58 = .ok (.ifCond .eq 44, 3) := dk_153 0 44 (dk_at dksX0_windsAll_2 11 rfl rfl)
theorem dX0_windsAll_61 : decode cX0_windsAll 61 = .ok (.aload_n 0, 1) := dk_42 (dk_at dksX0_windsAll_2 14 rfl rfl)
theorem dX0_windsAll_62 : decode cX0_windsAll 62 = .ok (.iload_n 3, 1) := dk_29 (dk_at dksX0_windsAll_2 15 rfl rfl)
theorem dX0_windsAll_63 : decode cX0_windsAll 63 = .ok (.invokevirtual 330, 3) := dk_182 1 74 (dk_at dksX0_windsAll_2 16 rfl rfl)
theorem dX0_windsAll_66 : decode cX0_windsAll 66 = .ok (.istore 5, 2) := dk_54 5 (dk_at dksX0_windsAll_2 19 rfl rfl)
theorem dX0_windsAll_68 : decode cX0_windsAll 68 = .ok (.iload 4, 2) := dk_21 4 (dk_at dksX0_windsAll_2 21 rfl rfl)
theorem dX0_windsAll_70 : decode cX0_windsAll 70 = .ok (.aload_n 0, 1) := dk_42 (dk_at dksX0_windsAll_2 23 rfl rfl)
theorem dX0_windsAll_71 : decode cX0_windsAll 71 = .ok (.getfield 67, 3) := dk_180 0 67 (dk_at dksX0_windsAll_3 0 rfl rfl)
theorem dX0_windsAll_74 : decode cX0_windsAll 74 = .ok (.iload 5, 2) := dk_21 5 (dk_at dksX0_windsAll_3 3 rfl rfl)
theorem dX0_windsAll_76 : decode cX0_windsAll 76 = .ok (.invokevirtual 239, 3) := dk_182 0 239 (dk_at dksX0_windsAll_3 5 rfl rfl)
theorem dX0_windsAll_79 : decode cX0_windsAll 79 = .ok (.ifCond .eq 7, 3) := dk_153 0 7 (dk_at dksX0_windsAll_3 8 rfl rfl)
theorem dX0_windsAll_82 : decode cX0_windsAll 82 = .ok (.iconst 1, 1) := dk_4 (dk_at dksX0_windsAll_3 11 rfl rfl)
theorem dX0_windsAll_83 : decode cX0_windsAll 83 = .ok (.goto 4, 3) := dk_167 0 4 (dk_at dksX0_windsAll_3 12 rfl rfl)
theorem dX0_windsAll_86 : decode cX0_windsAll 86 = .ok (.iconst 0, 1) := dk_3 (dk_at dksX0_windsAll_3 15 rfl rfl)
theorem dX0_windsAll_87 : decode cX0_windsAll 87 = .ok (.iadd, 1) := dk_96 (dk_at dksX0_windsAll_3 16 rfl rfl)
theorem dX0_windsAll_88 : decode cX0_windsAll 88 = .ok (.istore 4, 2) := dk_54 4 (dk_at dksX0_windsAll_3 17 rfl rfl)
theorem dX0_windsAll_90 : decode cX0_windsAll 90 = .ok (.iload_n 3, 1) := dk_29 (dk_at dksX0_windsAll_3 19 rfl rfl)
theorem dX0_windsAll_91 : decode cX0_windsAll 91 = .ok (.iconst 1, 1) := dk_4 (dk_at dksX0_windsAll_3 20 rfl rfl)
theorem dX0_windsAll_92 : decode cX0_windsAll 92 = .ok (.iload 5, 2) := dk_21 5 (dk_at dksX0_windsAll_3 21 rfl rfl)
theorem dX0_windsAll_94 : decode cX0_windsAll 94 = .ok (.ishl, 1) := dk_120 (dk_at dksX0_windsAll_3 23 rfl rfl)
theorem dX0_windsAll_95 : decode cX0_windsAll 95 = .ok (.iconst (-1), 1) := dk_2 (dk_at dksX0_windsAll_4 0 rfl rfl)
theorem dX0_windsAll_96 : decode cX0_windsAll 96 = .ok (.ixor, 1) := dk_130 (dk_at dksX0_windsAll_4 1 rfl rfl)
theorem dX0_windsAll_97 : decode cX0_windsAll 97 = .ok (.iand, 1) := dk_126 (dk_at dksX0_windsAll_4 2 rfl rfl)
theorem dX0_windsAll_98 : decode cX0_windsAll 98 = .ok (.istore_n 3, 1) := dk_62 (dk_at dksX0_windsAll_4 3 rfl rfl)
theorem dX0_windsAll_99 : decode cX0_windsAll 99 = .ok (.goto (-42), 3) := dk_167 255 214 (dk_at dksX0_windsAll_4 4 rfl rfl)
theorem dX0_windsAll_102 : decode cX0_windsAll 102 = .ok (.iload 4, 2) := dk_21 4 (dk_at dksX0_windsAll_4 7 rfl rfl)
theorem dX0_windsAll_104 : decode cX0_windsAll 104 = .ok (.ireturn, 1) := dk_172 (dk_at dksX0_windsAll_4 9 rfl rfl)
abbrev cX0_nextOf : ByteArray := prog_1_method_44_code
def yX0_nextOf : MethodName := ⟨RX0, "nextOf", "(I)I"⟩
def dkwX0_nextOf_2 : List UInt8 := [167, 255, 215, 28, 172]
abbrev dktX0_nextOf_2 : List UInt8 := dkwX0_nextOf_2 ++ []
def dkwX0_nextOf_1 : List UInt8 := [155, 0, 18, 42, 180, 0, 114, 29, 46, 42, 180, 0, 114, 28, 46, 164, 0, 5, 29, 61, 132, 3, 1]
abbrev dktX0_nextOf_1 : List UInt8 := dkwX0_nextOf_1 ++ dktX0_nextOf_2
def dkwX0_nextOf_0 : List UInt8 := [2, 61, 3, 62, 29, 42, 182, 0, 173, 162, 0, 39, 27, 29, 122, 4, 126, 4, 160, 0, 24, 28]
abbrev dktX0_nextOf_0 : List UInt8 := dkwX0_nextOf_0 ++ dktX0_nextOf_1
theorem dksX0_nextOf_0 : cX0_nextOf.data.toList.drop 0 = dktX0_nextOf_0 := by decide +kernel
theorem dksX0_nextOf_1 : cX0_nextOf.data.toList.drop 22 = dktX0_nextOf_1 := dk_seg dksX0_nextOf_0 22 rfl rfl
theorem dksX0_nextOf_2 : cX0_nextOf.data.toList.drop 45 = dktX0_nextOf_2 := dk_seg dksX0_nextOf_1 23 rfl rfl
theorem dX0_nextOf_0 : decode cX0_nextOf 0 = .ok (.iconst (-1), 1) := dk_2 (dk_at dksX0_nextOf_0 0 rfl rfl)
theorem dX0_nextOf_1 : decode cX0_nextOf 1 = .ok (.istore_n 2, 1) := dk_61 (dk_at dksX0_nextOf_0 1 rfl rfl)
theorem dX0_nextOf_2 : decode cX0_nextOf 2 = .ok (.iconst 0, 1) := dk_3 (dk_at dksX0_nextOf_0 2 rfl rfl)
theorem dX0_nextOf_3 : decode cX0_nextOf 3 = .ok (.istore_n 3, 1) := dk_62 (dk_at dksX0_nextOf_0 3 rfl rfl)
theorem dX0_nextOf_4 : decode cX0_nextOf 4 = .ok (.iload_n 3, 1) := dk_29 (dk_at dksX0_nextOf_0 4 rfl rfl)
theorem dX0_nextOf_5 : decode cX0_nextOf 5 = .ok (.aload_n 0, 1) := dk_42 (dk_at dksX0_nextOf_0 5 rfl rfl)
theorem dX0_nextOf_6 : decode cX0_nextOf 6 = .ok (.invokevirtual 173, 3) := dk_182 0 173 (dk_at dksX0_nextOf_0 6 rfl rfl)
theorem dX0_nextOf_9 : decode cX0_nextOf 9 = .ok (.if_icmp .ge 39, 3) := dk_162 0 39 (dk_at dksX0_nextOf_0 9 rfl rfl)
theorem dX0_nextOf_12 : decode cX0_nextOf 12 = .ok (.iload_n 1, 1) := dk_27 (dk_at dksX0_nextOf_0 12 rfl rfl)
theorem dX0_nextOf_13 : decode cX0_nextOf 13 = .ok (.iload_n 3, 1) := dk_29 (dk_at dksX0_nextOf_0 13 rfl rfl)
theorem dX0_nextOf_14 : decode cX0_nextOf 14 = .ok (.ishr, 1) := dk_122 (dk_at dksX0_nextOf_0 14 rfl rfl)
theorem dX0_nextOf_15 : decode cX0_nextOf 15 = .ok (.iconst 1, 1) := dk_4 (dk_at dksX0_nextOf_0 15 rfl rfl)
theorem dX0_nextOf_16 : decode cX0_nextOf 16 = .ok (.iand, 1) := dk_126 (dk_at dksX0_nextOf_0 16 rfl rfl)
theorem dX0_nextOf_17 : decode cX0_nextOf 17 = .ok (.iconst 1, 1) := dk_4 (dk_at dksX0_nextOf_0 17 rfl rfl)
theorem dX0_nextOf_18 : decode cX0_nextOf 18 = .ok (.if_icmp .ne 24, 3) := dk_160 0 24 (dk_at dksX0_nextOf_0 18 rfl rfl)
theorem dX0_nextOf_21 : decode cX0_nextOf 21 = .ok (.iload_n 2, 1) := dk_28 (dk_at dksX0_nextOf_0 21 rfl rfl)
theorem dX0_nextOf_22 : decode cX0_nextOf 22 = .ok (.ifCond .lt 18, 3) := dk_155 0 18 (dk_at dksX0_nextOf_1 0 rfl rfl)
theorem dX0_nextOf_25 : decode cX0_nextOf 25 = .ok (.aload_n 0, 1) := dk_42 (dk_at dksX0_nextOf_1 3 rfl rfl)
theorem dX0_nextOf_26 : decode cX0_nextOf 26 = .ok (.getfield 114, 3) := dk_180 0 114 (dk_at dksX0_nextOf_1 4 rfl rfl)
theorem dX0_nextOf_29 : decode cX0_nextOf 29 = .ok (.iload_n 3, 1) := dk_29 (dk_at dksX0_nextOf_1 7 rfl rfl)
theorem dX0_nextOf_30 : decode cX0_nextOf 30 = .ok (.iaload, 1) := dk_46 (dk_at dksX0_nextOf_1 8 rfl rfl)
theorem dX0_nextOf_31 : decode cX0_nextOf 31 = .ok (.aload_n 0, 1) := dk_42 (dk_at dksX0_nextOf_1 9 rfl rfl)
theorem dX0_nextOf_32 : decode cX0_nextOf 32 = .ok (.getfield 114, 3) := dk_180 0 114 (dk_at dksX0_nextOf_1 10 rfl rfl)
theorem dX0_nextOf_35 : decode cX0_nextOf 35 = .ok (.iload_n 2, 1) := dk_28 (dk_at dksX0_nextOf_1 13 rfl rfl)
theorem dX0_nextOf_36 : decode cX0_nextOf 36 = .ok (.iaload, 1) := dk_46 (dk_at dksX0_nextOf_1 14 rfl rfl)
theorem dX0_nextOf_37 : decode cX0_nextOf 37 = .ok (.if_icmp .le 5, 3) := dk_164 0 5 (dk_at dksX0_nextOf_1 15 rfl rfl)
theorem dX0_nextOf_40 : decode cX0_nextOf 40 = .ok (.iload_n 3, 1) := dk_29 (dk_at dksX0_nextOf_1 18 rfl rfl)
theorem dX0_nextOf_41 : decode cX0_nextOf 41 = .ok (.istore_n 2, 1) := dk_61 (dk_at dksX0_nextOf_1 19 rfl rfl)
theorem dX0_nextOf_42 : decode cX0_nextOf 42 = .ok (.iinc 3 1, 3) := dk_132 3 1 (dk_at dksX0_nextOf_1 20 rfl rfl)
theorem dX0_nextOf_45 : decode cX0_nextOf 45 = .ok (.goto (-41), 3) := dk_167 255 215 (dk_at dksX0_nextOf_2 0 rfl rfl)
theorem dX0_nextOf_48 : decode cX0_nextOf 48 = .ok (.iload_n 2, 1) := dk_28 (dk_at dksX0_nextOf_2 3 rfl rfl)
theorem dX0_nextOf_49 : decode cX0_nextOf 49 = .ok (.ireturn, 1) := dk_172 (dk_at dksX0_nextOf_2 4 rfl rfl)
abbrev cX0_bestDusk : ByteArray := prog_1_method_48_code
def yX0_bestDusk : MethodName := ⟨RX0, "bestDusk", "()I"⟩
def dkwX0_bestDusk_2 : List UInt8 := [167, 0, 16, 21, 4, 60, 42, 180, 1, 80, 61, 42, 180, 1, 77, 62, 132, 4, 1, 167, 255, 201, 27, 172]
abbrev dktX0_bestDusk_2 : List UInt8 := dkwX0_bestDusk_2 ++ []
def dkwX0_bestDusk_1 : List UInt8 := [180, 1, 80, 28, 161, 0, 35, 42, 180, 1, 80, 28, 160, 0, 14, 42, 180, 1, 77, 29, 161, 0, 6]
abbrev dktX0_bestDusk_1 : List UInt8 := dkwX0_bestDusk_1 ++ dktX0_bestDusk_2
def dkwX0_bestDusk_0 : List UInt8 := [3, 60, 2, 61, 3, 62, 3, 54, 4, 21, 4, 8, 162, 0, 55, 42, 21, 4, 182, 1, 86, 42]
abbrev dktX0_bestDusk_0 : List UInt8 := dkwX0_bestDusk_0 ++ dktX0_bestDusk_1
theorem dksX0_bestDusk_0 : cX0_bestDusk.data.toList.drop 0 = dktX0_bestDusk_0 := by decide +kernel
theorem dksX0_bestDusk_1 : cX0_bestDusk.data.toList.drop 22 = dktX0_bestDusk_1 := dk_seg dksX0_bestDusk_0 22 rfl rfl
theorem dksX0_bestDusk_2 : cX0_bestDusk.data.toList.drop 45 = dktX0_bestDusk_2 := dk_seg dksX0_bestDusk_1 23 rfl rfl
theorem dX0_bestDusk_0 : decode cX0_bestDusk 0 = .ok (.iconst 0, 1) := dk_3 (dk_at dksX0_bestDusk_0 0 rfl rfl)
theorem dX0_bestDusk_1 : decode cX0_bestDusk 1 = .ok (.istore_n 1, 1) := dk_60 (dk_at dksX0_bestDusk_0 1 rfl rfl)
theorem dX0_bestDusk_2 : decode cX0_bestDusk 2 = .ok (.iconst (-1), 1) := dk_2 (dk_at dksX0_bestDusk_0 2 rfl rfl)
theorem dX0_bestDusk_3 : decode cX0_bestDusk 3 = .ok (.istore_n 2, 1) := dk_61 (dk_at dksX0_bestDusk_0 3 rfl rfl)
theorem dX0_bestDusk_4 : decode cX0_bestDusk 4 = .ok (.iconst 0, 1) := dk_3 (dk_at dksX0_bestDusk_0 4 rfl rfl)
theorem dX0_bestDusk_5 : decode cX0_bestDusk 5 = .ok (.istore_n 3, 1) := dk_62 (dk_at dksX0_bestDusk_0 5 rfl rfl)
theorem dX0_bestDusk_6 : decode cX0_bestDusk 6 = .ok (.iconst 0, 1) := dk_3 (dk_at dksX0_bestDusk_0 6 rfl rfl)
theorem dX0_bestDusk_7 : decode cX0_bestDusk 7 = .ok (.istore 4, 2) := dk_54 4 (dk_at dksX0_bestDusk_0 7 rfl rfl)
theorem dX0_bestDusk_9 : decode cX0_bestDusk 9 = .ok (.iload 4, 2) := dk_21 4 (dk_at dksX0_bestDusk_0 9 rfl rfl)
theorem dX0_bestDusk_11 : decode cX0_bestDusk 11 = .ok (.iconst 5, 1) := dk_8 (dk_at dksX0_bestDusk_0 11 rfl rfl)
theorem dX0_bestDusk_12 : decode cX0_bestDusk 12 = .ok (.if_icmp .ge 55, 3) := dk_162 0 55 (dk_at dksX0_bestDusk_0 12 rfl rfl)
theorem dX0_bestDusk_15 : decode cX0_bestDusk 15 = .ok (.aload_n 0, 1) := dk_42 (dk_at dksX0_bestDusk_0 15 rfl rfl)
theorem dX0_bestDusk_16 : decode cX0_bestDusk 16 = .ok (.iload 4, 2) := dk_21 4 (dk_at dksX0_bestDusk_0 16 rfl rfl)
theorem dX0_bestDusk_18 : decode cX0_bestDusk 18 = .ok (.invokevirtual 342, 3) := dk_182 1 86 (dk_at dksX0_bestDusk_0 18 rfl rfl)
theorem dX0_bestDusk_21 : decode cX0_bestDusk 21 = .ok (.aload_n 0, 1) := dk_42 (dk_at dksX0_bestDusk_0 21 rfl rfl)
theorem dX0_bestDusk_22 : decode cX0_bestDusk 22 = .ok (.getfield 336, 3) := dk_180 1 80 (dk_at dksX0_bestDusk_1 0 rfl rfl)
theorem dX0_bestDusk_25 : decode cX0_bestDusk 25 = .ok (.iload_n 2, 1) := dk_28 (dk_at dksX0_bestDusk_1 3 rfl rfl)
theorem dX0_bestDusk_26 : decode cX0_bestDusk 26 = .ok (.if_icmp .lt 35, 3) := dk_161 0 35 (dk_at dksX0_bestDusk_1 4 rfl rfl)
theorem dX0_bestDusk_29 : decode cX0_bestDusk 29 = .ok (.aload_n 0, 1) := dk_42 (dk_at dksX0_bestDusk_1 7 rfl rfl)
theorem dX0_bestDusk_30 : decode cX0_bestDusk 30 = .ok (.getfield 336, 3) := dk_180 1 80 (dk_at dksX0_bestDusk_1 8 rfl rfl)
theorem dX0_bestDusk_33 : decode cX0_bestDusk 33 = .ok (.iload_n 2, 1) := dk_28 (dk_at dksX0_bestDusk_1 11 rfl rfl)
theorem dX0_bestDusk_34 : decode cX0_bestDusk 34 = .ok (.if_icmp .ne 14, 3) := dk_160 0 14 (dk_at dksX0_bestDusk_1 12 rfl rfl)
theorem dX0_bestDusk_37 : decode cX0_bestDusk 37 = .ok (.aload_n 0, 1) := dk_42 (dk_at dksX0_bestDusk_1 15 rfl rfl)
theorem dX0_bestDusk_38 : decode cX0_bestDusk 38 = .ok (.getfield 333, 3) := dk_180 1 77 (dk_at dksX0_bestDusk_1 16 rfl rfl)
theorem dX0_bestDusk_41 : decode cX0_bestDusk 41 = .ok (.iload_n 3, 1) := dk_29 (dk_at dksX0_bestDusk_1 19 rfl rfl)
theorem dX0_bestDusk_42 : decode cX0_bestDusk 42 = .ok (.if_icmp .lt 6, 3) := dk_161 0 6 (dk_at dksX0_bestDusk_1 20 rfl rfl)
theorem dX0_bestDusk_45 : decode cX0_bestDusk 45 = .ok (.goto 16, 3) := dk_167 0 16 (dk_at dksX0_bestDusk_2 0 rfl rfl)
theorem dX0_bestDusk_48 : decode cX0_bestDusk 48 = .ok (.iload 4, 2) := dk_21 4 (dk_at dksX0_bestDusk_2 3 rfl rfl)
theorem dX0_bestDusk_50 : decode cX0_bestDusk 50 = .ok (.istore_n 1, 1) := dk_60 (dk_at dksX0_bestDusk_2 5 rfl rfl)
theorem dX0_bestDusk_51 : decode cX0_bestDusk 51 = .ok (.aload_n 0, 1) := dk_42 (dk_at dksX0_bestDusk_2 6 rfl rfl)
theorem dX0_bestDusk_52 : decode cX0_bestDusk 52 = .ok (.getfield 336, 3) := dk_180 1 80 (dk_at dksX0_bestDusk_2 7 rfl rfl)
theorem dX0_bestDusk_55 : decode cX0_bestDusk 55 = .ok (.istore_n 2, 1) := dk_61 (dk_at dksX0_bestDusk_2 10 rfl rfl)
theorem dX0_bestDusk_56 : decode cX0_bestDusk 56 = .ok (.aload_n 0, 1) := dk_42 (dk_at dksX0_bestDusk_2 11 rfl rfl)
theorem dX0_bestDusk_57 : decode cX0_bestDusk 57 = .ok (.getfield 333, 3) := dk_180 1 77 (dk_at dksX0_bestDusk_2 12 rfl rfl)
theorem dX0_bestDusk_60 : decode cX0_bestDusk 60 = .ok (.istore_n 3, 1) := dk_62 (dk_at dksX0_bestDusk_2 15 rfl rfl)
theorem dX0_bestDusk_61 : decode cX0_bestDusk 61 = .ok (.iinc 4 1, 3) := dk_132 4 1 (dk_at dksX0_bestDusk_2 16 rfl rfl)
theorem dX0_bestDusk_64 : decode cX0_bestDusk 64 = .ok (.goto (-55), 3) := dk_167 255 201 (dk_at dksX0_bestDusk_2 19 rfl rfl)
theorem dX0_bestDusk_67 : decode cX0_bestDusk 67 = .ok (.iload_n 1, 1) := dk_27 (dk_at dksX0_bestDusk_2 22 rfl rfl)
theorem dX0_bestDusk_68 : decode cX0_bestDusk 68 = .ok (.ireturn, 1) := dk_172 (dk_at dksX0_bestDusk_2 23 rfl rfl)
abbrev cX0_shows : ByteArray := prog_1_method_50_code
def yX0_shows : MethodName := ⟨RX0, "shows", "(III)I"⟩
def dkwX0_shows_2 : List UInt8 := [182, 0, 183, 192, 0, 187, 180, 0, 215, 172]
abbrev dktX0_shows_2 : List UInt8 := dkwX0_shows_2 ++ []
def dkwX0_shows_1 : List UInt8 := [182, 1, 91, 54, 4, 21, 4, 156, 0, 8, 16, 254, 167, 0, 21, 42, 180, 0, 52, 180, 0, 163, 21, 4]
abbrev dktX0_shows_1 : List UInt8 := dkwX0_shows_1 ++ dktX0_shows_2
def dkwX0_shows_0 : List UInt8 := [42, 27, 28, 29, 182, 1, 60, 154, 0, 5, 2, 172, 42, 180, 0, 63, 27, 28, 29, 184, 1, 63]
abbrev dktX0_shows_0 : List UInt8 := dkwX0_shows_0 ++ dktX0_shows_1
theorem dksX0_shows_0 : cX0_shows.data.toList.drop 0 = dktX0_shows_0 := by decide +kernel
theorem dksX0_shows_1 : cX0_shows.data.toList.drop 22 = dktX0_shows_1 := dk_seg dksX0_shows_0 22 rfl rfl
theorem dksX0_shows_2 : cX0_shows.data.toList.drop 46 = dktX0_shows_2 := dk_seg dksX0_shows_1 24 rfl rfl
theorem dX0_shows_0 : decode cX0_shows 0 = .ok (.aload_n 0, 1) := dk_42 (dk_at dksX0_shows_0 0 rfl rfl)
theorem dX0_shows_1 : decode cX0_shows 1 = .ok (.iload_n 1, 1) := dk_27 (dk_at dksX0_shows_0 1 rfl rfl)
theorem dX0_shows_2 : decode cX0_shows 2 = .ok (.iload_n 2, 1) := dk_28 (dk_at dksX0_shows_0 2 rfl rfl)
theorem dX0_shows_3 : decode cX0_shows 3 = .ok (.iload_n 3, 1) := dk_29 (dk_at dksX0_shows_0 3 rfl rfl)
theorem dX0_shows_4 : decode cX0_shows 4 = .ok (.invokevirtual 316, 3) := dk_182 1 60 (dk_at dksX0_shows_0 4 rfl rfl)
theorem dX0_shows_7 : decode cX0_shows 7 = .ok (.ifCond .ne 5, 3) := dk_154 0 5 (dk_at dksX0_shows_0 7 rfl rfl)
theorem dX0_shows_10 : decode cX0_shows 10 = .ok (.iconst (-1), 1) := dk_2 (dk_at dksX0_shows_0 10 rfl rfl)
theorem dX0_shows_11 : decode cX0_shows 11 = .ok (.ireturn, 1) := dk_172 (dk_at dksX0_shows_0 11 rfl rfl)
theorem dX0_shows_12 : decode cX0_shows 12 = .ok (.aload_n 0, 1) := dk_42 (dk_at dksX0_shows_0 12 rfl rfl)
theorem dX0_shows_13 : decode cX0_shows 13 = .ok (.getfield 63, 3) := dk_180 0 63 (dk_at dksX0_shows_0 13 rfl rfl)
theorem dX0_shows_16 : decode cX0_shows 16 = .ok (.iload_n 1, 1) := dk_27 (dk_at dksX0_shows_0 16 rfl rfl)
theorem dX0_shows_17 : decode cX0_shows 17 = .ok (.iload_n 2, 1) := dk_28 (dk_at dksX0_shows_0 17 rfl rfl)
theorem dX0_shows_18 : decode cX0_shows 18 = .ok (.iload_n 3, 1) := dk_29 (dk_at dksX0_shows_0 18 rfl rfl)
theorem dX0_shows_19 : decode cX0_shows 19 = .ok (.invokestatic 319, 3) := dk_184 1 63 (dk_at dksX0_shows_0 19 rfl rfl)
theorem dX0_shows_22 : decode cX0_shows 22 = .ok (.invokevirtual 347, 3) := dk_182 1 91 (dk_at dksX0_shows_1 0 rfl rfl)
theorem dX0_shows_25 : decode cX0_shows 25 = .ok (.istore 4, 2) := dk_54 4 (dk_at dksX0_shows_1 3 rfl rfl)
theorem dX0_shows_27 : decode cX0_shows 27 = .ok (.iload 4, 2) := dk_21 4 (dk_at dksX0_shows_1 5 rfl rfl)
theorem dX0_shows_29 : decode cX0_shows 29 = .ok (.ifCond .ge 8, 3) := dk_156 0 8 (dk_at dksX0_shows_1 7 rfl rfl)
theorem dX0_shows_32 : decode cX0_shows 32 = .ok (.bipush (-2), 2) := dk_16 254 (dk_at dksX0_shows_1 10 rfl rfl)
theorem dX0_shows_34 : decode cX0_shows 34 = .ok (.goto 21, 3) := dk_167 0 21 (dk_at dksX0_shows_1 12 rfl rfl)
theorem dX0_shows_37 : decode cX0_shows 37 = .ok (.aload_n 0, 1) := dk_42 (dk_at dksX0_shows_1 15 rfl rfl)
theorem dX0_shows_38 : decode cX0_shows 38 = .ok (.getfield 52, 3) := dk_180 0 52 (dk_at dksX0_shows_1 16 rfl rfl)
theorem dX0_shows_41 : decode cX0_shows 41 = .ok (.getfield 163, 3) := dk_180 0 163 (dk_at dksX0_shows_1 19 rfl rfl)
theorem dX0_shows_44 : decode cX0_shows 44 = .ok (.iload 4, 2) := dk_21 4 (dk_at dksX0_shows_1 22 rfl rfl)
theorem dX0_shows_46 : decode cX0_shows 46 = .ok (.invokevirtual 183, 3) := dk_182 0 183 (dk_at dksX0_shows_2 0 rfl rfl)
theorem dX0_shows_49 : decode cX0_shows 49 = .ok (.checkcast 187, 3) := dk_192 0 187 (dk_at dksX0_shows_2 3 rfl rfl)
theorem dX0_shows_52 : decode cX0_shows 52 = .ok (.getfield 215, 3) := dk_180 0 215 (dk_at dksX0_shows_2 6 rfl rfl)
theorem dX0_shows_55 : decode cX0_shows 55 = .ok (.ireturn, 1) := dk_172 (dk_at dksX0_shows_2 9 rfl rfl)
abbrev cX0_shown : ByteArray := prog_1_method_51_code
def yX0_shown : MethodName := ⟨RX0, "shown", "(I)I"⟩
def dkwX0_shown_3 : List UInt8 := [132, 3, 1, 167, 255, 199, 28, 172]
abbrev dktX0_shown_3 : List UInt8 := dkwX0_shown_3 ++ []
def dkwX0_shown_2 : List UInt8 := [182, 1, 91, 182, 0, 183, 192, 0, 187, 180, 0, 215, 27, 160, 0, 7, 4, 167, 0, 4, 3, 96, 61]
abbrev dktX0_shown_2 : List UInt8 := dkwX0_shown_2 ++ dktX0_shown_3
def dkwX0_shown_1 : List UInt8 := [42, 180, 0, 63, 29, 182, 1, 91, 155, 0, 35, 42, 180, 0, 52, 180, 0, 163, 42, 180, 0, 63, 29]
abbrev dktX0_shown_1 : List UInt8 := dkwX0_shown_1 ++ dktX0_shown_2
def dkwX0_shown_0 : List UInt8 := [27, 3, 16, 9, 184, 0, 175, 154, 0, 5, 2, 172, 3, 61, 3, 62, 29, 17, 1, 32, 162, 0, 56, 28]
abbrev dktX0_shown_0 : List UInt8 := dkwX0_shown_0 ++ dktX0_shown_1
theorem dksX0_shown_0 : cX0_shown.data.toList.drop 0 = dktX0_shown_0 := by decide +kernel
theorem dksX0_shown_1 : cX0_shown.data.toList.drop 24 = dktX0_shown_1 := dk_seg dksX0_shown_0 24 rfl rfl
theorem dksX0_shown_2 : cX0_shown.data.toList.drop 47 = dktX0_shown_2 := dk_seg dksX0_shown_1 23 rfl rfl
theorem dksX0_shown_3 : cX0_shown.data.toList.drop 70 = dktX0_shown_3 := dk_seg dksX0_shown_2 23 rfl rfl
theorem dX0_shown_0 : decode cX0_shown 0 = .ok (.iload_n 1, 1) := dk_27 (dk_at dksX0_shown_0 0 rfl rfl)
theorem dX0_shown_1 : decode cX0_shown 1 = .ok (.iconst 0, 1) := dk_3 (dk_at dksX0_shown_0 1 rfl rfl)
theorem dX0_shown_2 : decode cX0_shown 2 = .ok (.bipush 9, 2) := dk_16 9 (dk_at dksX0_shown_0 2 rfl rfl)
theorem dX0_shown_4 : decode cX0_shown 4 = .ok (.invokestatic 175, 3) := dk_184 0 175 (dk_at dksX0_shown_0 4 rfl rfl)
theorem dX0_shown_7 : decode cX0_shown 7 = .ok (.ifCond .ne 5, 3) := dk_154 0 5 (dk_at dksX0_shown_0 7 rfl rfl)
theorem dX0_shown_10 : decode cX0_shown 10 = .ok (.iconst (-1), 1) := dk_2 (dk_at dksX0_shown_0 10 rfl rfl)
theorem dX0_shown_11 : decode cX0_shown 11 = .ok (.ireturn, 1) := dk_172 (dk_at dksX0_shown_0 11 rfl rfl)
theorem dX0_shown_12 : decode cX0_shown 12 = .ok (.iconst 0, 1) := dk_3 (dk_at dksX0_shown_0 12 rfl rfl)
theorem dX0_shown_13 : decode cX0_shown 13 = .ok (.istore_n 2, 1) := dk_61 (dk_at dksX0_shown_0 13 rfl rfl)
theorem dX0_shown_14 : decode cX0_shown 14 = .ok (.iconst 0, 1) := dk_3 (dk_at dksX0_shown_0 14 rfl rfl)
theorem dX0_shown_15 : decode cX0_shown 15 = .ok (.istore_n 3, 1) := dk_62 (dk_at dksX0_shown_0 15 rfl rfl)
theorem dX0_shown_16 : decode cX0_shown 16 = .ok (.iload_n 3, 1) := dk_29 (dk_at dksX0_shown_0 16 rfl rfl)
theorem dX0_shown_17 : decode cX0_shown 17 = .ok (.sipush 288, 3) := dk_17 1 32 (dk_at dksX0_shown_0 17 rfl rfl)
theorem dX0_shown_20 : decode cX0_shown 20 = .ok (.if_icmp .ge 56, 3) := dk_162 0 56 (dk_at dksX0_shown_0 20 rfl rfl)
theorem dX0_shown_23 : decode cX0_shown 23 = .ok (.iload_n 2, 1) := dk_28 (dk_at dksX0_shown_0 23 rfl rfl)
theorem dX0_shown_24 : decode cX0_shown 24 = .ok (.aload_n 0, 1) := dk_42 (dk_at dksX0_shown_1 0 rfl rfl)
theorem dX0_shown_25 : decode cX0_shown 25 = .ok (.getfield 63, 3) := dk_180 0 63 (dk_at dksX0_shown_1 1 rfl rfl)
theorem dX0_shown_28 : decode cX0_shown 28 = .ok (.iload_n 3, 1) := dk_29 (dk_at dksX0_shown_1 4 rfl rfl)
theorem dX0_shown_29 : decode cX0_shown 29 = .ok (.invokevirtual 347, 3) := dk_182 1 91 (dk_at dksX0_shown_1 5 rfl rfl)
theorem dX0_shown_32 : decode cX0_shown 32 = .ok (.ifCond .lt 35, 3) := dk_155 0 35 (dk_at dksX0_shown_1 8 rfl rfl)
theorem dX0_shown_35 : decode cX0_shown 35 = .ok (.aload_n 0, 1) := dk_42 (dk_at dksX0_shown_1 11 rfl rfl)
theorem dX0_shown_36 : decode cX0_shown 36 = .ok (.getfield 52, 3) := dk_180 0 52 (dk_at dksX0_shown_1 12 rfl rfl)
theorem dX0_shown_39 : decode cX0_shown 39 = .ok (.getfield 163, 3) := dk_180 0 163 (dk_at dksX0_shown_1 15 rfl rfl)
theorem dX0_shown_42 : decode cX0_shown 42 = .ok (.aload_n 0, 1) := dk_42 (dk_at dksX0_shown_1 18 rfl rfl)
theorem dX0_shown_43 : decode cX0_shown 43 = .ok (.getfield 63, 3) := dk_180 0 63 (dk_at dksX0_shown_1 19 rfl rfl)
theorem dX0_shown_46 : decode cX0_shown 46 = .ok (.iload_n 3, 1) := dk_29 (dk_at dksX0_shown_1 22 rfl rfl)
theorem dX0_shown_47 : decode cX0_shown 47 = .ok (.invokevirtual 347, 3) := dk_182 1 91 (dk_at dksX0_shown_2 0 rfl rfl)
theorem dX0_shown_50 : decode cX0_shown 50 = .ok (.invokevirtual 183, 3) := dk_182 0 183 (dk_at dksX0_shown_2 3 rfl rfl)
theorem dX0_shown_53 : decode cX0_shown 53 = .ok (.checkcast 187, 3) := dk_192 0 187 (dk_at dksX0_shown_2 6 rfl rfl)
theorem dX0_shown_56 : decode cX0_shown 56 = .ok (.getfield 215, 3) := dk_180 0 215 (dk_at dksX0_shown_2 9 rfl rfl)
theorem dX0_shown_59 : decode cX0_shown 59 = .ok (.iload_n 1, 1) := dk_27 (dk_at dksX0_shown_2 12 rfl rfl)
theorem dX0_shown_60 : decode cX0_shown 60 = .ok (.if_icmp .ne 7, 3) := dk_160 0 7 (dk_at dksX0_shown_2 13 rfl rfl)
theorem dX0_shown_63 : decode cX0_shown 63 = .ok (.iconst 1, 1) := dk_4 (dk_at dksX0_shown_2 16 rfl rfl)
theorem dX0_shown_64 : decode cX0_shown 64 = .ok (.goto 4, 3) := dk_167 0 4 (dk_at dksX0_shown_2 17 rfl rfl)
theorem dX0_shown_67 : decode cX0_shown 67 = .ok (.iconst 0, 1) := dk_3 (dk_at dksX0_shown_2 20 rfl rfl)
theorem dX0_shown_68 : decode cX0_shown 68 = .ok (.iadd, 1) := dk_96 (dk_at dksX0_shown_2 21 rfl rfl)
theorem dX0_shown_69 : decode cX0_shown 69 = .ok (.istore_n 2, 1) := dk_61 (dk_at dksX0_shown_2 22 rfl rfl)
theorem dX0_shown_70 : decode cX0_shown 70 = .ok (.iinc 3 1, 3) := dk_132 3 1 (dk_at dksX0_shown_3 0 rfl rfl)
theorem dX0_shown_73 : decode cX0_shown 73 = .ok (.goto (-57), 3) := dk_167 255 199 (dk_at dksX0_shown_3 3 rfl rfl)
theorem dX0_shown_76 : decode cX0_shown 76 = .ok (.iload_n 2, 1) := dk_28 (dk_at dksX0_shown_3 6 rfl rfl)
theorem dX0_shown_77 : decode cX0_shown 77 = .ok (.ireturn, 1) := dk_172 (dk_at dksX0_shown_3 7 rfl rfl)
abbrev cX0_uppermost : ByteArray := prog_1_method_52_code
def yX0_uppermost : MethodName := ⟨RX0, "uppermost", "(I)I"⟩
def dkwX0_uppermost_2 : List UInt8 := [28, 172]
abbrev dktX0_uppermost_2 : List UInt8 := dkwX0_uppermost_2 ++ []
def dkwX0_uppermost_1 : List UInt8 := [180, 0, 63, 29, 182, 1, 91, 27, 160, 0, 7, 4, 167, 0, 4, 3, 96, 61, 132, 3, 1, 167, 255, 226]
abbrev dktX0_uppermost_1 : List UInt8 := dkwX0_uppermost_1 ++ dktX0_uppermost_2
def dkwX0_uppermost_0 : List UInt8 := [42, 27, 182, 0, 179, 154, 0, 5, 2, 172, 3, 61, 3, 62, 29, 17, 1, 32, 162, 0, 29, 28, 42]
abbrev dktX0_uppermost_0 : List UInt8 := dkwX0_uppermost_0 ++ dktX0_uppermost_1
theorem dksX0_uppermost_0 : cX0_uppermost.data.toList.drop 0 = dktX0_uppermost_0 := by decide +kernel
theorem dksX0_uppermost_1 : cX0_uppermost.data.toList.drop 23 = dktX0_uppermost_1 := dk_seg dksX0_uppermost_0 23 rfl rfl
theorem dksX0_uppermost_2 : cX0_uppermost.data.toList.drop 47 = dktX0_uppermost_2 := dk_seg dksX0_uppermost_1 24 rfl rfl
theorem dX0_uppermost_0 : decode cX0_uppermost 0 = .ok (.aload_n 0, 1) := dk_42 (dk_at dksX0_uppermost_0 0 rfl rfl)
theorem dX0_uppermost_1 : decode cX0_uppermost 1 = .ok (.iload_n 1, 1) := dk_27 (dk_at dksX0_uppermost_0 1 rfl rfl)
theorem dX0_uppermost_2 : decode cX0_uppermost 2 = .ok (.invokevirtual 179, 3) := dk_182 0 179 (dk_at dksX0_uppermost_0 2 rfl rfl)
theorem dX0_uppermost_5 : decode cX0_uppermost 5 = .ok (.ifCond .ne 5, 3) := dk_154 0 5 (dk_at dksX0_uppermost_0 5 rfl rfl)
theorem dX0_uppermost_8 : decode cX0_uppermost 8 = .ok (.iconst (-1), 1) := dk_2 (dk_at dksX0_uppermost_0 8 rfl rfl)
theorem dX0_uppermost_9 : decode cX0_uppermost 9 = .ok (.ireturn, 1) := dk_172 (dk_at dksX0_uppermost_0 9 rfl rfl)
theorem dX0_uppermost_10 : decode cX0_uppermost 10 = .ok (.iconst 0, 1) := dk_3 (dk_at dksX0_uppermost_0 10 rfl rfl)
theorem dX0_uppermost_11 : decode cX0_uppermost 11 = .ok (.istore_n 2, 1) := dk_61 (dk_at dksX0_uppermost_0 11 rfl rfl)
theorem dX0_uppermost_12 : decode cX0_uppermost 12 = .ok (.iconst 0, 1) := dk_3 (dk_at dksX0_uppermost_0 12 rfl rfl)
theorem dX0_uppermost_13 : decode cX0_uppermost 13 = .ok (.istore_n 3, 1) := dk_62 (dk_at dksX0_uppermost_0 13 rfl rfl)
theorem dX0_uppermost_14 : decode cX0_uppermost 14 = .ok (.iload_n 3, 1) := dk_29 (dk_at dksX0_uppermost_0 14 rfl rfl)
theorem dX0_uppermost_15 : decode cX0_uppermost 15 = .ok (.sipush 288, 3) := dk_17 1 32 (dk_at dksX0_uppermost_0 15 rfl rfl)
theorem dX0_uppermost_18 : decode cX0_uppermost 18 = .ok (.if_icmp .ge 29, 3) := dk_162 0 29 (dk_at dksX0_uppermost_0 18 rfl rfl)
theorem dX0_uppermost_21 : decode cX0_uppermost 21 = .ok (.iload_n 2, 1) := dk_28 (dk_at dksX0_uppermost_0 21 rfl rfl)
theorem dX0_uppermost_22 : decode cX0_uppermost 22 = .ok (.aload_n 0, 1) := dk_42 (dk_at dksX0_uppermost_0 22 rfl rfl)
theorem dX0_uppermost_23 : decode cX0_uppermost 23 = .ok (.getfield 63, 3) := dk_180 0 63 (dk_at dksX0_uppermost_1 0 rfl rfl)
theorem dX0_uppermost_26 : decode cX0_uppermost 26 = .ok (.iload_n 3, 1) := dk_29 (dk_at dksX0_uppermost_1 3 rfl rfl)
theorem dX0_uppermost_27 : decode cX0_uppermost 27 = .ok (.invokevirtual 347, 3) := dk_182 1 91 (dk_at dksX0_uppermost_1 4 rfl rfl)
theorem dX0_uppermost_30 : decode cX0_uppermost 30 = .ok (.iload_n 1, 1) := dk_27 (dk_at dksX0_uppermost_1 7 rfl rfl)
theorem dX0_uppermost_31 : decode cX0_uppermost 31 = .ok (.if_icmp .ne 7, 3) := dk_160 0 7 (dk_at dksX0_uppermost_1 8 rfl rfl)
theorem dX0_uppermost_34 : decode cX0_uppermost 34 = .ok (.iconst 1, 1) := dk_4 (dk_at dksX0_uppermost_1 11 rfl rfl)
theorem dX0_uppermost_35 : decode cX0_uppermost 35 = .ok (.goto 4, 3) := dk_167 0 4 (dk_at dksX0_uppermost_1 12 rfl rfl)
theorem dX0_uppermost_38 : decode cX0_uppermost 38 = .ok (.iconst 0, 1) := dk_3 (dk_at dksX0_uppermost_1 15 rfl rfl)
theorem dX0_uppermost_39 : decode cX0_uppermost 39 = .ok (.iadd, 1) := dk_96 (dk_at dksX0_uppermost_1 16 rfl rfl)
theorem dX0_uppermost_40 : decode cX0_uppermost 40 = .ok (.istore_n 2, 1) := dk_61 (dk_at dksX0_uppermost_1 17 rfl rfl)
theorem dX0_uppermost_41 : decode cX0_uppermost 41 = .ok (.iinc 3 1, 3) := dk_132 3 1 (dk_at dksX0_uppermost_1 18 rfl rfl)
theorem dX0_uppermost_44 : decode cX0_uppermost 44 = .ok (.goto (-30), 3) := dk_167 255 226 (dk_at dksX0_uppermost_1 21 rfl rfl)
theorem dX0_uppermost_47 : decode cX0_uppermost 47 = .ok (.iload_n 2, 1) := dk_28 (dk_at dksX0_uppermost_2 0 rfl rfl)
theorem dX0_uppermost_48 : decode cX0_uppermost 48 = .ok (.ireturn, 1) := dk_172 (dk_at dksX0_uppermost_2 1 rfl rfl)
abbrev cX0_knows : ByteArray := prog_1_method_53_code
def yX0_knows : MethodName := ⟨RX0, "knows", "(I)I"⟩
def dkwX0_knows_2 : List UInt8 := [158, 0, 9, 4, 29, 120, 167, 0, 4, 3, 128, 61, 132, 3, 1, 167, 255, 208, 28, 172]
abbrev dktX0_knows_2 : List UInt8 := dkwX0_knows_2 ++ []
def dkwX0_knows_1 : List UInt8 := [27, 159, 0, 31, 42, 180, 0, 63, 27, 29, 182, 0, 254, 42, 180, 0, 63, 29, 27, 182, 0, 254, 96]
abbrev dktX0_knows_1 : List UInt8 := dkwX0_knows_1 ++ dktX0_knows_2
def dkwX0_knows_0 : List UInt8 := [42, 27, 182, 0, 179, 154, 0, 5, 2, 172, 3, 61, 3, 62, 29, 42, 182, 0, 173, 162, 0, 46, 28, 29]
abbrev dktX0_knows_0 : List UInt8 := dkwX0_knows_0 ++ dktX0_knows_1
theorem dksX0_knows_0 : cX0_knows.data.toList.drop 0 = dktX0_knows_0 := by decide +kernel
theorem dksX0_knows_1 : cX0_knows.data.toList.drop 24 = dktX0_knows_1 := dk_seg dksX0_knows_0 24 rfl rfl
theorem dksX0_knows_2 : cX0_knows.data.toList.drop 47 = dktX0_knows_2 := dk_seg dksX0_knows_1 23 rfl rfl
theorem dX0_knows_0 : decode cX0_knows 0 = .ok (.aload_n 0, 1) := dk_42 (dk_at dksX0_knows_0 0 rfl rfl)
theorem dX0_knows_1 : decode cX0_knows 1 = .ok (.iload_n 1, 1) := dk_27 (dk_at dksX0_knows_0 1 rfl rfl)
theorem dX0_knows_2 : decode cX0_knows 2 = .ok (.invokevirtual 179, 3) := dk_182 0 179 (dk_at dksX0_knows_0 2 rfl rfl)
theorem dX0_knows_5 : decode cX0_knows 5 = .ok (.ifCond .ne 5, 3) := dk_154 0 5 (dk_at dksX0_knows_0 5 rfl rfl)
theorem dX0_knows_8 : decode cX0_knows 8 = .ok (.iconst (-1), 1) := dk_2 (dk_at dksX0_knows_0 8 rfl rfl)
theorem dX0_knows_9 : decode cX0_knows 9 = .ok (.ireturn, 1) := dk_172 (dk_at dksX0_knows_0 9 rfl rfl)
theorem dX0_knows_10 : decode cX0_knows 10 = .ok (.iconst 0, 1) := dk_3 (dk_at dksX0_knows_0 10 rfl rfl)
theorem dX0_knows_11 : decode cX0_knows 11 = .ok (.istore_n 2, 1) := dk_61 (dk_at dksX0_knows_0 11 rfl rfl)
theorem dX0_knows_12 : decode cX0_knows 12 = .ok (.iconst 0, 1) := dk_3 (dk_at dksX0_knows_0 12 rfl rfl)
theorem dX0_knows_13 : decode cX0_knows 13 = .ok (.istore_n 3, 1) := dk_62 (dk_at dksX0_knows_0 13 rfl rfl)
theorem dX0_knows_14 : decode cX0_knows 14 = .ok (.iload_n 3, 1) := dk_29 (dk_at dksX0_knows_0 14 rfl rfl)
theorem dX0_knows_15 : decode cX0_knows 15 = .ok (.aload_n 0, 1) := dk_42 (dk_at dksX0_knows_0 15 rfl rfl)
theorem dX0_knows_16 : decode cX0_knows 16 = .ok (.invokevirtual 173, 3) := dk_182 0 173 (dk_at dksX0_knows_0 16 rfl rfl)
theorem dX0_knows_19 : decode cX0_knows 19 = .ok (.if_icmp .ge 46, 3) := dk_162 0 46 (dk_at dksX0_knows_0 19 rfl rfl)
theorem dX0_knows_22 : decode cX0_knows 22 = .ok (.iload_n 2, 1) := dk_28 (dk_at dksX0_knows_0 22 rfl rfl)
theorem dX0_knows_23 : decode cX0_knows 23 = .ok (.iload_n 3, 1) := dk_29 (dk_at dksX0_knows_0 23 rfl rfl)
theorem dX0_knows_24 : decode cX0_knows 24 = .ok (.iload_n 1, 1) := dk_27 (dk_at dksX0_knows_1 0 rfl rfl)
theorem dX0_knows_25 : decode cX0_knows 25 = .ok (.if_icmp .eq 31, 3) := dk_159 0 31 (dk_at dksX0_knows_1 1 rfl rfl)
theorem dX0_knows_28 : decode cX0_knows 28 = .ok (.aload_n 0, 1) := dk_42 (dk_at dksX0_knows_1 4 rfl rfl)
theorem dX0_knows_29 : decode cX0_knows 29 = .ok (.getfield 63, 3) := dk_180 0 63 (dk_at dksX0_knows_1 5 rfl rfl)
theorem dX0_knows_32 : decode cX0_knows 32 = .ok (.iload_n 1, 1) := dk_27 (dk_at dksX0_knows_1 8 rfl rfl)
theorem dX0_knows_33 : decode cX0_knows 33 = .ok (.iload_n 3, 1) := dk_29 (dk_at dksX0_knows_1 9 rfl rfl)
theorem dX0_knows_34 : decode cX0_knows 34 = .ok (.invokevirtual 254, 3) := dk_182 0 254 (dk_at dksX0_knows_1 10 rfl rfl)
theorem dX0_knows_37 : decode cX0_knows 37 = .ok (.aload_n 0, 1) := dk_42 (dk_at dksX0_knows_1 13 rfl rfl)
theorem dX0_knows_38 : decode cX0_knows 38 = .ok (.getfield 63, 3) := dk_180 0 63 (dk_at dksX0_knows_1 14 rfl rfl)
theorem dX0_knows_41 : decode cX0_knows 41 = .ok (.iload_n 3, 1) := dk_29 (dk_at dksX0_knows_1 17 rfl rfl)
theorem dX0_knows_42 : decode cX0_knows 42 = .ok (.iload_n 1, 1) := dk_27 (dk_at dksX0_knows_1 18 rfl rfl)
theorem dX0_knows_43 : decode cX0_knows 43 = .ok (.invokevirtual 254, 3) := dk_182 0 254 (dk_at dksX0_knows_1 19 rfl rfl)
theorem dX0_knows_46 : decode cX0_knows 46 = .ok (.iadd, 1) := dk_96 (dk_at dksX0_knows_1 22 rfl rfl)
theorem dX0_knows_47 : decode cX0_knows 47 = .ok (.ifCond .le 9, 3) := dk_158 0 9 (dk_at dksX0_knows_2 0 rfl rfl)
theorem dX0_knows_50 : decode cX0_knows 50 = .ok (.iconst 1, 1) := dk_4 (dk_at dksX0_knows_2 3 rfl rfl)
theorem dX0_knows_51 : decode cX0_knows 51 = .ok (.iload_n 3, 1) := dk_29 (dk_at dksX0_knows_2 4 rfl rfl)
theorem dX0_knows_52 : decode cX0_knows 52 = .ok (.ishl, 1) := dk_120 (dk_at dksX0_knows_2 5 rfl rfl)
theorem dX0_knows_53 : decode cX0_knows 53 = .ok (.goto 4, 3) := dk_167 0 4 (dk_at dksX0_knows_2 6 rfl rfl)
theorem dX0_knows_56 : decode cX0_knows 56 = .ok (.iconst 0, 1) := dk_3 (dk_at dksX0_knows_2 9 rfl rfl)
theorem dX0_knows_57 : decode cX0_knows 57 = .ok (.ior, 1) := dk_128 (dk_at dksX0_knows_2 10 rfl rfl)
theorem dX0_knows_58 : decode cX0_knows 58 = .ok (.istore_n 2, 1) := dk_61 (dk_at dksX0_knows_2 11 rfl rfl)
theorem dX0_knows_59 : decode cX0_knows 59 = .ok (.iinc 3 1, 3) := dk_132 3 1 (dk_at dksX0_knows_2 12 rfl rfl)
theorem dX0_knows_62 : decode cX0_knows 62 = .ok (.goto (-48), 3) := dk_167 255 208 (dk_at dksX0_knows_2 15 rfl rfl)
theorem dX0_knows_65 : decode cX0_knows 65 = .ok (.iload_n 2, 1) := dk_28 (dk_at dksX0_knows_2 18 rfl rfl)
theorem dX0_knows_66 : decode cX0_knows 66 = .ok (.ireturn, 1) := dk_172 (dk_at dksX0_knows_2 19 rfl rfl)
abbrev cX0_links : ByteArray := prog_1_method_55_code
def yX0_links : MethodName := ⟨RX0, "links", "(II)I"⟩
def dkwX0_links_3 : List UInt8 := [172]
abbrev dktX0_links_3 : List UInt8 := dkwX0_links_3 ++ []
def dkwX0_links_2 : List UInt8 := [54, 5, 132, 4, 1, 167, 255, 229, 29, 28, 122, 4, 126, 4, 160, 0, 8, 21, 4, 167, 0, 5, 16, 254]
abbrev dktX0_links_2 : List UInt8 := dkwX0_links_2 ++ dktX0_links_3
def dkwX0_links_1 : List UInt8 := [54, 5, 29, 28, 122, 4, 126, 154, 0, 25, 21, 5, 29, 159, 0, 19, 21, 5, 62, 42, 29, 182, 1, 97]
abbrev dktX0_links_1 : List UInt8 := dkwX0_links_1 ++ dktX0_links_2
def dkwX0_links_0 : List UInt8 := [42, 27, 28, 182, 0, 250, 154, 0, 5, 2, 172, 4, 27, 120, 62, 3, 54, 4, 42, 29, 182, 1, 97]
abbrev dktX0_links_0 : List UInt8 := dkwX0_links_0 ++ dktX0_links_1
theorem dksX0_links_0 : cX0_links.data.toList.drop 0 = dktX0_links_0 := by decide +kernel
theorem dksX0_links_1 : cX0_links.data.toList.drop 23 = dktX0_links_1 := dk_seg dksX0_links_0 23 rfl rfl
theorem dksX0_links_2 : cX0_links.data.toList.drop 47 = dktX0_links_2 := dk_seg dksX0_links_1 24 rfl rfl
theorem dksX0_links_3 : cX0_links.data.toList.drop 71 = dktX0_links_3 := dk_seg dksX0_links_2 24 rfl rfl
theorem dX0_links_0 : decode cX0_links 0 = .ok (.aload_n 0, 1) := dk_42 (dk_at dksX0_links_0 0 rfl rfl)
theorem dX0_links_1 : decode cX0_links 1 = .ok (.iload_n 1, 1) := dk_27 (dk_at dksX0_links_0 1 rfl rfl)
theorem dX0_links_2 : decode cX0_links 2 = .ok (.iload_n 2, 1) := dk_28 (dk_at dksX0_links_0 2 rfl rfl)
theorem dX0_links_3 : decode cX0_links 3 = .ok (.invokevirtual 250, 3) := dk_182 0 250 (dk_at dksX0_links_0 3 rfl rfl)
theorem dX0_links_6 : decode cX0_links 6 = .ok (.ifCond .ne 5, 3) := dk_154 0 5 (dk_at dksX0_links_0 6 rfl rfl)
theorem dX0_links_9 : decode cX0_links 9 = .ok (.iconst (-1), 1) := dk_2 (dk_at dksX0_links_0 9 rfl rfl)
theorem dX0_links_10 : decode cX0_links 10 = .ok (.ireturn, 1) := dk_172 (dk_at dksX0_links_0 10 rfl rfl)
theorem dX0_links_11 : decode cX0_links 11 = .ok (.iconst 1, 1) := dk_4 (dk_at dksX0_links_0 11 rfl rfl)
theorem dX0_links_12 : decode cX0_links 12 = .ok (.iload_n 1, 1) := dk_27 (dk_at dksX0_links_0 12 rfl rfl)
theorem dX0_links_13 : decode cX0_links 13 = .ok (.ishl, 1) := dk_120 (dk_at dksX0_links_0 13 rfl rfl)
theorem dX0_links_14 : decode cX0_links 14 = .ok (.istore_n 3, 1) := dk_62 (dk_at dksX0_links_0 14 rfl rfl)
theorem dX0_links_15 : decode cX0_links 15 = .ok (.iconst 0, 1) := dk_3 (dk_at dksX0_links_0 15 rfl rfl)
theorem dX0_links_16 : decode cX0_links 16 = .ok (.istore 4, 2) := dk_54 4 (dk_at dksX0_links_0 16 rfl rfl)
theorem dX0_links_18 : decode cX0_links 18 = .ok (.aload_n 0, 1) := dk_42 (dk_at dksX0_links_0 18 rfl rfl)
theorem dX0_links_19 : decode cX0_links 19 = .ok (.iload_n 3, 1) := dk_29 (dk_at dksX0_links_0 19 rfl rfl)
theorem dX0_links_20 : decode cX0_links 20 = .ok (.invokevirtual 353, 3) := dk_182 1 97 (dk_at dksX0_links_0 20 rfl rfl)
theorem dX0_links_23 : decode cX0_links 23 = .ok (.istore 5, 2) := dk_54 5 (dk_at dksX0_links_1 0 rfl rfl)
theorem dX0_links_25 : decode cX0_links 25 = .ok (.iload_n 3, 1) := dk_29 (dk_at dksX0_links_1 2 rfl rfl)
theorem dX0_links_26 : decode cX0_links 26 = .ok (.iload_n 2, 1) := dk_28 (dk_at dksX0_links_1 3 rfl rfl)
theorem dX0_links_27 : decode cX0_links 27 = .ok (.ishr, 1) := dk_122 (dk_at dksX0_links_1 4 rfl rfl)
theorem dX0_links_28 : decode cX0_links 28 = .ok (.iconst 1, 1) := dk_4 (dk_at dksX0_links_1 5 rfl rfl)
theorem dX0_links_29 : decode cX0_links 29 = .ok (.iand, 1) := dk_126 (dk_at dksX0_links_1 6 rfl rfl)
theorem dX0_links_30 : decode cX0_links 30 = .ok (.ifCond .ne 25, 3) := dk_154 0 25 (dk_at dksX0_links_1 7 rfl rfl)
theorem dX0_links_33 : decode cX0_links 33 = .ok (.iload 5, 2) := dk_21 5 (dk_at dksX0_links_1 10 rfl rfl)
theorem dX0_links_35 : decode cX0_links 35 = .ok (.iload_n 3, 1) := dk_29 (dk_at dksX0_links_1 12 rfl rfl)
theorem dX0_links_36 : decode cX0_links 36 = .ok (.if_icmp .eq 19, 3) := dk_159 0 19 (dk_at dksX0_links_1 13 rfl rfl)
theorem dX0_links_39 : decode cX0_links 39 = .ok (.iload 5, 2) := dk_21 5 (dk_at dksX0_links_1 16 rfl rfl)
theorem dX0_links_41 : decode cX0_links 41 = .ok (.istore_n 3, 1) := dk_62 (dk_at dksX0_links_1 18 rfl rfl)
theorem dX0_links_42 : decode cX0_links 42 = .ok (.aload_n 0, 1) := dk_42 (dk_at dksX0_links_1 19 rfl rfl)
theorem dX0_links_43 : decode cX0_links 43 = .ok (.iload_n 3, 1) := dk_29 (dk_at dksX0_links_1 20 rfl rfl)
theorem dX0_links_44 : decode cX0_links 44 = .ok (.invokevirtual 353, 3) := dk_182 1 97 (dk_at dksX0_links_1 21 rfl rfl)
theorem dX0_links_47 : decode cX0_links 47 = .ok (.istore 5, 2) := dk_54 5 (dk_at dksX0_links_2 0 rfl rfl)
theorem dX0_links_49 : decode cX0_links 49 = .ok (.iinc 4 1, 3) := dk_132 4 1 (dk_at dksX0_links_2 2 rfl rfl)
theorem dX0_links_52 : decode cX0_links 52 = .ok (.goto (-27), 3) := dk_167 255 229 (dk_at dksX0_links_2 5 rfl rfl)
theorem dX0_links_55 : decode cX0_links 55 = .ok (.iload_n 3, 1) := dk_29 (dk_at dksX0_links_2 8 rfl rfl)
theorem dX0_links_56 : decode cX0_links 56 = .ok (.iload_n 2, 1) := dk_28 (dk_at dksX0_links_2 9 rfl rfl)
theorem dX0_links_57 : decode cX0_links 57 = .ok (.ishr, 1) := dk_122 (dk_at dksX0_links_2 10 rfl rfl)
theorem dX0_links_58 : decode cX0_links 58 = .ok (.iconst 1, 1) := dk_4 (dk_at dksX0_links_2 11 rfl rfl)
theorem dX0_links_59 : decode cX0_links 59 = .ok (.iand, 1) := dk_126 (dk_at dksX0_links_2 12 rfl rfl)
theorem dX0_links_60 : decode cX0_links 60 = .ok (.iconst 1, 1) := dk_4 (dk_at dksX0_links_2 13 rfl rfl)
theorem dX0_links_61 : decode cX0_links 61 = .ok (.if_icmp .ne 8, 3) := dk_160 0 8 (dk_at dksX0_links_2 14 rfl rfl)
theorem dX0_links_64 : decode cX0_links 64 = .ok (.iload 4, 2) := dk_21 4 (dk_at dksX0_links_2 17 rfl rfl)
theorem dX0_links_66 : decode cX0_links 66 = .ok (.goto 5, 3) := dk_167 0 5 (dk_at dksX0_links_2 19 rfl rfl)
theorem dX0_links_69 : decode cX0_links 69 = .ok (.bipush (-2), 2) := dk_16 254 (dk_at dksX0_links_2 22 rfl rfl)
theorem dX0_links_71 : decode cX0_links 71 = .ok (.ireturn, 1) := dk_172 (dk_at dksX0_links_3 0 rfl rfl)
abbrev cX0_around : ByteArray := prog_1_method_54_code
def yX0_around : MethodName := ⟨RX0, "around", "(I)I"⟩
def dkwX0_around_1 : List UInt8 := [182, 1, 94, 167, 0, 4, 3, 128, 61, 132, 3, 1, 167, 255, 224, 28, 172]
abbrev dktX0_around_1 : List UInt8 := dkwX0_around_1 ++ []
def dkwX0_around_0 : List UInt8 := [27, 61, 3, 62, 29, 42, 182, 0, 173, 162, 0, 30, 28, 27, 29, 122, 4, 126, 4, 160, 0, 11, 42, 29]
abbrev dktX0_around_0 : List UInt8 := dkwX0_around_0 ++ dktX0_around_1
theorem dksX0_around_0 : cX0_around.data.toList.drop 0 = dktX0_around_0 := by decide +kernel
theorem dksX0_around_1 : cX0_around.data.toList.drop 24 = dktX0_around_1 := dk_seg dksX0_around_0 24 rfl rfl
theorem dX0_around_0 : decode cX0_around 0 = .ok (.iload_n 1, 1) := dk_27 (dk_at dksX0_around_0 0 rfl rfl)
theorem dX0_around_1 : decode cX0_around 1 = .ok (.istore_n 2, 1) := dk_61 (dk_at dksX0_around_0 1 rfl rfl)
theorem dX0_around_2 : decode cX0_around 2 = .ok (.iconst 0, 1) := dk_3 (dk_at dksX0_around_0 2 rfl rfl)
theorem dX0_around_3 : decode cX0_around 3 = .ok (.istore_n 3, 1) := dk_62 (dk_at dksX0_around_0 3 rfl rfl)
theorem dX0_around_4 : decode cX0_around 4 = .ok (.iload_n 3, 1) := dk_29 (dk_at dksX0_around_0 4 rfl rfl)
theorem dX0_around_5 : decode cX0_around 5 = .ok (.aload_n 0, 1) := dk_42 (dk_at dksX0_around_0 5 rfl rfl)
theorem dX0_around_6 : decode cX0_around 6 = .ok (.invokevirtual 173, 3) := dk_182 0 173 (dk_at dksX0_around_0 6 rfl rfl)
theorem dX0_around_9 : decode cX0_around 9 = .ok (.if_icmp .ge 30, 3) := dk_162 0 30 (dk_at dksX0_around_0 9 rfl rfl)
theorem dX0_around_12 : decode cX0_around 12 = .ok (.iload_n 2, 1) := dk_28 (dk_at dksX0_around_0 12 rfl rfl)
theorem dX0_around_13 : decode cX0_around 13 = .ok (.iload_n 1, 1) := dk_27 (dk_at dksX0_around_0 13 rfl rfl)
theorem dX0_around_14 : decode cX0_around 14 = .ok (.iload_n 3, 1) := dk_29 (dk_at dksX0_around_0 14 rfl rfl)
theorem dX0_around_15 : decode cX0_around 15 = .ok (.ishr, 1) := dk_122 (dk_at dksX0_around_0 15 rfl rfl)
theorem dX0_around_16 : decode cX0_around 16 = .ok (.iconst 1, 1) := dk_4 (dk_at dksX0_around_0 16 rfl rfl)
theorem dX0_around_17 : decode cX0_around 17 = .ok (.iand, 1) := dk_126 (dk_at dksX0_around_0 17 rfl rfl)
theorem dX0_around_18 : decode cX0_around 18 = .ok (.iconst 1, 1) := dk_4 (dk_at dksX0_around_0 18 rfl rfl)
theorem dX0_around_19 : decode cX0_around 19 = .ok (.if_icmp .ne 11, 3) := dk_160 0 11 (dk_at dksX0_around_0 19 rfl rfl)
theorem dX0_around_22 : decode cX0_around 22 = .ok (.aload_n 0, 1) := dk_42 (dk_at dksX0_around_0 22 rfl rfl)
theorem dX0_around_23 : decode cX0_around 23 = .ok (.iload_n 3, 1) := dk_29 (dk_at dksX0_around_0 23 rfl rfl)
theorem dX0_around_24 : decode cX0_around 24 = .ok (.invokevirtual 350, 3) := dk_182 1 94 (dk_at dksX0_around_1 0 rfl rfl)
theorem dX0_around_27 : decode cX0_around 27 = .ok (.goto 4, 3) := dk_167 0 4 (dk_at dksX0_around_1 3 rfl rfl)
theorem dX0_around_30 : decode cX0_around 30 = .ok (.iconst 0, 1) := dk_3 (dk_at dksX0_around_1 6 rfl rfl)
theorem dX0_around_31 : decode cX0_around 31 = .ok (.ior, 1) := dk_128 (dk_at dksX0_around_1 7 rfl rfl)
theorem dX0_around_32 : decode cX0_around 32 = .ok (.istore_n 2, 1) := dk_61 (dk_at dksX0_around_1 8 rfl rfl)
theorem dX0_around_33 : decode cX0_around 33 = .ok (.iinc 3 1, 3) := dk_132 3 1 (dk_at dksX0_around_1 9 rfl rfl)
theorem dX0_around_36 : decode cX0_around 36 = .ok (.goto (-32), 3) := dk_167 255 224 (dk_at dksX0_around_1 12 rfl rfl)
theorem dX0_around_39 : decode cX0_around 39 = .ok (.iload_n 2, 1) := dk_28 (dk_at dksX0_around_1 15 rfl rfl)
theorem dX0_around_40 : decode cX0_around 40 = .ok (.ireturn, 1) := dk_172 (dk_at dksX0_around_1 16 rfl rfl)
abbrev cX0_rounds : ByteArray := prog_1_method_56_code
def yX0_rounds : MethodName := ⟨RX0, "rounds", "()I"⟩
def dkwX0_rounds_3 : List UInt8 := [132, 2, 1, 132, 3, 1, 167, 255, 186, 28, 172]
abbrev dktX0_rounds_3 : List UInt8 := dkwX0_rounds_3 ++ []
def dkwX0_rounds_2 : List UInt8 := [182, 1, 97, 21, 4, 159, 0, 14, 42, 21, 4, 182, 1, 97, 54, 4, 167, 255, 237, 27, 21, 4, 128, 60]
abbrev dktX0_rounds_2 : List UInt8 := dkwX0_rounds_2 ++ dktX0_rounds_3
def dkwX0_rounds_1 : List UInt8 := [153, 0, 50, 27, 29, 122, 4, 126, 4, 160, 0, 6, 167, 0, 38, 4, 29, 120, 54, 4, 42, 21, 4]
abbrev dktX0_rounds_1 : List UInt8 := dkwX0_rounds_1 ++ dktX0_rounds_2
def dkwX0_rounds_0 : List UInt8 := [3, 60, 3, 61, 3, 62, 29, 42, 182, 0, 173, 162, 0, 68, 42, 180, 0, 63, 180, 0, 195, 29, 46]
abbrev dktX0_rounds_0 : List UInt8 := dkwX0_rounds_0 ++ dktX0_rounds_1
theorem dksX0_rounds_0 : cX0_rounds.data.toList.drop 0 = dktX0_rounds_0 := by decide +kernel
theorem dksX0_rounds_1 : cX0_rounds.data.toList.drop 23 = dktX0_rounds_1 := dk_seg dksX0_rounds_0 23 rfl rfl
theorem dksX0_rounds_2 : cX0_rounds.data.toList.drop 46 = dktX0_rounds_2 := dk_seg dksX0_rounds_1 23 rfl rfl
theorem dksX0_rounds_3 : cX0_rounds.data.toList.drop 70 = dktX0_rounds_3 := dk_seg dksX0_rounds_2 24 rfl rfl
theorem dX0_rounds_0 : decode cX0_rounds 0 = .ok (.iconst 0, 1) := dk_3 (dk_at dksX0_rounds_0 0 rfl rfl)
theorem dX0_rounds_1 : decode cX0_rounds 1 = .ok (.istore_n 1, 1) := dk_60 (dk_at dksX0_rounds_0 1 rfl rfl)
theorem dX0_rounds_2 : decode cX0_rounds 2 = .ok (.iconst 0, 1) := dk_3 (dk_at dksX0_rounds_0 2 rfl rfl)
theorem dX0_rounds_3 : decode cX0_rounds 3 = .ok (.istore_n 2, 1) := dk_61 (dk_at dksX0_rounds_0 3 rfl rfl)
theorem dX0_rounds_4 : decode cX0_rounds 4 = .ok (.iconst 0, 1) := dk_3 (dk_at dksX0_rounds_0 4 rfl rfl)
theorem dX0_rounds_5 : decode cX0_rounds 5 = .ok (.istore_n 3, 1) := dk_62 (dk_at dksX0_rounds_0 5 rfl rfl)
theorem dX0_rounds_6 : decode cX0_rounds 6 = .ok (.iload_n 3, 1) := dk_29 (dk_at dksX0_rounds_0 6 rfl rfl)
theorem dX0_rounds_7 : decode cX0_rounds 7 = .ok (.aload_n 0, 1) := dk_42 (dk_at dksX0_rounds_0 7 rfl rfl)
theorem dX0_rounds_8 : decode cX0_rounds 8 = .ok (.invokevirtual 173, 3) := dk_182 0 173 (dk_at dksX0_rounds_0 8 rfl rfl)
theorem dX0_rounds_11 : decode cX0_rounds 11 = .ok (.if_icmp .ge 68, 3) := dk_162 0 68 (dk_at dksX0_rounds_0 11 rfl rfl)
theorem dX0_rounds_14 : decode cX0_rounds 14 = .ok (.aload_n 0, 1) := dk_42 (dk_at dksX0_rounds_0 14 rfl rfl)
theorem dX0_rounds_15 : decode cX0_rounds 15 = .ok (.getfield 63, 3) := dk_180 0 63 (dk_at dksX0_rounds_0 15 rfl rfl)
theorem dX0_rounds_18 : decode cX0_rounds 18 = .ok (.getfield 195, 3) := dk_180 0 195 (dk_at dksX0_rounds_0 18 rfl rfl)
theorem dX0_rounds_21 : decode cX0_rounds 21 = .ok (.iload_n 3, 1) := dk_29 (dk_at dksX0_rounds_0 21 rfl rfl)
theorem dX0_rounds_22 : decode cX0_rounds 22 = .ok (.iaload, 1) := dk_46 (dk_at dksX0_rounds_0 22 rfl rfl)
theorem dX0_rounds_23 : decode cX0_rounds 23 = .ok (.ifCond .eq 50, 3) := dk_153 0 50 (dk_at dksX0_rounds_1 0 rfl rfl)
theorem dX0_rounds_26 : decode cX0_rounds 26 = .ok (.iload_n 1, 1) := dk_27 (dk_at dksX0_rounds_1 3 rfl rfl)
theorem dX0_rounds_27 : decode cX0_rounds 27 = .ok (.iload_n 3, 1) := dk_29 (dk_at dksX0_rounds_1 4 rfl rfl)
theorem dX0_rounds_28 : decode cX0_rounds 28 = .ok (.ishr, 1) := dk_122 (dk_at dksX0_rounds_1 5 rfl rfl)
theorem dX0_rounds_29 : decode cX0_rounds 29 = .ok (.iconst 1, 1) := dk_4 (dk_at dksX0_rounds_1 6 rfl rfl)
theorem dX0_rounds_30 : decode cX0_rounds 30 = .ok (.iand, 1) := dk_126 (dk_at dksX0_rounds_1 7 rfl rfl)
theorem dX0_rounds_31 : decode cX0_rounds 31 = .ok (.iconst 1, 1) := dk_4 (dk_at dksX0_rounds_1 8 rfl rfl)
theorem dX0_rounds_32 : decode cX0_rounds 32 = .ok (.if_icmp .ne 6, 3) := dk_160 0 6 (dk_at dksX0_rounds_1 9 rfl rfl)
theorem dX0_rounds_35 : decode cX0_rounds 35 = .ok (.goto 38, 3) := dk_167 0 38 (dk_at dksX0_rounds_1 12 rfl rfl)
theorem dX0_rounds_38 : decode cX0_rounds 38 = .ok (.iconst 1, 1) := dk_4 (dk_at dksX0_rounds_1 15 rfl rfl)
theorem dX0_rounds_39 : decode cX0_rounds 39 = .ok (.iload_n 3, 1) := dk_29 (dk_at dksX0_rounds_1 16 rfl rfl)
theorem dX0_rounds_40 : decode cX0_rounds 40 = .ok (.ishl, 1) := dk_120 (dk_at dksX0_rounds_1 17 rfl rfl)
theorem dX0_rounds_41 : decode cX0_rounds 41 = .ok (.istore 4, 2) := dk_54 4 (dk_at dksX0_rounds_1 18 rfl rfl)
theorem dX0_rounds_43 : decode cX0_rounds 43 = .ok (.aload_n 0, 1) := dk_42 (dk_at dksX0_rounds_1 20 rfl rfl)
theorem dX0_rounds_44 : decode cX0_rounds 44 = .ok (.iload 4, 2) := dk_21 4 (dk_at dksX0_rounds_1 21 rfl rfl)
theorem dX0_rounds_46 : decode cX0_rounds 46 = .ok (.invokevirtual 353, 3) := dk_182 1 97 (dk_at dksX0_rounds_2 0 rfl rfl)
theorem dX0_rounds_49 : decode cX0_rounds 49 = .ok (.iload 4, 2) := dk_21 4 (dk_at dksX0_rounds_2 3 rfl rfl)
theorem dX0_rounds_51 : decode cX0_rounds 51 = .ok (.if_icmp .eq 14, 3) := dk_159 0 14 (dk_at dksX0_rounds_2 5 rfl rfl)
theorem dX0_rounds_54 : decode cX0_rounds 54 = .ok (.aload_n 0, 1) := dk_42 (dk_at dksX0_rounds_2 8 rfl rfl)
theorem dX0_rounds_55 : decode cX0_rounds 55 = .ok (.iload 4, 2) := dk_21 4 (dk_at dksX0_rounds_2 9 rfl rfl)
theorem dX0_rounds_57 : decode cX0_rounds 57 = .ok (.invokevirtual 353, 3) := dk_182 1 97 (dk_at dksX0_rounds_2 11 rfl rfl)
theorem dX0_rounds_60 : decode cX0_rounds 60 = .ok (.istore 4, 2) := dk_54 4 (dk_at dksX0_rounds_2 14 rfl rfl)
theorem dX0_rounds_62 : decode cX0_rounds 62 = .ok (.goto (-19), 3) := dk_167 255 237 (dk_at dksX0_rounds_2 16 rfl rfl)
theorem dX0_rounds_65 : decode cX0_rounds 65 = .ok (.iload_n 1, 1) := dk_27 (dk_at dksX0_rounds_2 19 rfl rfl)
theorem dX0_rounds_66 : decode cX0_rounds 66 = .ok (.iload 4, 2) := dk_21 4 (dk_at dksX0_rounds_2 20 rfl rfl)
theorem dX0_rounds_68 : decode cX0_rounds 68 = .ok (.ior, 1) := dk_128 (dk_at dksX0_rounds_2 22 rfl rfl)
theorem dX0_rounds_69 : decode cX0_rounds 69 = .ok (.istore_n 1, 1) := dk_60 (dk_at dksX0_rounds_2 23 rfl rfl)
theorem dX0_rounds_70 : decode cX0_rounds 70 = .ok (.iinc 2 1, 3) := dk_132 2 1 (dk_at dksX0_rounds_3 0 rfl rfl)
theorem dX0_rounds_73 : decode cX0_rounds 73 = .ok (.iinc 3 1, 3) := dk_132 3 1 (dk_at dksX0_rounds_3 3 rfl rfl)
theorem dX0_rounds_76 : decode cX0_rounds 76 = .ok (.goto (-70), 3) := dk_167 255 186 (dk_at dksX0_rounds_3 6 rfl rfl)
theorem dX0_rounds_79 : decode cX0_rounds 79 = .ok (.iload_n 2, 1) := dk_28 (dk_at dksX0_rounds_3 9 rfl rfl)
theorem dX0_rounds_80 : decode cX0_rounds 80 = .ok (.ireturn, 1) := dk_172 (dk_at dksX0_rounds_3 10 rfl rfl)
abbrev cX0_crowd : ByteArray := prog_1_method_58_code
def yX0_crowd : MethodName := ⟨RX0, "crowd", "(I)I"⟩
def dkwX0_crowd_5 : List UInt8 := [132, 4, 1, 167, 255, 155, 27, 153, 0, 7, 28, 156, 0, 7, 28, 167, 0, 4, 29, 172]
abbrev dktX0_crowd_5 : List UInt8 := dkwX0_crowd_5 ++ []
def dkwX0_crowd_4 : List UInt8 := [163, 0, 6, 167, 0, 15, 16, 100, 21, 4, 104, 21, 5, 96, 61, 21, 6, 62, 132, 5, 1, 167, 255, 176]
abbrev dktX0_crowd_4 : List UInt8 := dkwX0_crowd_4 ++ dktX0_crowd_5
def dkwX0_crowd_3 : List UInt8 := [182, 1, 99, 153, 0, 7, 4, 167, 0, 4, 3, 96, 54, 6, 132, 7, 1, 167, 255, 221, 21, 6, 29]
abbrev dktX0_crowd_3 : List UInt8 := dkwX0_crowd_3 ++ dktX0_crowd_4
def dkwX0_crowd_2 : List UInt8 := [3, 54, 6, 3, 54, 7, 21, 7, 42, 182, 0, 173, 162, 0, 32, 21, 6, 42, 21, 7, 21, 5, 21, 4]
abbrev dktX0_crowd_2 : List UInt8 := dkwX0_crowd_2 ++ dktX0_crowd_3
def dkwX0_crowd_1 : List UInt8 := [180, 0, 52, 180, 1, 42, 162, 0, 95, 3, 54, 5, 21, 5, 42, 180, 0, 52, 180, 1, 45, 162, 0, 74]
abbrev dktX0_crowd_1 : List UInt8 := dkwX0_crowd_1 ++ dktX0_crowd_2
def dkwX0_crowd_0 : List UInt8 := [27, 3, 4, 184, 0, 175, 154, 0, 5, 2, 172, 16, 254, 61, 3, 62, 3, 54, 4, 21, 4, 42]
abbrev dktX0_crowd_0 : List UInt8 := dkwX0_crowd_0 ++ dktX0_crowd_1
theorem dksX0_crowd_0 : cX0_crowd.data.toList.drop 0 = dktX0_crowd_0 := by decide +kernel
theorem dksX0_crowd_1 : cX0_crowd.data.toList.drop 22 = dktX0_crowd_1 := dk_seg dksX0_crowd_0 22 rfl rfl
theorem dksX0_crowd_2 : cX0_crowd.data.toList.drop 46 = dktX0_crowd_2 := dk_seg dksX0_crowd_1 24 rfl rfl
theorem dksX0_crowd_3 : cX0_crowd.data.toList.drop 70 = dktX0_crowd_3 := dk_seg dksX0_crowd_2 24 rfl rfl
theorem dksX0_crowd_4 : cX0_crowd.data.toList.drop 93 = dktX0_crowd_4 := dk_seg dksX0_crowd_3 23 rfl rfl
theorem dksX0_crowd_5 : cX0_crowd.data.toList.drop 117 = dktX0_crowd_5 := dk_seg dksX0_crowd_4 24 rfl rfl
theorem dX0_crowd_0 : decode cX0_crowd 0 = .ok (.iload_n 1, 1) := dk_27 (dk_at dksX0_crowd_0 0 rfl rfl)
theorem dX0_crowd_1 : decode cX0_crowd 1 = .ok (.iconst 0, 1) := dk_3 (dk_at dksX0_crowd_0 1 rfl rfl)
theorem dX0_crowd_2 : decode cX0_crowd 2 = .ok (.iconst 1, 1) := dk_4 (dk_at dksX0_crowd_0 2 rfl rfl)
theorem dX0_crowd_3 : decode cX0_crowd 3 = .ok (.invokestatic 175, 3) := dk_184 0 175 (dk_at dksX0_crowd_0 3 rfl rfl)
theorem dX0_crowd_6 : decode cX0_crowd 6 = .ok (.ifCond .ne 5, 3) := dk_154 0 5 (dk_at dksX0_crowd_0 6 rfl rfl)
theorem dX0_crowd_9 : decode cX0_crowd 9 = .ok (.iconst (-1), 1) := dk_2 (dk_at dksX0_crowd_0 9 rfl rfl)
theorem dX0_crowd_10 : decode cX0_crowd 10 = .ok (.ireturn, 1) := dk_172 (dk_at dksX0_crowd_0 10 rfl rfl)
theorem dX0_crowd_11 : decode cX0_crowd 11 = .ok (.bipush (-2), 2) := dk_16 254 (dk_at dksX0_crowd_0 11 rfl rfl)
theorem dX0_crowd_13 : decode cX0_crowd 13 = .ok (.istore_n 2, 1) := dk_61 (dk_at dksX0_crowd_0 13 rfl rfl)
theorem dX0_crowd_14 : decode cX0_crowd 14 = .ok (.iconst 0, 1) := dk_3 (dk_at dksX0_crowd_0 14 rfl rfl)
theorem dX0_crowd_15 : decode cX0_crowd 15 = .ok (.istore_n 3, 1) := dk_62 (dk_at dksX0_crowd_0 15 rfl rfl)
theorem dX0_crowd_16 : decode cX0_crowd 16 = .ok (.iconst 0, 1) := dk_3 (dk_at dksX0_crowd_0 16 rfl rfl)
theorem dX0_crowd_17 : decode cX0_crowd 17 = .ok (.istore 4, 2) := dk_54 4 (dk_at dksX0_crowd_0 17 rfl rfl)
theorem dX0_crowd_19 : decode cX0_crowd 19 = .ok (.iload 4, 2) := dk_21 4 (dk_at dksX0_crowd_0 19 rfl rfl)
theorem dX0_crowd_21 : decode cX0_crowd 21 = .ok (.aload_n 0, 1) := dk_42 (dk_at dksX0_crowd_0 21 rfl rfl)
theorem dX0_crowd_22 : decode cX0_crowd 22 = .ok (.getfield 52, 3) := dk_180 0 52 (dk_at dksX0_crowd_1 0 rfl rfl)
theorem dX0_crowd_25 : decode cX0_crowd 25 = .ok (.getfield 298, 3) := dk_180 1 42 (dk_at dksX0_crowd_1 3 rfl rfl)
theorem dX0_crowd_28 : decode cX0_crowd 28 = .ok (.if_icmp .ge 95, 3) := dk_162 0 95 (dk_at dksX0_crowd_1 6 rfl rfl)
theorem dX0_crowd_31 : decode cX0_crowd 31 = .ok (.iconst 0, 1) := dk_3 (dk_at dksX0_crowd_1 9 rfl rfl)
theorem dX0_crowd_32 : decode cX0_crowd 32 = .ok (.istore 5, 2) := dk_54 5 (dk_at dksX0_crowd_1 10 rfl rfl)
theorem dX0_crowd_34 : decode cX0_crowd 34 = .ok (.iload 5, 2) := dk_21 5 (dk_at dksX0_crowd_1 12 rfl rfl)
theorem dX0_crowd_36 : decode cX0_crowd 36 = .ok (.aload_n 0, 1) := dk_42 (dk_at dksX0_crowd_1 14 rfl rfl)
theorem dX0_crowd_37 : decode cX0_crowd 37 = .ok (.getfield 52, 3) := dk_180 0 52 (dk_at dksX0_crowd_1 15 rfl rfl)
theorem dX0_crowd_40 : decode cX0_crowd 40 = .ok (.getfield 301, 3) := dk_180 1 45 (dk_at dksX0_crowd_1 18 rfl rfl)
theorem dX0_crowd_43 : decode cX0_crowd 43 = .ok (.if_icmp .ge 74, 3) := dk_162 0 74 (dk_at dksX0_crowd_1 21 rfl rfl)
theorem dX0_crowd_46 : decode cX0_crowd 46 = .ok (.iconst 0, 1) := dk_3 (dk_at dksX0_crowd_2 0 rfl rfl)
theorem dX0_crowd_47 : decode cX0_crowd 47 = .ok (.istore 6, 2) := dk_54 6 (dk_at dksX0_crowd_2 1 rfl rfl)
theorem dX0_crowd_49 : decode cX0_crowd 49 = .ok (.iconst 0, 1) := dk_3 (dk_at dksX0_crowd_2 3 rfl rfl)
theorem dX0_crowd_50 : decode cX0_crowd 50 = .ok (.istore 7, 2) := dk_54 7 (dk_at dksX0_crowd_2 4 rfl rfl)
theorem dX0_crowd_52 : decode cX0_crowd 52 = .ok (.iload 7, 2) := dk_21 7 (dk_at dksX0_crowd_2 6 rfl rfl)
theorem dX0_crowd_54 : decode cX0_crowd 54 = .ok (.aload_n 0, 1) := dk_42 (dk_at dksX0_crowd_2 8 rfl rfl)
theorem dX0_crowd_55 : decode cX0_crowd 55 = .ok (.invokevirtual 173, 3) := dk_182 0 173 (dk_at dksX0_crowd_2 9 rfl rfl)
theorem dX0_crowd_58 : decode cX0_crowd 58 = .ok (.if_icmp .ge 32, 3) := dk_162 0 32 (dk_at dksX0_crowd_2 12 rfl rfl)
theorem dX0_crowd_61 : decode cX0_crowd 61 = .ok (.iload 6, 2) := dk_21 6 (dk_at dksX0_crowd_2 15 rfl rfl)
theorem dX0_crowd_63 : decode cX0_crowd 63 = .ok (.aload_n 0, 1) := dk_42 (dk_at dksX0_crowd_2 17 rfl rfl)
theorem dX0_crowd_64 : decode cX0_crowd 64 = .ok (.iload 7, 2) := dk_21 7 (dk_at dksX0_crowd_2 18 rfl rfl)
theorem dX0_crowd_66 : decode cX0_crowd 66 = .ok (.iload 5, 2) := dk_21 5 (dk_at dksX0_crowd_2 20 rfl rfl)
theorem dX0_crowd_68 : decode cX0_crowd 68 = .ok (.iload 4, 2) := dk_21 4 (dk_at dksX0_crowd_2 22 rfl rfl)
theorem dX0_crowd_70 : decode cX0_crowd 70 = .ok (.invokevirtual 355, 3) := dk_182 1 99 (dk_at dksX0_crowd_3 0 rfl rfl)
theorem dX0_crowd_73 : decode cX0_crowd 73 = .ok (.ifCond .eq 7, 3) := dk_153 0 7 (dk_at dksX0_crowd_3 3 rfl rfl)
theorem dX0_crowd_76 : decode cX0_crowd 76 = .ok (.iconst 1, 1) := dk_4 (dk_at dksX0_crowd_3 6 rfl rfl)
theorem dX0_crowd_77 : decode cX0_crowd 77 = .ok (.goto 4, 3) := dk_167 0 4 (dk_at dksX0_crowd_3 7 rfl rfl)
theorem dX0_crowd_80 : decode cX0_crowd 80 = .ok (.iconst 0, 1) := dk_3 (dk_at dksX0_crowd_3 10 rfl rfl)
theorem dX0_crowd_81 : decode cX0_crowd 81 = .ok (.iadd, 1) := dk_96 (dk_at dksX0_crowd_3 11 rfl rfl)
theorem dX0_crowd_82 : decode cX0_crowd 82 = .ok (.istore 6, 2) := dk_54 6 (dk_at dksX0_crowd_3 12 rfl rfl)
theorem dX0_crowd_84 : decode cX0_crowd 84 = .ok (.iinc 7 1, 3) := dk_132 7 1 (dk_at dksX0_crowd_3 14 rfl rfl)
theorem dX0_crowd_87 : decode cX0_crowd 87 = .ok (.goto (-35), 3) := dk_167 255 221 (dk_at dksX0_crowd_3 17 rfl rfl)
theorem dX0_crowd_90 : decode cX0_crowd 90 = .ok (.iload 6, 2) := dk_21 6 (dk_at dksX0_crowd_3 20 rfl rfl)
theorem dX0_crowd_92 : decode cX0_crowd 92 = .ok (.iload_n 3, 1) := dk_29 (dk_at dksX0_crowd_3 22 rfl rfl)
theorem dX0_crowd_93 : decode cX0_crowd 93 = .ok (.if_icmp .gt 6, 3) := dk_163 0 6 (dk_at dksX0_crowd_4 0 rfl rfl)
theorem dX0_crowd_96 : decode cX0_crowd 96 = .ok (.goto 15, 3) := dk_167 0 15 (dk_at dksX0_crowd_4 3 rfl rfl)
theorem dX0_crowd_99 : decode cX0_crowd 99 = .ok (.bipush 100, 2) := dk_16 100 (dk_at dksX0_crowd_4 6 rfl rfl)
theorem dX0_crowd_101 : decode cX0_crowd 101 = .ok (.iload 4, 2) := dk_21 4 (dk_at dksX0_crowd_4 8 rfl rfl)
theorem dX0_crowd_103 : decode cX0_crowd 103 = .ok (.imul, 1) := dk_104 (dk_at dksX0_crowd_4 10 rfl rfl)
theorem dX0_crowd_104 : decode cX0_crowd 104 = .ok (.iload 5, 2) := dk_21 5 (dk_at dksX0_crowd_4 11 rfl rfl)
theorem dX0_crowd_106 : decode cX0_crowd 106 = .ok (.iadd, 1) := dk_96 (dk_at dksX0_crowd_4 13 rfl rfl)
theorem dX0_crowd_107 : decode cX0_crowd 107 = .ok (.istore_n 2, 1) := dk_61 (dk_at dksX0_crowd_4 14 rfl rfl)
theorem dX0_crowd_108 : decode cX0_crowd 108 = .ok (.iload 6, 2) := dk_21 6 (dk_at dksX0_crowd_4 15 rfl rfl)
theorem dX0_crowd_110 : decode cX0_crowd 110 = .ok (.istore_n 3, 1) := dk_62 (dk_at dksX0_crowd_4 17 rfl rfl)
theorem dX0_crowd_111 : decode cX0_crowd 111 = .ok (.iinc 5 1, 3) := dk_132 5 1 (dk_at dksX0_crowd_4 18 rfl rfl)
theorem dX0_crowd_114 : decode cX0_crowd 114 = .ok (.goto (-80), 3) := dk_167 255 176 (dk_at dksX0_crowd_4 21 rfl rfl)
theorem dX0_crowd_117 : decode cX0_crowd 117 = .ok (.iinc 4 1, 3) := dk_132 4 1 (dk_at dksX0_crowd_5 0 rfl rfl)
theorem dX0_crowd_120 : decode cX0_crowd 120 = .ok (.goto (-101), 3) := dk_167 255 155 (dk_at dksX0_crowd_5 3 rfl rfl)
theorem dX0_crowd_123 : decode cX0_crowd 123 = .ok (.iload_n 1, 1) := dk_27 (dk_at dksX0_crowd_5 6 rfl rfl)
theorem dX0_crowd_124 : decode cX0_crowd 124 = .ok (.ifCond .eq 7, 3) := dk_153 0 7 (dk_at dksX0_crowd_5 7 rfl rfl)
theorem dX0_crowd_127 : decode cX0_crowd 127 = .ok (.iload_n 2, 1) := dk_28 (dk_at dksX0_crowd_5 10 rfl rfl)
theorem dX0_crowd_128 : decode cX0_crowd 128 = .ok (.ifCond .ge 7, 3) := dk_156 0 7 (dk_at dksX0_crowd_5 11 rfl rfl)
theorem dX0_crowd_131 : decode cX0_crowd 131 = .ok (.iload_n 2, 1) := dk_28 (dk_at dksX0_crowd_5 14 rfl rfl)
theorem dX0_crowd_132 : decode cX0_crowd 132 = .ok (.goto 4, 3) := dk_167 0 4 (dk_at dksX0_crowd_5 15 rfl rfl)
theorem dX0_crowd_135 : decode cX0_crowd 135 = .ok (.iload_n 3, 1) := dk_29 (dk_at dksX0_crowd_5 18 rfl rfl)
theorem dX0_crowd_136 : decode cX0_crowd 136 = .ok (.ireturn, 1) := dk_172 (dk_at dksX0_crowd_5 19 rfl rfl)
abbrev cX0_comesTo : ByteArray := prog_1_method_57_code
def yX0_comesTo : MethodName := ⟨RX0, "comesTo", "(III)Z"⟩
def dkwX0_comesTo_6 : List UInt8 := [160, 0, 7, 4, 167, 0, 4, 3, 54, 6, 132, 7, 1, 167, 255, 175, 21, 6, 172]
abbrev dktX0_comesTo_6 : List UInt8 := dkwX0_comesTo_6 ++ []
def dkwX0_comesTo_5 : List UInt8 := [50, 21, 7, 46, 184, 0, 17, 96, 54, 5, 21, 6, 154, 0, 15, 21, 4, 28, 160, 0, 13, 21, 5, 29]
abbrev dktX0_comesTo_5 : List UInt8 := dkwX0_comesTo_5 ++ dktX0_comesTo_6
def dkwX0_comesTo_4 : List UInt8 := [180, 0, 218, 27, 50, 21, 7, 46, 184, 0, 8, 96, 54, 4, 21, 5, 42, 180, 0, 63, 180, 0, 218, 27]
abbrev dktX0_comesTo_4 : List UInt8 := dkwX0_comesTo_4 ++ dktX0_comesTo_5
def dkwX0_comesTo_3 : List UInt8 := [54, 7, 21, 7, 42, 180, 0, 63, 180, 0, 195, 27, 46, 162, 0, 73, 21, 4, 42, 180, 0, 63]
abbrev dktX0_comesTo_3 : List UInt8 := dkwX0_comesTo_3 ++ dktX0_comesTo_4
def dkwX0_comesTo_2 : List UInt8 := [158, 0, 19, 21, 4, 28, 160, 0, 13, 21, 5, 29, 160, 0, 7, 4, 167, 0, 4, 3, 54, 6, 3]
abbrev dktX0_comesTo_2 : List UInt8 := dkwX0_comesTo_2 ++ dktX0_comesTo_3
def dkwX0_comesTo_1 : List UInt8 := [180, 0, 163, 27, 182, 0, 183, 192, 0, 187, 180, 0, 209, 54, 5, 42, 180, 0, 63, 180, 0, 195, 27, 46]
abbrev dktX0_comesTo_1 : List UInt8 := dkwX0_comesTo_1 ++ dktX0_comesTo_2
def dkwX0_comesTo_0 : List UInt8 := [42, 180, 0, 52, 180, 0, 163, 27, 182, 0, 183, 192, 0, 187, 180, 0, 204, 54, 4, 42, 180, 0, 52]
abbrev dktX0_comesTo_0 : List UInt8 := dkwX0_comesTo_0 ++ dktX0_comesTo_1
theorem dksX0_comesTo_0 : cX0_comesTo.data.toList.drop 0 = dktX0_comesTo_0 := by decide +kernel
theorem dksX0_comesTo_1 : cX0_comesTo.data.toList.drop 23 = dktX0_comesTo_1 := dk_seg dksX0_comesTo_0 23 rfl rfl
theorem dksX0_comesTo_2 : cX0_comesTo.data.toList.drop 47 = dktX0_comesTo_2 := dk_seg dksX0_comesTo_1 24 rfl rfl
theorem dksX0_comesTo_3 : cX0_comesTo.data.toList.drop 70 = dktX0_comesTo_3 := dk_seg dksX0_comesTo_2 23 rfl rfl
theorem dksX0_comesTo_4 : cX0_comesTo.data.toList.drop 92 = dktX0_comesTo_4 := dk_seg dksX0_comesTo_3 22 rfl rfl
theorem dksX0_comesTo_5 : cX0_comesTo.data.toList.drop 116 = dktX0_comesTo_5 := dk_seg dksX0_comesTo_4 24 rfl rfl
theorem dksX0_comesTo_6 : cX0_comesTo.data.toList.drop 140 = dktX0_comesTo_6 := dk_seg dksX0_comesTo_5 24 rfl rfl
theorem dX0_comesTo_0 : decode cX0_comesTo 0 = .ok (.aload_n 0, 1) := dk_42 (dk_at dksX0_comesTo_0 0 rfl rfl)
theorem dX0_comesTo_1 : decode cX0_comesTo 1 = .ok (.getfield 52, 3) := dk_180 0 52 (dk_at dksX0_comesTo_0 1 rfl rfl)
theorem dX0_comesTo_4 : decode cX0_comesTo 4 = .ok (.getfield 163, 3) := dk_180 0 163 (dk_at dksX0_comesTo_0 4 rfl rfl)
theorem dX0_comesTo_7 : decode cX0_comesTo 7 = .ok (.iload_n 1, 1) := dk_27 (dk_at dksX0_comesTo_0 7 rfl rfl)
theorem dX0_comesTo_8 : decode cX0_comesTo 8 = .ok (.invokevirtual 183, 3) := dk_182 0 183 (dk_at dksX0_comesTo_0 8 rfl rfl)
theorem dX0_comesTo_11 : decode cX0_comesTo 11 = .ok (.checkcast 187, 3) := dk_192 0 187 (dk_at dksX0_comesTo_0 11 rfl rfl)
theorem dX0_comesTo_14 : decode cX0_comesTo 14 = .ok (.getfield 204, 3) := dk_180 0 204 (dk_at dksX0_comesTo_0 14 rfl rfl)
theorem dX0_comesTo_17 : decode cX0_comesTo 17 = .ok (.istore 4, 2) := dk_54 4 (dk_at dksX0_comesTo_0 17 rfl rfl)
theorem dX0_comesTo_19 : decode cX0_comesTo 19 = .ok (.aload_n 0, 1) := dk_42 (dk_at dksX0_comesTo_0 19 rfl rfl)
theorem dX0_comesTo_20 : decode cX0_comesTo 20 = .ok (.getfield 52, 3) := dk_180 0 52 (dk_at dksX0_comesTo_0 20 rfl rfl)
theorem dX0_comesTo_23 : decode cX0_comesTo 23 = .ok (.getfield 163, 3) := dk_180 0 163 (dk_at dksX0_comesTo_1 0 rfl rfl)
theorem dX0_comesTo_26 : decode cX0_comesTo 26 = .ok (.iload_n 1, 1) := dk_27 (dk_at dksX0_comesTo_1 3 rfl rfl)
theorem dX0_comesTo_27 : decode cX0_comesTo 27 = .ok (.invokevirtual 183, 3) := dk_182 0 183 (dk_at dksX0_comesTo_1 4 rfl rfl)
theorem dX0_comesTo_30 : decode cX0_comesTo 30 = .ok (.checkcast 187, 3) := dk_192 0 187 (dk_at dksX0_comesTo_1 7 rfl rfl)
theorem dX0_comesTo_33 : decode cX0_comesTo 33 = .ok (.getfield 209, 3) := dk_180 0 209 (dk_at dksX0_comesTo_1 10 rfl rfl)
theorem dX0_comesTo_36 : decode cX0_comesTo 36 = .ok (.istore 5, 2) := dk_54 5 (dk_at dksX0_comesTo_1 13 rfl rfl)
theorem dX0_comesTo_38 : decode cX0_comesTo 38 = .ok (.aload_n 0, 1) := dk_42 (dk_at dksX0_comesTo_1 15 rfl rfl)
theorem dX0_comesTo_39 : decode cX0_comesTo 39 = .ok (.getfield 63, 3) := dk_180 0 63 (dk_at dksX0_comesTo_1 16 rfl rfl)
theorem dX0_comesTo_42 : decode cX0_comesTo 42 = .ok (.getfield 195, 3) := dk_180 0 195 (dk_at dksX0_comesTo_1 19 rfl rfl)
theorem dX0_comesTo_45 : decode cX0_comesTo 45 = .ok (.iload_n 1, 1) := dk_27 (dk_at dksX0_comesTo_1 22 rfl rfl)
theorem dX0_comesTo_46 : decode cX0_comesTo 46 = .ok (.iaload, 1) := dk_46 (dk_at dksX0_comesTo_1 23 rfl rfl)
theorem dX0_comesTo_47 : decode cX0_comesTo 47 = .ok (.ifCond .le 19, 3) := dk_158 0 19 (dk_at dksX0_comesTo_2 0 rfl rfl)
theorem dX0_comesTo_50 : decode cX0_comesTo 50 = .ok (.iload 4, 2) := dk_21 4 (dk_at dksX0_comesTo_2 3 rfl rfl)
theorem dX0_comesTo_52 : decode cX0_comesTo 52 = .ok (.iload_n 2, 1) := dk_28 (dk_at dksX0_comesTo_2 5 rfl rfl)
theorem dX0_comesTo_53 : decode cX0_comesTo 53 = .ok (.if_icmp .ne 13, 3) := dk_160 0 13 (dk_at dksX0_comesTo_2 6 rfl rfl)
theorem dX0_comesTo_56 : decode cX0_comesTo 56 = .ok (.iload 5, 2) := dk_21 5 (dk_at dksX0_comesTo_2 9 rfl rfl)
theorem dX0_comesTo_58 : decode cX0_comesTo 58 = .ok (.iload_n 3, 1) := dk_29 (dk_at dksX0_comesTo_2 11 rfl rfl)
theorem dX0_comesTo_59 : decode cX0_comesTo 59 = .ok (.if_icmp .ne 7, 3) := dk_160 0 7 (dk_at dksX0_comesTo_2 12 rfl rfl)
theorem dX0_comesTo_62 : decode cX0_comesTo 62 = .ok (.iconst 1, 1) := dk_4 (dk_at dksX0_comesTo_2 15 rfl rfl)
theorem dX0_comesTo_63 : decode cX0_comesTo 63 = .ok (.goto 4, 3) := dk_167 0 4 (dk_at dksX0_comesTo_2 16 rfl rfl)
theorem dX0_comesTo_66 : decode cX0_comesTo 66 = .ok (.iconst 0, 1) := dk_3 (dk_at dksX0_comesTo_2 19 rfl rfl)
theorem dX0_comesTo_67 : decode cX0_comesTo 67 = .ok (.istore 6, 2) := dk_54 6 (dk_at dksX0_comesTo_2 20 rfl rfl)
theorem dX0_comesTo_69 : decode cX0_comesTo 69 = .ok (.iconst 0, 1) := dk_3 (dk_at dksX0_comesTo_2 22 rfl rfl)
theorem dX0_comesTo_70 : decode cX0_comesTo 70 = .ok (.istore 7, 2) := dk_54 7 (dk_at dksX0_comesTo_3 0 rfl rfl)
theorem dX0_comesTo_72 : decode cX0_comesTo 72 = .ok (.iload 7, 2) := dk_21 7 (dk_at dksX0_comesTo_3 2 rfl rfl)
theorem dX0_comesTo_74 : decode cX0_comesTo 74 = .ok (.aload_n 0, 1) := dk_42 (dk_at dksX0_comesTo_3 4 rfl rfl)
theorem dX0_comesTo_75 : decode cX0_comesTo 75 = .ok (.getfield 63, 3) := dk_180 0 63 (dk_at dksX0_comesTo_3 5 rfl rfl)
theorem dX0_comesTo_78 : decode cX0_comesTo 78 = .ok (.getfield 195, 3) := dk_180 0 195 (dk_at dksX0_comesTo_3 8 rfl rfl)
theorem dX0_comesTo_81 : decode cX0_comesTo 81 = .ok (.iload_n 1, 1) := dk_27 (dk_at dksX0_comesTo_3 11 rfl rfl)
theorem dX0_comesTo_82 : decode cX0_comesTo 82 = .ok (.iaload, 1) := dk_46 (dk_at dksX0_comesTo_3 12 rfl rfl)
theorem dX0_comesTo_83 : decode cX0_comesTo 83 = .ok (.if_icmp .ge 73, 3) := dk_162 0 73 (dk_at dksX0_comesTo_3 13 rfl rfl)
theorem dX0_comesTo_86 : decode cX0_comesTo 86 = .ok (.iload 4, 2) := dk_21 4 (dk_at dksX0_comesTo_3 16 rfl rfl)
theorem dX0_comesTo_88 : decode cX0_comesTo 88 = .ok (.aload_n 0, 1) := dk_42 (dk_at dksX0_comesTo_3 18 rfl rfl)
theorem dX0_comesTo_89 : decode cX0_comesTo 89 = .ok (.getfield 63, 3) := dk_180 0 63 (dk_at dksX0_comesTo_3 19 rfl rfl)
theorem dX0_comesTo_92 : decode cX0_comesTo 92 = .ok (.getfield 218, 3) := dk_180 0 218 (dk_at dksX0_comesTo_4 0 rfl rfl)
theorem dX0_comesTo_95 : decode cX0_comesTo 95 = .ok (.iload_n 1, 1) := dk_27 (dk_at dksX0_comesTo_4 3 rfl rfl)
theorem dX0_comesTo_96 : decode cX0_comesTo 96 = .ok (.aaload, 1) := dk_50 (dk_at dksX0_comesTo_4 4 rfl rfl)
theorem dX0_comesTo_97 : decode cX0_comesTo 97 = .ok (.iload 7, 2) := dk_21 7 (dk_at dksX0_comesTo_4 5 rfl rfl)
theorem dX0_comesTo_99 : decode cX0_comesTo 99 = .ok (.iaload, 1) := dk_46 (dk_at dksX0_comesTo_4 7 rfl rfl)
theorem dX0_comesTo_100 : decode cX0_comesTo 100 = .ok (.invokestatic 8, 3) := dk_184 0 8 (dk_at dksX0_comesTo_4 8 rfl rfl)
theorem dX0_comesTo_103 : decode cX0_comesTo 103 = .ok (.iadd, 1) := dk_96 (dk_at dksX0_comesTo_4 11 rfl rfl)
theorem dX0_comesTo_104 : decode cX0_comesTo 104 = .ok (.istore 4, 2) := dk_54 4 (dk_at dksX0_comesTo_4 12 rfl rfl)
theorem dX0_comesTo_106 : decode cX0_comesTo 106 = .ok (.iload 5, 2) := dk_21 5 (dk_at dksX0_comesTo_4 14 rfl rfl)
theorem dX0_comesTo_108 : decode cX0_comesTo 108 = .ok (.aload_n 0, 1) := dk_42 (dk_at dksX0_comesTo_4 16 rfl rfl)
theorem dX0_comesTo_109 : decode cX0_comesTo 109 = .ok (.getfield 63, 3) := dk_180 0 63 (dk_at dksX0_comesTo_4 17 rfl rfl)
theorem dX0_comesTo_112 : decode cX0_comesTo 112 = .ok (.getfield 218, 3) := dk_180 0 218 (dk_at dksX0_comesTo_4 20 rfl rfl)
theorem dX0_comesTo_115 : decode cX0_comesTo 115 = .ok (.iload_n 1, 1) := dk_27 (dk_at dksX0_comesTo_4 23 rfl rfl)
theorem dX0_comesTo_116 : decode cX0_comesTo 116 = .ok (.aaload, 1) := dk_50 (dk_at dksX0_comesTo_5 0 rfl rfl)
theorem dX0_comesTo_117 : decode cX0_comesTo 117 = .ok (.iload 7, 2) := dk_21 7 (dk_at dksX0_comesTo_5 1 rfl rfl)
theorem dX0_comesTo_119 : decode cX0_comesTo 119 = .ok (.iaload, 1) := dk_46 (dk_at dksX0_comesTo_5 3 rfl rfl)
theorem dX0_comesTo_120 : decode cX0_comesTo 120 = .ok (.invokestatic 17, 3) := dk_184 0 17 (dk_at dksX0_comesTo_5 4 rfl rfl)
theorem dX0_comesTo_123 : decode cX0_comesTo 123 = .ok (.iadd, 1) := dk_96 (dk_at dksX0_comesTo_5 7 rfl rfl)
theorem dX0_comesTo_124 : decode cX0_comesTo 124 = .ok (.istore 5, 2) := dk_54 5 (dk_at dksX0_comesTo_5 8 rfl rfl)
theorem dX0_comesTo_126 : decode cX0_comesTo 126 = .ok (.iload 6, 2) := dk_21 6 (dk_at dksX0_comesTo_5 10 rfl rfl)
theorem dX0_comesTo_128 : decode cX0_comesTo 128 = .ok (.ifCond .ne 15, 3) := dk_154 0 15 (dk_at dksX0_comesTo_5 12 rfl rfl)
theorem dX0_comesTo_131 : decode cX0_comesTo 131 = .ok (.iload 4, 2) := dk_21 4 (dk_at dksX0_comesTo_5 15 rfl rfl)
theorem dX0_comesTo_133 : decode cX0_comesTo 133 = .ok (.iload_n 2, 1) := dk_28 (dk_at dksX0_comesTo_5 17 rfl rfl)
theorem dX0_comesTo_134 : decode cX0_comesTo 134 = .ok (.if_icmp .ne 13, 3) := dk_160 0 13 (dk_at dksX0_comesTo_5 18 rfl rfl)
theorem dX0_comesTo_137 : decode cX0_comesTo 137 = .ok (.iload 5, 2) := dk_21 5 (dk_at dksX0_comesTo_5 21 rfl rfl)
theorem dX0_comesTo_139 : decode cX0_comesTo 139 = .ok (.iload_n 3, 1) := dk_29 (dk_at dksX0_comesTo_5 23 rfl rfl)
theorem dX0_comesTo_140 : decode cX0_comesTo 140 = .ok (.if_icmp .ne 7, 3) := dk_160 0 7 (dk_at dksX0_comesTo_6 0 rfl rfl)
theorem dX0_comesTo_143 : decode cX0_comesTo 143 = .ok (.iconst 1, 1) := dk_4 (dk_at dksX0_comesTo_6 3 rfl rfl)
theorem dX0_comesTo_144 : decode cX0_comesTo 144 = .ok (.goto 4, 3) := dk_167 0 4 (dk_at dksX0_comesTo_6 4 rfl rfl)
theorem dX0_comesTo_147 : decode cX0_comesTo 147 = .ok (.iconst 0, 1) := dk_3 (dk_at dksX0_comesTo_6 7 rfl rfl)
theorem dX0_comesTo_148 : decode cX0_comesTo 148 = .ok (.istore 6, 2) := dk_54 6 (dk_at dksX0_comesTo_6 8 rfl rfl)
theorem dX0_comesTo_150 : decode cX0_comesTo 150 = .ok (.iinc 7 1, 3) := dk_132 7 1 (dk_at dksX0_comesTo_6 10 rfl rfl)
theorem dX0_comesTo_153 : decode cX0_comesTo 153 = .ok (.goto (-81), 3) := dk_167 255 175 (dk_at dksX0_comesTo_6 13 rfl rfl)
theorem dX0_comesTo_156 : decode cX0_comesTo 156 = .ok (.iload 6, 2) := dk_21 6 (dk_at dksX0_comesTo_6 16 rfl rfl)
theorem dX0_comesTo_158 : decode cX0_comesTo 158 = .ok (.ireturn, 1) := dk_172 (dk_at dksX0_comesTo_6 18 rfl rfl)
abbrev cX0_thieves : ByteArray := prog_1_method_59_code
def yX0_thieves : MethodName := ⟨RX0, "thieves", "()I"⟩
def dkwX0_thieves_2 : List UInt8 := [132, 3, 1, 167, 255, 223, 132, 2, 1, 167, 255, 207, 27, 172]
abbrev dktX0_thieves_2 : List UInt8 := dkwX0_thieves_2 ++ []
def dkwX0_thieves_1 : List UInt8 := [162, 0, 28, 27, 42, 28, 29, 182, 1, 102, 156, 0, 9, 4, 28, 120, 167, 0, 4, 3, 128, 60]
abbrev dktX0_thieves_1 : List UInt8 := dkwX0_thieves_1 ++ dktX0_thieves_2
def dkwX0_thieves_0 : List UInt8 := [3, 60, 3, 61, 28, 42, 182, 0, 173, 162, 0, 47, 3, 62, 29, 42, 180, 0, 52, 180, 1, 48]
abbrev dktX0_thieves_0 : List UInt8 := dkwX0_thieves_0 ++ dktX0_thieves_1
theorem dksX0_thieves_0 : cX0_thieves.data.toList.drop 0 = dktX0_thieves_0 := by decide +kernel
theorem dksX0_thieves_1 : cX0_thieves.data.toList.drop 22 = dktX0_thieves_1 := dk_seg dksX0_thieves_0 22 rfl rfl
theorem dksX0_thieves_2 : cX0_thieves.data.toList.drop 44 = dktX0_thieves_2 := dk_seg dksX0_thieves_1 22 rfl rfl
theorem dX0_thieves_0 : decode cX0_thieves 0 = .ok (.iconst 0, 1) := dk_3 (dk_at dksX0_thieves_0 0 rfl rfl)
theorem dX0_thieves_1 : decode cX0_thieves 1 = .ok (.istore_n 1, 1) := dk_60 (dk_at dksX0_thieves_0 1 rfl rfl)
theorem dX0_thieves_2 : decode cX0_thieves 2 = .ok (.iconst 0, 1) := dk_3 (dk_at dksX0_thieves_0 2 rfl rfl)
theorem dX0_thieves_3 : decode cX0_thieves 3 = .ok (.istore_n 2, 1) := dk_61 (dk_at dksX0_thieves_0 3 rfl rfl)
theorem dX0_thieves_4 : decode cX0_thieves 4 = .ok (.iload_n 2, 1) := dk_28 (dk_at dksX0_thieves_0 4 rfl rfl)
theorem dX0_thieves_5 : decode cX0_thieves 5 = .ok (.aload_n 0, 1) := dk_42 (dk_at dksX0_thieves_0 5 rfl rfl)
theorem dX0_thieves_6 : decode cX0_thieves 6 = .ok (.invokevirtual 173, 3) := dk_182 0 173 (dk_at dksX0_thieves_0 6 rfl rfl)
theorem dX0_thieves_9 : decode cX0_thieves 9 = .ok (.if_icmp .ge 47, 3) := dk_162 0 47 (dk_at dksX0_thieves_0 9 rfl rfl)
theorem dX0_thieves_12 : decode cX0_thieves 12 = .ok (.iconst 0, 1) := dk_3 (dk_at dksX0_thieves_0 12 rfl rfl)
theorem dX0_thieves_13 : decode cX0_thieves 13 = .ok (.istore_n 3, 1) := dk_62 (dk_at dksX0_thieves_0 13 rfl rfl)
theorem dX0_thieves_14 : decode cX0_thieves 14 = .ok (.iload_n 3, 1) := dk_29 (dk_at dksX0_thieves_0 14 rfl rfl)
theorem dX0_thieves_15 : decode cX0_thieves 15 = .ok (.aload_n 0, 1) := dk_42 (dk_at dksX0_thieves_0 15 rfl rfl)
theorem dX0_thieves_16 : decode cX0_thieves 16 = .ok (.getfield 52, 3) := dk_180 0 52 (dk_at dksX0_thieves_0 16 rfl rfl)
theorem dX0_thieves_19 : decode cX0_thieves 19 = .ok (.getfield 304, 3) := dk_180 1 48 (dk_at dksX0_thieves_0 19 rfl rfl)
theorem dX0_thieves_22 : decode cX0_thieves 22 = .ok (.if_icmp .ge 28, 3) := dk_162 0 28 (dk_at dksX0_thieves_1 0 rfl rfl)
theorem dX0_thieves_25 : decode cX0_thieves 25 = .ok (.iload_n 1, 1) := dk_27 (dk_at dksX0_thieves_1 3 rfl rfl)
theorem dX0_thieves_26 : decode cX0_thieves 26 = .ok (.aload_n 0, 1) := dk_42 (dk_at dksX0_thieves_1 4 rfl rfl)
theorem dX0_thieves_27 : decode cX0_thieves 27 = .ok (.iload_n 2, 1) := dk_28 (dk_at dksX0_thieves_1 5 rfl rfl)
theorem dX0_thieves_28 : decode cX0_thieves 28 = .ok (.iload_n 3, 1) := dk_29 (dk_at dksX0_thieves_1 6 rfl rfl)
theorem dX0_thieves_29 : decode cX0_thieves 29 = .ok (.invokevirtual 358, 3) := dk_182 1 102 (dk_at dksX0_thieves_1 7 rfl rfl)
theorem dX0_thieves_32 : decode cX0_thieves 32 = .ok (.ifCond .ge 9, 3) := dk_156 0 9 (dk_at dksX0_thieves_1 10 rfl rfl)
theorem dX0_thieves_35 : decode cX0_thieves 35 = .ok (.iconst 1, 1) := dk_4 (dk_at dksX0_thieves_1 13 rfl rfl)
theorem dX0_thieves_36 : decode cX0_thieves 36 = .ok (.iload_n 2, 1) := dk_28 (dk_at dksX0_thieves_1 14 rfl rfl)
theorem dX0_thieves_37 : decode cX0_thieves 37 = .ok (.ishl, 1) := dk_120 (dk_at dksX0_thieves_1 15 rfl rfl)
theorem dX0_thieves_38 : decode cX0_thieves 38 = .ok (.goto 4, 3) := dk_167 0 4 (dk_at dksX0_thieves_1 16 rfl rfl)
theorem dX0_thieves_41 : decode cX0_thieves 41 = .ok (.iconst 0, 1) := dk_3 (dk_at dksX0_thieves_1 19 rfl rfl)
theorem dX0_thieves_42 : decode cX0_thieves 42 = .ok (.ior, 1) := dk_128 (dk_at dksX0_thieves_1 20 rfl rfl)
theorem dX0_thieves_43 : decode cX0_thieves 43 = .ok (.istore_n 1, 1) := dk_60 (dk_at dksX0_thieves_1 21 rfl rfl)
theorem dX0_thieves_44 : decode cX0_thieves 44 = .ok (.iinc 3 1, 3) := dk_132 3 1 (dk_at dksX0_thieves_2 0 rfl rfl)
theorem dX0_thieves_47 : decode cX0_thieves 47 = .ok (.goto (-33), 3) := dk_167 255 223 (dk_at dksX0_thieves_2 3 rfl rfl)
theorem dX0_thieves_50 : decode cX0_thieves 50 = .ok (.iinc 2 1, 3) := dk_132 2 1 (dk_at dksX0_thieves_2 6 rfl rfl)
theorem dX0_thieves_53 : decode cX0_thieves 53 = .ok (.goto (-49), 3) := dk_167 255 207 (dk_at dksX0_thieves_2 9 rfl rfl)
theorem dX0_thieves_56 : decode cX0_thieves 56 = .ok (.iload_n 1, 1) := dk_27 (dk_at dksX0_thieves_2 12 rfl rfl)
theorem dX0_thieves_57 : decode cX0_thieves 57 = .ok (.ireturn, 1) := dk_172 (dk_at dksX0_thieves_2 13 rfl rfl)
abbrev cX0_nearest : ByteArray := prog_1_method_60_code
def yX0_nearest : MethodName := ⟨RX0, "nearest", "(II)I"⟩
def dkwX0_nearest_5 : List UInt8 := [154, 0, 7, 29, 167, 0, 5, 21, 4, 172]
abbrev dktX0_nearest_5 : List UInt8 := dkwX0_nearest_5 ++ []
def dkwX0_nearest_4 : List UInt8 := [21, 4, 161, 0, 6, 167, 0, 10, 21, 5, 62, 21, 6, 54, 4, 132, 5, 1, 167, 255, 174, 28]
abbrev dktX0_nearest_4 : List UInt8 := dkwX0_nearest_4 ++ dktX0_nearest_5
def dkwX0_nearest_3 : List UInt8 := [180, 0, 192, 21, 5, 46, 184, 1, 28, 54, 6, 21, 5, 27, 159, 0, 24, 29, 155, 0, 13, 21, 6]
abbrev dktX0_nearest_3 : List UInt8 := dkwX0_nearest_3 ++ dktX0_nearest_4
def dkwX0_nearest_2 : List UInt8 := [180, 0, 63, 180, 0, 192, 27, 46, 42, 180, 0, 63, 180, 0, 189, 21, 5, 46, 42, 180, 0, 63]
abbrev dktX0_nearest_2 : List UInt8 := dkwX0_nearest_2 ++ dktX0_nearest_3
def dkwX0_nearest_1 : List UInt8 := [54, 4, 3, 54, 5, 21, 5, 42, 182, 0, 173, 162, 0, 79, 42, 180, 0, 63, 180, 0, 189, 27, 46, 42]
abbrev dktX0_nearest_1 : List UInt8 := dkwX0_nearest_1 ++ dktX0_nearest_2
def dkwX0_nearest_0 : List UInt8 := [42, 27, 182, 0, 179, 153, 0, 12, 28, 3, 4, 184, 0, 175, 154, 0, 5, 2, 172, 16, 254, 62, 16, 254]
abbrev dktX0_nearest_0 : List UInt8 := dkwX0_nearest_0 ++ dktX0_nearest_1
theorem dksX0_nearest_0 : cX0_nearest.data.toList.drop 0 = dktX0_nearest_0 := by decide +kernel
theorem dksX0_nearest_1 : cX0_nearest.data.toList.drop 24 = dktX0_nearest_1 := dk_seg dksX0_nearest_0 24 rfl rfl
theorem dksX0_nearest_2 : cX0_nearest.data.toList.drop 48 = dktX0_nearest_2 := dk_seg dksX0_nearest_1 24 rfl rfl
theorem dksX0_nearest_3 : cX0_nearest.data.toList.drop 70 = dktX0_nearest_3 := dk_seg dksX0_nearest_2 22 rfl rfl
theorem dksX0_nearest_4 : cX0_nearest.data.toList.drop 93 = dktX0_nearest_4 := dk_seg dksX0_nearest_3 23 rfl rfl
theorem dksX0_nearest_5 : cX0_nearest.data.toList.drop 115 = dktX0_nearest_5 := dk_seg dksX0_nearest_4 22 rfl rfl
theorem dX0_nearest_0 : decode cX0_nearest 0 = .ok (.aload_n 0, 1) := dk_42 (dk_at dksX0_nearest_0 0 rfl rfl)
theorem dX0_nearest_1 : decode cX0_nearest 1 = .ok (.iload_n 1, 1) := dk_27 (dk_at dksX0_nearest_0 1 rfl rfl)
theorem dX0_nearest_2 : decode cX0_nearest 2 = .ok (.invokevirtual 179, 3) := dk_182 0 179 (dk_at dksX0_nearest_0 2 rfl rfl)
theorem dX0_nearest_5 : decode cX0_nearest 5 = .ok (.ifCond .eq 12, 3) := dk_153 0 12 (dk_at dksX0_nearest_0 5 rfl rfl)
theorem dX0_nearest_8 : decode cX0_nearest 8 = .ok (.iload_n 2, 1) := dk_28 (dk_at dksX0_nearest_0 8 rfl rfl)
theorem dX0_nearest_9 : decode cX0_nearest 9 = .ok (.iconst 0, 1) := dk_3 (dk_at dksX0_nearest_0 9 rfl rfl)
theorem dX0_nearest_10 : decode cX0_nearest 10 = .ok (.iconst 1, 1) := dk_4 (dk_at dksX0_nearest_0 10 rfl rfl)
theorem dX0_nearest_11 : decode cX0_nearest 11 = .ok (.invokestatic 175, 3) := dk_184 0 175 (dk_at dksX0_nearest_0 11 rfl rfl)
theorem dX0_nearest_14 : decode cX0_nearest 14 = .ok (.ifCond .ne 5, 3) := dk_154 0 5 (dk_at dksX0_nearest_0 14 rfl rfl)
theorem dX0_nearest_17 : decode cX0_nearest 17 = .ok (.iconst (-1), 1) := dk_2 (dk_at dksX0_nearest_0 17 rfl rfl)
theorem dX0_nearest_18 : decode cX0_nearest 18 = .ok (.ireturn, 1) := dk_172 (dk_at dksX0_nearest_0 18 rfl rfl)
theorem dX0_nearest_19 : decode cX0_nearest 19 = .ok (.bipush (-2), 2) := dk_16 254 (dk_at dksX0_nearest_0 19 rfl rfl)
theorem dX0_nearest_21 : decode cX0_nearest 21 = .ok (.istore_n 3, 1) := dk_62 (dk_at dksX0_nearest_0 21 rfl rfl)
theorem dX0_nearest_22 : decode cX0_nearest 22 = .ok (.bipush (-2), 2) := dk_16 254 (dk_at dksX0_nearest_0 22 rfl rfl)
theorem dX0_nearest_24 : decode cX0_nearest 24 = .ok (.istore 4, 2) := dk_54 4 (dk_at dksX0_nearest_1 0 rfl rfl)
theorem dX0_nearest_26 : decode cX0_nearest 26 = .ok (.iconst 0, 1) := dk_3 (dk_at dksX0_nearest_1 2 rfl rfl)
theorem dX0_nearest_27 : decode cX0_nearest 27 = .ok (.istore 5, 2) := dk_54 5 (dk_at dksX0_nearest_1 3 rfl rfl)
theorem dX0_nearest_29 : decode cX0_nearest 29 = .ok (.iload 5, 2) := dk_21 5 (dk_at dksX0_nearest_1 5 rfl rfl)
theorem dX0_nearest_31 : decode cX0_nearest 31 = .ok (.aload_n 0, 1) := dk_42 (dk_at dksX0_nearest_1 7 rfl rfl)
theorem dX0_nearest_32 : decode cX0_nearest 32 = .ok (.invokevirtual 173, 3) := dk_182 0 173 (dk_at dksX0_nearest_1 8 rfl rfl)
theorem dX0_nearest_35 : decode cX0_nearest 35 = .ok (.if_icmp .ge 79, 3) := dk_162 0 79 (dk_at dksX0_nearest_1 11 rfl rfl)
theorem dX0_nearest_38 : decode cX0_nearest 38 = .ok (.aload_n 0, 1) := dk_42 (dk_at dksX0_nearest_1 14 rfl rfl)
theorem dX0_nearest_39 : decode cX0_nearest 39 = .ok (.getfield 63, 3) := dk_180 0 63 (dk_at dksX0_nearest_1 15 rfl rfl)
theorem dX0_nearest_42 : decode cX0_nearest 42 = .ok (.getfield 189, 3) := dk_180 0 189 (dk_at dksX0_nearest_1 18 rfl rfl)
theorem dX0_nearest_45 : decode cX0_nearest 45 = .ok (.iload_n 1, 1) := dk_27 (dk_at dksX0_nearest_1 21 rfl rfl)
theorem dX0_nearest_46 : decode cX0_nearest 46 = .ok (.iaload, 1) := dk_46 (dk_at dksX0_nearest_1 22 rfl rfl)
theorem dX0_nearest_47 : decode cX0_nearest 47 = .ok (.aload_n 0, 1) := dk_42 (dk_at dksX0_nearest_1 23 rfl rfl)
theorem dX0_nearest_48 : decode cX0_nearest 48 = .ok (.getfield 63, 3) := dk_180 0 63 (dk_at dksX0_nearest_2 0 rfl rfl)
theorem dX0_nearest_51 : decode cX0_nearest 51 = .ok (.getfield 192, 3) := dk_180 0 192 (dk_at dksX0_nearest_2 3 rfl rfl)
theorem dX0_nearest_54 : decode cX0_nearest 54 = .ok (.iload_n 1, 1) := dk_27 (dk_at dksX0_nearest_2 6 rfl rfl)
theorem dX0_nearest_55 : decode cX0_nearest 55 = .ok (.iaload, 1) := dk_46 (dk_at dksX0_nearest_2 7 rfl rfl)
theorem dX0_nearest_56 : decode cX0_nearest 56 = .ok (.aload_n 0, 1) := dk_42 (dk_at dksX0_nearest_2 8 rfl rfl)
theorem dX0_nearest_57 : decode cX0_nearest 57 = .ok (.getfield 63, 3) := dk_180 0 63 (dk_at dksX0_nearest_2 9 rfl rfl)
theorem dX0_nearest_60 : decode cX0_nearest 60 = .ok (.getfield 189, 3) := dk_180 0 189 (dk_at dksX0_nearest_2 12 rfl rfl)
theorem dX0_nearest_63 : decode cX0_nearest 63 = .ok (.iload 5, 2) := dk_21 5 (dk_at dksX0_nearest_2 15 rfl rfl)
theorem dX0_nearest_65 : decode cX0_nearest 65 = .ok (.iaload, 1) := dk_46 (dk_at dksX0_nearest_2 17 rfl rfl)
theorem dX0_nearest_66 : decode cX0_nearest 66 = .ok (.aload_n 0, 1) := dk_42 (dk_at dksX0_nearest_2 18 rfl rfl)
theorem dX0_nearest_67 : decode cX0_nearest 67 = .ok (.getfield 63, 3) := dk_180 0 63 (dk_at dksX0_nearest_2 19 rfl rfl)
theorem dX0_nearest_70 : decode cX0_nearest 70 = .ok (.getfield 192, 3) := dk_180 0 192 (dk_at dksX0_nearest_3 0 rfl rfl)
theorem dX0_nearest_73 : decode cX0_nearest 73 = .ok (.iload 5, 2) := dk_21 5 (dk_at dksX0_nearest_3 3 rfl rfl)
theorem dX0_nearest_75 : decode cX0_nearest 75 = .ok (.iaload, 1) := dk_46 (dk_at dksX0_nearest_3 5 rfl rfl)
theorem dX0_nearest_76 : decode cX0_nearest 76 = .ok (.invokestatic 284, 3) := dk_184 1 28 (dk_at dksX0_nearest_3 6 rfl rfl)
theorem dX0_nearest_79 : decode cX0_nearest 79 = .ok (.istore 6, 2) := dk_54 6 (dk_at dksX0_nearest_3 9 rfl rfl)
theorem dX0_nearest_81 : decode cX0_nearest 81 = .ok (.iload 5, 2) := dk_21 5 (dk_at dksX0_nearest_3 11 rfl rfl)
theorem dX0_nearest_83 : decode cX0_nearest 83 = .ok (.iload_n 1, 1) := dk_27 (dk_at dksX0_nearest_3 13 rfl rfl)
theorem dX0_nearest_84 : decode cX0_nearest 84 = .ok (.if_icmp .eq 24, 3) := dk_159 0 24 (dk_at dksX0_nearest_3 14 rfl rfl)
theorem dX0_nearest_87 : decode cX0_nearest 87 = .ok (.iload_n 3, 1) := dk_29 (dk_at dksX0_nearest_3 17 rfl rfl)
theorem dX0_nearest_88 : decode cX0_nearest 88 = .ok (.ifCond .lt 13, 3) := dk_155 0 13 (dk_at dksX0_nearest_3 18 rfl rfl)
theorem dX0_nearest_91 : decode cX0_nearest 91 = .ok (.iload 6, 2) := dk_21 6 (dk_at dksX0_nearest_3 21 rfl rfl)
theorem dX0_nearest_93 : decode cX0_nearest 93 = .ok (.iload 4, 2) := dk_21 4 (dk_at dksX0_nearest_4 0 rfl rfl)
theorem dX0_nearest_95 : decode cX0_nearest 95 = .ok (.if_icmp .lt 6, 3) := dk_161 0 6 (dk_at dksX0_nearest_4 2 rfl rfl)
theorem dX0_nearest_98 : decode cX0_nearest 98 = .ok (.goto 10, 3) := dk_167 0 10 (dk_at dksX0_nearest_4 5 rfl rfl)
theorem dX0_nearest_101 : decode cX0_nearest 101 = .ok (.iload 5, 2) := dk_21 5 (dk_at dksX0_nearest_4 8 rfl rfl)
theorem dX0_nearest_103 : decode cX0_nearest 103 = .ok (.istore_n 3, 1) := dk_62 (dk_at dksX0_nearest_4 10 rfl rfl)
theorem dX0_nearest_104 : decode cX0_nearest 104 = .ok (.iload 6, 2) := dk_21 6 (dk_at dksX0_nearest_4 11 rfl rfl)
theorem dX0_nearest_106 : decode cX0_nearest 106 = .ok (.istore 4, 2) := dk_54 4 (dk_at dksX0_nearest_4 13 rfl rfl)
theorem dX0_nearest_108 : decode cX0_nearest 108 = .ok (.iinc 5 1, 3) := dk_132 5 1 (dk_at dksX0_nearest_4 15 rfl rfl)
theorem dX0_nearest_111 : decode cX0_nearest 111 = .ok (.goto (-82), 3) := dk_167 255 174 (dk_at dksX0_nearest_4 18 rfl rfl)
theorem dX0_nearest_114 : decode cX0_nearest 114 = .ok (.iload_n 2, 1) := dk_28 (dk_at dksX0_nearest_4 21 rfl rfl)
theorem dX0_nearest_115 : decode cX0_nearest 115 = .ok (.ifCond .ne 7, 3) := dk_154 0 7 (dk_at dksX0_nearest_5 0 rfl rfl)
theorem dX0_nearest_118 : decode cX0_nearest 118 = .ok (.iload_n 3, 1) := dk_29 (dk_at dksX0_nearest_5 3 rfl rfl)
theorem dX0_nearest_119 : decode cX0_nearest 119 = .ok (.goto 5, 3) := dk_167 0 5 (dk_at dksX0_nearest_5 4 rfl rfl)
theorem dX0_nearest_122 : decode cX0_nearest 122 = .ok (.iload 4, 2) := dk_21 4 (dk_at dksX0_nearest_5 7 rfl rfl)
theorem dX0_nearest_124 : decode cX0_nearest 124 = .ok (.ireturn, 1) := dk_172 (dk_at dksX0_nearest_5 9 rfl rfl)
abbrev cX0_unfair : ByteArray := prog_1_method_61_code
def yX0_unfair : MethodName := ⟨RX0, "unfair", "()I"⟩
def dkwX0_unfair_2 : List UInt8 := [184, 0, 12, 61, 132, 3, 1, 167, 255, 225, 27, 28, 100, 172]
abbrev dktX0_unfair_2 : List UInt8 := dkwX0_unfair_2 ++ []
def dkwX0_unfair_1 : List UInt8 := [42, 182, 0, 173, 162, 0, 29, 27, 42, 29, 182, 1, 57, 184, 1, 105, 60, 28, 42, 29, 182, 1, 57]
abbrev dktX0_unfair_1 : List UInt8 := dkwX0_unfair_1 ++ dktX0_unfair_2
def dkwX0_unfair_0 : List UInt8 := [42, 182, 0, 173, 154, 0, 5, 3, 172, 42, 3, 182, 1, 57, 60, 42, 3, 182, 1, 57, 61, 4, 62, 29]
abbrev dktX0_unfair_0 : List UInt8 := dkwX0_unfair_0 ++ dktX0_unfair_1
theorem dksX0_unfair_0 : cX0_unfair.data.toList.drop 0 = dktX0_unfair_0 := by decide +kernel
theorem dksX0_unfair_1 : cX0_unfair.data.toList.drop 24 = dktX0_unfair_1 := dk_seg dksX0_unfair_0 24 rfl rfl
theorem dksX0_unfair_2 : cX0_unfair.data.toList.drop 47 = dktX0_unfair_2 := dk_seg dksX0_unfair_1 23 rfl rfl
theorem dX0_unfair_0 : decode cX0_unfair 0 = .ok (.aload_n 0, 1) := dk_42 (dk_at dksX0_unfair_0 0 rfl rfl)
theorem dX0_unfair_1 : decode cX0_unfair 1 = .ok (.invokevirtual 173, 3) := dk_182 0 173 (dk_at dksX0_unfair_0 1 rfl rfl)
theorem dX0_unfair_4 : decode cX0_unfair 4 = .ok (.ifCond .ne 5, 3) := dk_154 0 5 (dk_at dksX0_unfair_0 4 rfl rfl)
theorem dX0_unfair_7 : decode cX0_unfair 7 = .ok (.iconst 0, 1) := dk_3 (dk_at dksX0_unfair_0 7 rfl rfl)
theorem dX0_unfair_8 : decode cX0_unfair 8 = .ok (.ireturn, 1) := dk_172 (dk_at dksX0_unfair_0 8 rfl rfl)
theorem dX0_unfair_9 : decode cX0_unfair 9 = .ok (.aload_n 0, 1) := dk_42 (dk_at dksX0_unfair_0 9 rfl rfl)
theorem dX0_unfair_10 : decode cX0_unfair 10 = .ok (.iconst 0, 1) := dk_3 (dk_at dksX0_unfair_0 10 rfl rfl)
theorem dX0_unfair_11 : decode cX0_unfair 11 = .ok (.invokevirtual 313, 3) := dk_182 1 57 (dk_at dksX0_unfair_0 11 rfl rfl)
theorem dX0_unfair_14 : decode cX0_unfair 14 = .ok (.istore_n 1, 1) := dk_60 (dk_at dksX0_unfair_0 14 rfl rfl)
theorem dX0_unfair_15 : decode cX0_unfair 15 = .ok (.aload_n 0, 1) := dk_42 (dk_at dksX0_unfair_0 15 rfl rfl)
theorem dX0_unfair_16 : decode cX0_unfair 16 = .ok (.iconst 0, 1) := dk_3 (dk_at dksX0_unfair_0 16 rfl rfl)
theorem dX0_unfair_17 : decode cX0_unfair 17 = .ok (.invokevirtual 313, 3) := dk_182 1 57 (dk_at dksX0_unfair_0 17 rfl rfl)
theorem dX0_unfair_20 : decode cX0_unfair 20 = .ok (.istore_n 2, 1) := dk_61 (dk_at dksX0_unfair_0 20 rfl rfl)
theorem dX0_unfair_21 : decode cX0_unfair 21 = .ok (.iconst 1, 1) := dk_4 (dk_at dksX0_unfair_0 21 rfl rfl)
theorem dX0_unfair_22 : decode cX0_unfair 22 = .ok (.istore_n 3, 1) := dk_62 (dk_at dksX0_unfair_0 22 rfl rfl)
theorem dX0_unfair_23 : decode cX0_unfair 23 = .ok (.iload_n 3, 1) := dk_29 (dk_at dksX0_unfair_0 23 rfl rfl)
theorem dX0_unfair_24 : decode cX0_unfair 24 = .ok (.aload_n 0, 1) := dk_42 (dk_at dksX0_unfair_1 0 rfl rfl)
theorem dX0_unfair_25 : decode cX0_unfair 25 = .ok (.invokevirtual 173, 3) := dk_182 0 173 (dk_at dksX0_unfair_1 1 rfl rfl)
theorem dX0_unfair_28 : decode cX0_unfair 28 = .ok (.if_icmp .ge 29, 3) := dk_162 0 29 (dk_at dksX0_unfair_1 4 rfl rfl)
theorem dX0_unfair_31 : decode cX0_unfair 31 = .ok (.iload_n 1, 1) := dk_27 (dk_at dksX0_unfair_1 7 rfl rfl)
theorem dX0_unfair_32 : decode cX0_unfair 32 = .ok (.aload_n 0, 1) := dk_42 (dk_at dksX0_unfair_1 8 rfl rfl)
theorem dX0_unfair_33 : decode cX0_unfair 33 = .ok (.iload_n 3, 1) := dk_29 (dk_at dksX0_unfair_1 9 rfl rfl)
theorem dX0_unfair_34 : decode cX0_unfair 34 = .ok (.invokevirtual 313, 3) := dk_182 1 57 (dk_at dksX0_unfair_1 10 rfl rfl)
theorem dX0_unfair_37 : decode cX0_unfair 37 = .ok (.invokestatic 361, 3) := dk_184 1 105 (dk_at dksX0_unfair_1 13 rfl rfl)
theorem dX0_unfair_40 : decode cX0_unfair 40 = .ok (.istore_n 1, 1) := dk_60 (dk_at dksX0_unfair_1 16 rfl rfl)
theorem dX0_unfair_41 : decode cX0_unfair 41 = .ok (.iload_n 2, 1) := dk_28 (dk_at dksX0_unfair_1 17 rfl rfl)
theorem dX0_unfair_42 : decode cX0_unfair 42 = .ok (.aload_n 0, 1) := dk_42 (dk_at dksX0_unfair_1 18 rfl rfl)
theorem dX0_unfair_43 : decode cX0_unfair 43 = .ok (.iload_n 3, 1) := dk_29 (dk_at dksX0_unfair_1 19 rfl rfl)
theorem dX0_unfair_44 : decode cX0_unfair 44 = .ok (.invokevirtual 313, 3) := dk_182 1 57 (dk_at dksX0_unfair_1 20 rfl rfl)
theorem dX0_unfair_47 : decode cX0_unfair 47 = .ok (.invokestatic 12, 3) := dk_184 0 12 (dk_at dksX0_unfair_2 0 rfl rfl)
theorem dX0_unfair_50 : decode cX0_unfair 50 = .ok (.istore_n 2, 1) := dk_61 (dk_at dksX0_unfair_2 3 rfl rfl)
theorem dX0_unfair_51 : decode cX0_unfair 51 = .ok (.iinc 3 1, 3) := dk_132 3 1 (dk_at dksX0_unfair_2 4 rfl rfl)
theorem dX0_unfair_54 : decode cX0_unfair 54 = .ok (.goto (-31), 3) := dk_167 255 225 (dk_at dksX0_unfair_2 7 rfl rfl)
theorem dX0_unfair_57 : decode cX0_unfair 57 = .ok (.iload_n 1, 1) := dk_27 (dk_at dksX0_unfair_2 10 rfl rfl)
theorem dX0_unfair_58 : decode cX0_unfair 58 = .ok (.iload_n 2, 1) := dk_28 (dk_at dksX0_unfair_2 11 rfl rfl)
theorem dX0_unfair_59 : decode cX0_unfair 59 = .ok (.isub, 1) := dk_100 (dk_at dksX0_unfair_2 12 rfl rfl)
theorem dX0_unfair_60 : decode cX0_unfair 60 = .ok (.ireturn, 1) := dk_172 (dk_at dksX0_unfair_2 13 rfl rfl)
abbrev cX0_plain : ByteArray := prog_1_method_65_code
def yX0_plain : MethodName := ⟨RX0, "plain", "(I)I"⟩
def dkwX0_plain_7 : List UInt8 := [27, 154, 0, 7, 29, 167, 0, 4, 28, 172]
abbrev dktX0_plain_7 : List UInt8 := dkwX0_plain_7 ++ []
def dkwX0_plain_6 : List UInt8 := [167, 255, 196, 21, 5, 29, 161, 0, 6, 167, 0, 9, 21, 4, 61, 21, 5, 62, 132, 4, 1, 167, 255, 158]
abbrev dktX0_plain_6 : List UInt8 := dkwX0_plain_6 ++ dktX0_plain_7
def dkwX0_plain_5 : List UInt8 := [21, 4, 21, 7, 122, 4, 126, 182, 1, 119, 96, 54, 5, 132, 7, 1, 167, 255, 217, 132, 6, 1]
abbrev dktX0_plain_5 : List UInt8 := dkwX0_plain_5 ++ dktX0_plain_6
def dkwX0_plain_4 : List UInt8 := [21, 7, 42, 182, 0, 173, 162, 0, 36, 21, 5, 42, 21, 6, 21, 4, 21, 6, 122, 4, 126, 21, 7]
abbrev dktX0_plain_4 : List UInt8 := dkwX0_plain_4 ++ dktX0_plain_5
def dkwX0_plain_3 : List UInt8 := [162, 0, 93, 3, 54, 5, 3, 54, 6, 21, 6, 42, 182, 0, 173, 162, 0, 57, 21, 6, 4, 96, 54, 7]
abbrev dktX0_plain_3 : List UInt8 := dkwX0_plain_3 ++ dktX0_plain_4
def dkwX0_plain_2 : List UInt8 := [132, 5, 1, 167, 255, 239, 132, 4, 1, 167, 255, 221, 3, 54, 4, 21, 4, 4, 42, 182, 0, 173, 120]
abbrev dktX0_plain_2 : List UInt8 := dkwX0_plain_2 ++ dktX0_plain_3
def dkwX0_plain_1 : List UInt8 := [182, 0, 173, 162, 0, 32, 3, 54, 5, 21, 5, 5, 162, 0, 17, 42, 21, 4, 21, 5, 182, 1, 115]
abbrev dktX0_plain_1 : List UInt8 := dkwX0_plain_1 ++ dktX0_plain_2
def dkwX0_plain_0 : List UInt8 := [27, 3, 4, 184, 0, 175, 154, 0, 5, 2, 172, 3, 61, 19, 1, 21, 62, 3, 54, 4, 21, 4, 42]
abbrev dktX0_plain_0 : List UInt8 := dkwX0_plain_0 ++ dktX0_plain_1
theorem dksX0_plain_0 : cX0_plain.data.toList.drop 0 = dktX0_plain_0 := by decide +kernel
theorem dksX0_plain_1 : cX0_plain.data.toList.drop 23 = dktX0_plain_1 := dk_seg dksX0_plain_0 23 rfl rfl
theorem dksX0_plain_2 : cX0_plain.data.toList.drop 46 = dktX0_plain_2 := dk_seg dksX0_plain_1 23 rfl rfl
theorem dksX0_plain_3 : cX0_plain.data.toList.drop 69 = dktX0_plain_3 := dk_seg dksX0_plain_2 23 rfl rfl
theorem dksX0_plain_4 : cX0_plain.data.toList.drop 93 = dktX0_plain_4 := dk_seg dksX0_plain_3 24 rfl rfl
theorem dksX0_plain_5 : cX0_plain.data.toList.drop 116 = dktX0_plain_5 := dk_seg dksX0_plain_4 23 rfl rfl
theorem dksX0_plain_6 : cX0_plain.data.toList.drop 138 = dktX0_plain_6 := dk_seg dksX0_plain_5 22 rfl rfl
theorem dksX0_plain_7 : cX0_plain.data.toList.drop 162 = dktX0_plain_7 := dk_seg dksX0_plain_6 24 rfl rfl
theorem dX0_plain_0 : decode cX0_plain 0 = .ok (.iload_n 1, 1) := dk_27 (dk_at dksX0_plain_0 0 rfl rfl)
theorem dX0_plain_1 : decode cX0_plain 1 = .ok (.iconst 0, 1) := dk_3 (dk_at dksX0_plain_0 1 rfl rfl)
theorem dX0_plain_2 : decode cX0_plain 2 = .ok (.iconst 1, 1) := dk_4 (dk_at dksX0_plain_0 2 rfl rfl)
theorem dX0_plain_3 : decode cX0_plain 3 = .ok (.invokestatic 175, 3) := dk_184 0 175 (dk_at dksX0_plain_0 3 rfl rfl)
theorem dX0_plain_6 : decode cX0_plain 6 = .ok (.ifCond .ne 5, 3) := dk_154 0 5 (dk_at dksX0_plain_0 6 rfl rfl)
theorem dX0_plain_9 : decode cX0_plain 9 = .ok (.iconst (-1), 1) := dk_2 (dk_at dksX0_plain_0 9 rfl rfl)
theorem dX0_plain_10 : decode cX0_plain 10 = .ok (.ireturn, 1) := dk_172 (dk_at dksX0_plain_0 10 rfl rfl)
theorem dX0_plain_11 : decode cX0_plain 11 = .ok (.iconst 0, 1) := dk_3 (dk_at dksX0_plain_0 11 rfl rfl)
theorem dX0_plain_12 : decode cX0_plain 12 = .ok (.istore_n 2, 1) := dk_61 (dk_at dksX0_plain_0 12 rfl rfl)
theorem dX0_plain_13 : decode cX0_plain 13 = .ok (.ldc_w 277, 3) := dk_19 1 21 (dk_at dksX0_plain_0 13 rfl rfl)
theorem dX0_plain_16 : decode cX0_plain 16 = .ok (.istore_n 3, 1) := dk_62 (dk_at dksX0_plain_0 16 rfl rfl)
theorem dX0_plain_17 : decode cX0_plain 17 = .ok (.iconst 0, 1) := dk_3 (dk_at dksX0_plain_0 17 rfl rfl)
theorem dX0_plain_18 : decode cX0_plain 18 = .ok (.istore 4, 2) := dk_54 4 (dk_at dksX0_plain_0 18 rfl rfl)
theorem dX0_plain_20 : decode cX0_plain 20 = .ok (.iload 4, 2) := dk_21 4 (dk_at dksX0_plain_0 20 rfl rfl)
theorem dX0_plain_22 : decode cX0_plain 22 = .ok (.aload_n 0, 1) := dk_42 (dk_at dksX0_plain_0 22 rfl rfl)
theorem dX0_plain_23 : decode cX0_plain 23 = .ok (.invokevirtual 173, 3) := dk_182 0 173 (dk_at dksX0_plain_1 0 rfl rfl)
theorem dX0_plain_26 : decode cX0_plain 26 = .ok (.if_icmp .ge 32, 3) := dk_162 0 32 (dk_at dksX0_plain_1 3 rfl rfl)
theorem dX0_plain_29 : decode cX0_plain 29 = .ok (.iconst 0, 1) := dk_3 (dk_at dksX0_plain_1 6 rfl rfl)
theorem dX0_plain_30 : decode cX0_plain 30 = .ok (.istore 5, 2) := dk_54 5 (dk_at dksX0_plain_1 7 rfl rfl)
theorem dX0_plain_32 : decode cX0_plain 32 = .ok (.iload 5, 2) := dk_21 5 (dk_at dksX0_plain_1 9 rfl rfl)
theorem dX0_plain_34 : decode cX0_plain 34 = .ok (.iconst 2, 1) := dk_5 (dk_at dksX0_plain_1 11 rfl rfl)
theorem dX0_plain_35 : decode cX0_plain 35 = .ok (.if_icmp .ge 17, 3) := dk_162 0 17 (dk_at dksX0_plain_1 12 rfl rfl)
theorem dX0_plain_38 : decode cX0_plain 38 = .ok (.aload_n 0, 1) := dk_42 (dk_at dksX0_plain_1 15 rfl rfl)
theorem dX0_plain_39 : decode cX0_plain 39 = .ok (.iload 4, 2) := dk_21 4 (dk_at dksX0_plain_1 16 rfl rfl)
theorem dX0_plain_41 : decode cX0_plain 41 = .ok (.iload 5, 2) := dk_21 5 (dk_at dksX0_plain_1 18 rfl rfl)
theorem dX0_plain_43 : decode cX0_plain 43 = .ok (.invokevirtual 371, 3) := dk_182 1 115 (dk_at dksX0_plain_1 20 rfl rfl)
theorem dX0_plain_46 : decode cX0_plain 46 = .ok (.iinc 5 1, 3) := dk_132 5 1 (dk_at dksX0_plain_2 0 rfl rfl)
theorem dX0_plain_49 : decode cX0_plain 49 = .ok (.goto (-17), 3) := dk_167 255 239 (dk_at dksX0_plain_2 3 rfl rfl)
theorem dX0_plain_52 : decode cX0_plain 52 = .ok (.iinc 4 1, 3) := dk_132 4 1 (dk_at dksX0_plain_2 6 rfl rfl)
theorem dX0_plain_55 : decode cX0_plain 55 = .ok (.goto (-35), 3) := dk_167 255 221 (dk_at dksX0_plain_2 9 rfl rfl)
theorem dX0_plain_58 : decode cX0_plain 58 = .ok (.iconst 0, 1) := dk_3 (dk_at dksX0_plain_2 12 rfl rfl)
theorem dX0_plain_59 : decode cX0_plain 59 = .ok (.istore 4, 2) := dk_54 4 (dk_at dksX0_plain_2 13 rfl rfl)
theorem dX0_plain_61 : decode cX0_plain 61 = .ok (.iload 4, 2) := dk_21 4 (dk_at dksX0_plain_2 15 rfl rfl)
theorem dX0_plain_63 : decode cX0_plain 63 = .ok (.iconst 1, 1) := dk_4 (dk_at dksX0_plain_2 17 rfl rfl)
theorem dX0_plain_64 : decode cX0_plain 64 = .ok (.aload_n 0, 1) := dk_42 (dk_at dksX0_plain_2 18 rfl rfl)
theorem dX0_plain_65 : decode cX0_plain 65 = .ok (.invokevirtual 173, 3) := dk_182 0 173 (dk_at dksX0_plain_2 19 rfl rfl)
theorem dX0_plain_68 : decode cX0_plain 68 = .ok (.ishl, 1) := dk_120 (dk_at dksX0_plain_2 22 rfl rfl)
theorem dX0_plain_69 : decode cX0_plain 69 = .ok (.if_icmp .ge 93, 3) := dk_162 0 93 (dk_at dksX0_plain_3 0 rfl rfl)
theorem dX0_plain_72 : decode cX0_plain 72 = .ok (.iconst 0, 1) := dk_3 (dk_at dksX0_plain_3 3 rfl rfl)
theorem dX0_plain_73 : decode cX0_plain 73 = .ok (.istore 5, 2) := dk_54 5 (dk_at dksX0_plain_3 4 rfl rfl)
theorem dX0_plain_75 : decode cX0_plain 75 = .ok (.iconst 0, 1) := dk_3 (dk_at dksX0_plain_3 6 rfl rfl)
theorem dX0_plain_76 : decode cX0_plain 76 = .ok (.istore 6, 2) := dk_54 6 (dk_at dksX0_plain_3 7 rfl rfl)
theorem dX0_plain_78 : decode cX0_plain 78 = .ok (.iload 6, 2) := dk_21 6 (dk_at dksX0_plain_3 9 rfl rfl)
theorem dX0_plain_80 : decode cX0_plain 80 = .ok (.aload_n 0, 1) := dk_42 (dk_at dksX0_plain_3 11 rfl rfl)
theorem dX0_plain_81 : decode cX0_plain 81 = .ok (.invokevirtual 173, 3) := dk_182 0 173 (dk_at dksX0_plain_3 12 rfl rfl)
theorem dX0_plain_84 : decode cX0_plain 84 = .ok (.if_icmp .ge 57, 3) := dk_162 0 57 (dk_at dksX0_plain_3 15 rfl rfl)
theorem dX0_plain_87 : decode cX0_plain 87 = .ok (.iload 6, 2) := dk_21 6 (dk_at dksX0_plain_3 18 rfl rfl)
theorem dX0_plain_89 : decode cX0_plain 89 = .ok (.iconst 1, 1) := dk_4 (dk_at dksX0_plain_3 20 rfl rfl)
theorem dX0_plain_90 : decode cX0_plain 90 = .ok (.iadd, 1) := dk_96 (dk_at dksX0_plain_3 21 rfl rfl)
theorem dX0_plain_91 : decode cX0_plain 91 = .ok (.istore 7, 2) := dk_54 7 (dk_at dksX0_plain_3 22 rfl rfl)
theorem dX0_plain_93 : decode cX0_plain 93 = .ok (.iload 7, 2) := dk_21 7 (dk_at dksX0_plain_4 0 rfl rfl)
theorem dX0_plain_95 : decode cX0_plain 95 = .ok (.aload_n 0, 1) := dk_42 (dk_at dksX0_plain_4 2 rfl rfl)
theorem dX0_plain_96 : decode cX0_plain 96 = .ok (.invokevirtual 173, 3) := dk_182 0 173 (dk_at dksX0_plain_4 3 rfl rfl)
theorem dX0_plain_99 : decode cX0_plain 99 = .ok (.if_icmp .ge 36, 3) := dk_162 0 36 (dk_at dksX0_plain_4 6 rfl rfl)
theorem dX0_plain_102 : decode cX0_plain 102 = .ok (.iload 5, 2) := dk_21 5 (dk_at dksX0_plain_4 9 rfl rfl)
theorem dX0_plain_104 : decode cX0_plain 104 = .ok (.aload_n 0, 1) := dk_42 (dk_at dksX0_plain_4 11 rfl rfl)
theorem dX0_plain_105 : decode cX0_plain 105 = .ok (.iload 6, 2) := dk_21 6 (dk_at dksX0_plain_4 12 rfl rfl)
theorem dX0_plain_107 : decode cX0_plain 107 = .ok (.iload 4, 2) := dk_21 4 (dk_at dksX0_plain_4 14 rfl rfl)
theorem dX0_plain_109 : decode cX0_plain 109 = .ok (.iload 6, 2) := dk_21 6 (dk_at dksX0_plain_4 16 rfl rfl)
theorem dX0_plain_111 : decode cX0_plain 111 = .ok (.ishr, 1) := dk_122 (dk_at dksX0_plain_4 18 rfl rfl)
theorem dX0_plain_112 : decode cX0_plain 112 = .ok (.iconst 1, 1) := dk_4 (dk_at dksX0_plain_4 19 rfl rfl)
theorem dX0_plain_113 : decode cX0_plain 113 = .ok (.iand, 1) := dk_126 (dk_at dksX0_plain_4 20 rfl rfl)
theorem dX0_plain_114 : decode cX0_plain 114 = .ok (.iload 7, 2) := dk_21 7 (dk_at dksX0_plain_4 21 rfl rfl)
theorem dX0_plain_116 : decode cX0_plain 116 = .ok (.iload 4, 2) := dk_21 4 (dk_at dksX0_plain_5 0 rfl rfl)
theorem dX0_plain_118 : decode cX0_plain 118 = .ok (.iload 7, 2) := dk_21 7 (dk_at dksX0_plain_5 2 rfl rfl)
theorem dX0_plain_120 : decode cX0_plain 120 = .ok (.ishr, 1) := dk_122 (dk_at dksX0_plain_5 4 rfl rfl)
theorem dX0_plain_121 : decode cX0_plain 121 = .ok (.iconst 1, 1) := dk_4 (dk_at dksX0_plain_5 5 rfl rfl)
theorem dX0_plain_122 : decode cX0_plain 122 = .ok (.iand, 1) := dk_126 (dk_at dksX0_plain_5 6 rfl rfl)
theorem dX0_plain_123 : decode cX0_plain 123 = .ok (.invokevirtual 375, 3) := dk_182 1 119 (dk_at dksX0_plain_5 7 rfl rfl)
theorem dX0_plain_126 : decode cX0_plain 126 = .ok (.iadd, 1) := dk_96 (dk_at dksX0_plain_5 10 rfl rfl)
theorem dX0_plain_127 : decode cX0_plain 127 = .ok (.istore 5, 2) := dk_54 5 (dk_at dksX0_plain_5 11 rfl rfl)
theorem dX0_plain_129 : decode cX0_plain 129 = .ok (.iinc 7 1, 3) := dk_132 7 1 (dk_at dksX0_plain_5 13 rfl rfl)
theorem dX0_plain_132 : decode cX0_plain 132 = .ok (.goto (-39), 3) := dk_167 255 217 (dk_at dksX0_plain_5 16 rfl rfl)
theorem dX0_plain_135 : decode cX0_plain 135 = .ok (.iinc 6 1, 3) := dk_132 6 1 (dk_at dksX0_plain_5 19 rfl rfl)
theorem dX0_plain_138 : decode cX0_plain 138 = .ok (.goto (-60), 3) := dk_167 255 196 (dk_at dksX0_plain_6 0 rfl rfl)
theorem dX0_plain_141 : decode cX0_plain 141 = .ok (.iload 5, 2) := dk_21 5 (dk_at dksX0_plain_6 3 rfl rfl)
theorem dX0_plain_143 : decode cX0_plain 143 = .ok (.iload_n 3, 1) := dk_29 (dk_at dksX0_plain_6 5 rfl rfl)
theorem dX0_plain_144 : decode cX0_plain 144 = .ok (.if_icmp .lt 6, 3) := dk_161 0 6 (dk_at dksX0_plain_6 6 rfl rfl)
theorem dX0_plain_147 : decode cX0_plain 147 = .ok (.goto 9, 3) := dk_167 0 9 (dk_at dksX0_plain_6 9 rfl rfl)
theorem dX0_plain_150 : decode cX0_plain 150 = .ok (.iload 4, 2) := dk_21 4 (dk_at dksX0_plain_6 12 rfl rfl)
theorem dX0_plain_152 : decode cX0_plain 152 = .ok (.istore_n 2, 1) := dk_61 (dk_at dksX0_plain_6 14 rfl rfl)
theorem dX0_plain_153 : decode cX0_plain 153 = .ok (.iload 5, 2) := dk_21 5 (dk_at dksX0_plain_6 15 rfl rfl)
theorem dX0_plain_155 : decode cX0_plain 155 = .ok (.istore_n 3, 1) := dk_62 (dk_at dksX0_plain_6 17 rfl rfl)
theorem dX0_plain_156 : decode cX0_plain 156 = .ok (.iinc 4 1, 3) := dk_132 4 1 (dk_at dksX0_plain_6 18 rfl rfl)
theorem dX0_plain_159 : decode cX0_plain 159 = .ok (.goto (-98), 3) := dk_167 255 158 (dk_at dksX0_plain_6 21 rfl rfl)
theorem dX0_plain_162 : decode cX0_plain 162 = .ok (.iload_n 1, 1) := dk_27 (dk_at dksX0_plain_7 0 rfl rfl)
theorem dX0_plain_163 : decode cX0_plain 163 = .ok (.ifCond .ne 7, 3) := dk_154 0 7 (dk_at dksX0_plain_7 1 rfl rfl)
theorem dX0_plain_166 : decode cX0_plain 166 = .ok (.iload_n 3, 1) := dk_29 (dk_at dksX0_plain_7 4 rfl rfl)
theorem dX0_plain_167 : decode cX0_plain 167 = .ok (.goto 4, 3) := dk_167 0 4 (dk_at dksX0_plain_7 5 rfl rfl)
theorem dX0_plain_170 : decode cX0_plain 170 = .ok (.iload_n 2, 1) := dk_28 (dk_at dksX0_plain_7 8 rfl rfl)
theorem dX0_plain_171 : decode cX0_plain 171 = .ok (.ireturn, 1) := dk_172 (dk_at dksX0_plain_7 9 rfl rfl)
abbrev cX0_laysLegs : ByteArray := prog_1_method_63_code
def yX0_laysLegs : MethodName := ⟨RX0, "laysLegs", "(II)V"⟩
def dkwX0_laysLegs_8 : List UInt8 := [132, 7, 1, 167, 255, 131, 177]
abbrev dktX0_laysLegs_8 : List UInt8 := dkwX0_laysLegs_8 ++ []
def dkwX0_laysLegs_7 : List UInt8 := [167, 0, 4, 6, 21, 10, 21, 6, 100, 184, 0, 206, 182, 1, 111, 21, 9, 54, 5, 21, 10, 54, 6]
abbrev dktX0_laysLegs_7 : List UInt8 := dkwX0_laysLegs_7 ++ dktX0_laysLegs_8
def dkwX0_laysLegs_6 : List UInt8 := [25, 4, 28, 154, 0, 8, 21, 9, 167, 0, 5, 21, 5, 21, 6, 21, 10, 21, 6, 164, 0, 7, 4]
abbrev dktX0_laysLegs_6 : List UInt8 := dkwX0_laysLegs_6 ++ dktX0_laysLegs_7
def dkwX0_laysLegs_5 : List UInt8 := [21, 9, 21, 5, 164, 0, 7, 5, 167, 0, 4, 7, 21, 9, 21, 5, 100, 184, 0, 206, 182, 1, 111, 42]
abbrev dktX0_laysLegs_5 : List UInt8 := dkwX0_laysLegs_5 ++ dktX0_laysLegs_6
def dkwX0_laysLegs_4 : List UInt8 := [180, 1, 25, 21, 8, 46, 54, 10, 42, 25, 4, 21, 5, 28, 154, 0, 8, 21, 6, 167, 0, 5, 21, 10]
abbrev dktX0_laysLegs_4 : List UInt8 := dkwX0_laysLegs_4 ++ dktX0_laysLegs_5
def dkwX0_laysLegs_3 : List UInt8 := [162, 0, 122, 42, 27, 21, 7, 182, 1, 108, 54, 8, 45, 180, 1, 22, 21, 8, 46, 54, 9, 45]
abbrev dktX0_laysLegs_3 : List UInt8 := dkwX0_laysLegs_3 ++ dktX0_laysLegs_4
def dkwX0_laysLegs_2 : List UInt8 := [162, 0, 15, 25, 4, 21, 7, 3, 79, 132, 7, 1, 167, 255, 239, 3, 54, 7, 21, 7, 45, 180, 1, 18]
abbrev dktX0_laysLegs_2 : List UInt8 := dkwX0_laysLegs_2 ++ dktX0_laysLegs_3
def dkwX0_laysLegs_1 : List UInt8 := [58, 4, 45, 180, 0, 204, 54, 5, 45, 180, 0, 209, 54, 6, 3, 54, 7, 21, 7, 17, 1, 32]
abbrev dktX0_laysLegs_1 : List UInt8 := dkwX0_laysLegs_1 ++ dktX0_laysLegs_2
def dkwX0_laysLegs_0 : List UInt8 := [42, 180, 0, 52, 180, 0, 163, 27, 182, 0, 183, 192, 0, 187, 78, 42, 180, 0, 119, 27, 50, 28, 50]
abbrev dktX0_laysLegs_0 : List UInt8 := dkwX0_laysLegs_0 ++ dktX0_laysLegs_1
theorem dksX0_laysLegs_0 : cX0_laysLegs.data.toList.drop 0 = dktX0_laysLegs_0 := by decide +kernel
theorem dksX0_laysLegs_1 : cX0_laysLegs.data.toList.drop 23 = dktX0_laysLegs_1 := dk_seg dksX0_laysLegs_0 23 rfl rfl
theorem dksX0_laysLegs_2 : cX0_laysLegs.data.toList.drop 45 = dktX0_laysLegs_2 := dk_seg dksX0_laysLegs_1 22 rfl rfl
theorem dksX0_laysLegs_3 : cX0_laysLegs.data.toList.drop 69 = dktX0_laysLegs_3 := dk_seg dksX0_laysLegs_2 24 rfl rfl
theorem dksX0_laysLegs_4 : cX0_laysLegs.data.toList.drop 91 = dktX0_laysLegs_4 := dk_seg dksX0_laysLegs_3 22 rfl rfl
theorem dksX0_laysLegs_5 : cX0_laysLegs.data.toList.drop 115 = dktX0_laysLegs_5 := dk_seg dksX0_laysLegs_4 24 rfl rfl
theorem dksX0_laysLegs_6 : cX0_laysLegs.data.toList.drop 139 = dktX0_laysLegs_6 := dk_seg dksX0_laysLegs_5 24 rfl rfl
theorem dksX0_laysLegs_7 : cX0_laysLegs.data.toList.drop 162 = dktX0_laysLegs_7 := dk_seg dksX0_laysLegs_6 23 rfl rfl
theorem dksX0_laysLegs_8 : cX0_laysLegs.data.toList.drop 185 = dktX0_laysLegs_8 := dk_seg dksX0_laysLegs_7 23 rfl rfl
theorem dX0_laysLegs_0 : decode cX0_laysLegs 0 = .ok (.aload_n 0, 1) := dk_42 (dk_at dksX0_laysLegs_0 0 rfl rfl)
theorem dX0_laysLegs_1 : decode cX0_laysLegs 1 = .ok (.getfield 52, 3) := dk_180 0 52 (dk_at dksX0_laysLegs_0 1 rfl rfl)
theorem dX0_laysLegs_4 : decode cX0_laysLegs 4 = .ok (.getfield 163, 3) := dk_180 0 163 (dk_at dksX0_laysLegs_0 4 rfl rfl)
theorem dX0_laysLegs_7 : decode cX0_laysLegs 7 = .ok (.iload_n 1, 1) := dk_27 (dk_at dksX0_laysLegs_0 7 rfl rfl)
theorem dX0_laysLegs_8 : decode cX0_laysLegs 8 = .ok (.invokevirtual 183, 3) := dk_182 0 183 (dk_at dksX0_laysLegs_0 8 rfl rfl)
theorem dX0_laysLegs_11 : decode cX0_laysLegs 11 = .ok (.checkcast 187, 3) := dk_192 0 187 (dk_at dksX0_laysLegs_0 11 rfl rfl)
theorem dX0_laysLegs_14 : decode cX0_laysLegs 14 = .ok (.astore_n 3, 1) := dk_78 (dk_at dksX0_laysLegs_0 14 rfl rfl)
theorem dX0_laysLegs_15 : decode cX0_laysLegs 15 = .ok (.aload_n 0, 1) := dk_42 (dk_at dksX0_laysLegs_0 15 rfl rfl)
theorem dX0_laysLegs_16 : decode cX0_laysLegs 16 = .ok (.getfield 119, 3) := dk_180 0 119 (dk_at dksX0_laysLegs_0 16 rfl rfl)
theorem dX0_laysLegs_19 : decode cX0_laysLegs 19 = .ok (.iload_n 1, 1) := dk_27 (dk_at dksX0_laysLegs_0 19 rfl rfl)
theorem dX0_laysLegs_20 : decode cX0_laysLegs 20 = .ok (.aaload, 1) := dk_50 (dk_at dksX0_laysLegs_0 20 rfl rfl)
theorem dX0_laysLegs_21 : decode cX0_laysLegs 21 = .ok (.iload_n 2, 1) := dk_28 (dk_at dksX0_laysLegs_0 21 rfl rfl)
theorem dX0_laysLegs_22 : decode cX0_laysLegs 22 = .ok (.aaload, 1) := dk_50 (dk_at dksX0_laysLegs_0 22 rfl rfl)
theorem dX0_laysLegs_23 : decode cX0_laysLegs 23 = .ok (.astore 4, 2) := dk_58 4 (dk_at dksX0_laysLegs_1 0 rfl rfl)
theorem dX0_laysLegs_25 : decode cX0_laysLegs 25 = .ok (.aload_n 3, 1) := dk_45 (dk_at dksX0_laysLegs_1 2 rfl rfl)
theorem dX0_laysLegs_26 : decode cX0_laysLegs 26 = .ok (.getfield 204, 3) := dk_180 0 204 (dk_at dksX0_laysLegs_1 3 rfl rfl)
theorem dX0_laysLegs_29 : decode cX0_laysLegs 29 = .ok (.istore 5, 2) := dk_54 5 (dk_at dksX0_laysLegs_1 6 rfl rfl)
theorem dX0_laysLegs_31 : decode cX0_laysLegs 31 = .ok (.aload_n 3, 1) := dk_45 (dk_at dksX0_laysLegs_1 8 rfl rfl)
theorem dX0_laysLegs_32 : decode cX0_laysLegs 32 = .ok (.getfield 209, 3) := dk_180 0 209 (dk_at dksX0_laysLegs_1 9 rfl rfl)
theorem dX0_laysLegs_35 : decode cX0_laysLegs 35 = .ok (.istore 6, 2) := dk_54 6 (dk_at dksX0_laysLegs_1 12 rfl rfl)
theorem dX0_laysLegs_37 : decode cX0_laysLegs 37 = .ok (.iconst 0, 1) := dk_3 (dk_at dksX0_laysLegs_1 14 rfl rfl)
theorem dX0_laysLegs_38 : decode cX0_laysLegs 38 = .ok (.istore 7, 2) := dk_54 7 (dk_at dksX0_laysLegs_1 15 rfl rfl)
theorem dX0_laysLegs_40 : decode cX0_laysLegs 40 = .ok (.iload 7, 2) := dk_21 7 (dk_at dksX0_laysLegs_1 17 rfl rfl)
theorem dX0_laysLegs_42 : decode cX0_laysLegs 42 = .ok (.sipush 288, 3) := dk_17 1 32 (dk_at dksX0_laysLegs_1 19 rfl rfl)
theorem dX0_laysLegs_45 : decode cX0_laysLegs 45 = .ok (.if_icmp .ge 15, 3) := dk_162 0 15 (dk_at dksX0_laysLegs_2 0 rfl rfl)
theorem dX0_laysLegs_48 : decode cX0_laysLegs 48 = .ok (.aload 4, 2) := dk_25 4 (dk_at dksX0_laysLegs_2 3 rfl rfl)
theorem dX0_laysLegs_50 : decode cX0_laysLegs 50 = .ok (.iload 7, 2) := dk_21 7 (dk_at dksX0_laysLegs_2 5 rfl rfl)
theorem dX0_laysLegs_52 : decode cX0_laysLegs 52 = .ok (.iconst 0, 1) := dk_3 (dk_at dksX0_laysLegs_2 7 rfl rfl)
theorem dX0_laysLegs_53 : decode cX0_laysLegs 53 = .ok (.iastore, 1) := dk_79 (dk_at dksX0_laysLegs_2 8 rfl rfl)
theorem dX0_laysLegs_54 : decode cX0_laysLegs 54 = .ok (.iinc 7 1, 3) := dk_132 7 1 (dk_at dksX0_laysLegs_2 9 rfl rfl)
theorem dX0_laysLegs_57 : decode cX0_laysLegs 57 = .ok (.goto (-17), 3) := dk_167 255 239 (dk_at dksX0_laysLegs_2 12 rfl rfl)
theorem dX0_laysLegs_60 : decode cX0_laysLegs 60 = .ok (.iconst 0, 1) := dk_3 (dk_at dksX0_laysLegs_2 15 rfl rfl)
theorem dX0_laysLegs_61 : decode cX0_laysLegs 61 = .ok (.istore 7, 2) := dk_54 7 (dk_at dksX0_laysLegs_2 16 rfl rfl)
theorem dX0_laysLegs_63 : decode cX0_laysLegs 63 = .ok (.iload 7, 2) := dk_21 7 (dk_at dksX0_laysLegs_2 18 rfl rfl)
theorem dX0_laysLegs_65 : decode cX0_laysLegs 65 = .ok (.aload_n 3, 1) := dk_45 (dk_at dksX0_laysLegs_2 20 rfl rfl)
theorem dX0_laysLegs_66 : decode cX0_laysLegs 66 = .ok (.getfield 274, 3) := dk_180 1 18 (dk_at dksX0_laysLegs_2 21 rfl rfl)
theorem dX0_laysLegs_69 : decode cX0_laysLegs 69 = .ok (.if_icmp .ge 122, 3) := dk_162 0 122 (dk_at dksX0_laysLegs_3 0 rfl rfl)
theorem dX0_laysLegs_72 : decode cX0_laysLegs 72 = .ok (.aload_n 0, 1) := dk_42 (dk_at dksX0_laysLegs_3 3 rfl rfl)
theorem dX0_laysLegs_73 : decode cX0_laysLegs 73 = .ok (.iload_n 1, 1) := dk_27 (dk_at dksX0_laysLegs_3 4 rfl rfl)
theorem dX0_laysLegs_74 : decode cX0_laysLegs 74 = .ok (.iload 7, 2) := dk_21 7 (dk_at dksX0_laysLegs_3 5 rfl rfl)
theorem dX0_laysLegs_76 : decode cX0_laysLegs 76 = .ok (.invokevirtual 364, 3) := dk_182 1 108 (dk_at dksX0_laysLegs_3 7 rfl rfl)
theorem dX0_laysLegs_79 : decode cX0_laysLegs 79 = .ok (.istore 8, 2) := dk_54 8 (dk_at dksX0_laysLegs_3 10 rfl rfl)
theorem dX0_laysLegs_81 : decode cX0_laysLegs 81 = .ok (.aload_n 3, 1) := dk_45 (dk_at dksX0_laysLegs_3 12 rfl rfl)
theorem dX0_laysLegs_82 : decode cX0_laysLegs 82 = .ok (.getfield 278, 3) := dk_180 1 22 (dk_at dksX0_laysLegs_3 13 rfl rfl)
theorem dX0_laysLegs_85 : decode cX0_laysLegs 85 = .ok (.iload 8, 2) := dk_21 8 (dk_at dksX0_laysLegs_3 16 rfl rfl)
theorem dX0_laysLegs_87 : decode cX0_laysLegs 87 = .ok (.iaload, 1) := dk_46 (dk_at dksX0_laysLegs_3 18 rfl rfl)
theorem dX0_laysLegs_88 : decode cX0_laysLegs 88 = .ok (.istore 9, 2) := dk_54 9 (dk_at dksX0_laysLegs_3 19 rfl rfl)
theorem dX0_laysLegs_90 : decode cX0_laysLegs 90 = .ok (.aload_n 3, 1) := dk_45 (dk_at dksX0_laysLegs_3 21 rfl rfl)
theorem dX0_laysLegs_91 : decode cX0_laysLegs 91 = .ok (.getfield 281, 3) := dk_180 1 25 (dk_at dksX0_laysLegs_4 0 rfl rfl)
theorem dX0_laysLegs_94 : decode cX0_laysLegs 94 = .ok (.iload 8, 2) := dk_21 8 (dk_at dksX0_laysLegs_4 3 rfl rfl)
theorem dX0_laysLegs_96 : decode cX0_laysLegs 96 = .ok (.iaload, 1) := dk_46 (dk_at dksX0_laysLegs_4 5 rfl rfl)
theorem dX0_laysLegs_97 : decode cX0_laysLegs 97 = .ok (.istore 10, 2) := dk_54 10 (dk_at dksX0_laysLegs_4 6 rfl rfl)
theorem dX0_laysLegs_99 : decode cX0_laysLegs 99 = .ok (.aload_n 0, 1) := dk_42 (dk_at dksX0_laysLegs_4 8 rfl rfl)
theorem dX0_laysLegs_100 : decode cX0_laysLegs 100 = .ok (.aload 4, 2) := dk_25 4 (dk_at dksX0_laysLegs_4 9 rfl rfl)
theorem dX0_laysLegs_102 : decode cX0_laysLegs 102 = .ok (.iload 5, 2) := dk_21 5 (dk_at dksX0_laysLegs_4 11 rfl rfl)
theorem dX0_laysLegs_104 : decode cX0_laysLegs 104 = .ok (.iload_n 2, 1) := dk_28 (dk_at dksX0_laysLegs_4 13 rfl rfl)
theorem dX0_laysLegs_105 : decode cX0_laysLegs 105 = .ok (.ifCond .ne 8, 3) := dk_154 0 8 (dk_at dksX0_laysLegs_4 14 rfl rfl)
theorem dX0_laysLegs_108 : decode cX0_laysLegs 108 = .ok (.iload 6, 2) := dk_21 6 (dk_at dksX0_laysLegs_4 17 rfl rfl)
theorem dX0_laysLegs_110 : decode cX0_laysLegs 110 = .ok (.goto 5, 3) := dk_167 0 5 (dk_at dksX0_laysLegs_4 19 rfl rfl)
theorem dX0_laysLegs_113 : decode cX0_laysLegs 113 = .ok (.iload 10, 2) := dk_21 10 (dk_at dksX0_laysLegs_4 22 rfl rfl)
theorem dX0_laysLegs_115 : decode cX0_laysLegs 115 = .ok (.iload 9, 2) := dk_21 9 (dk_at dksX0_laysLegs_5 0 rfl rfl)
theorem dX0_laysLegs_117 : decode cX0_laysLegs 117 = .ok (.iload 5, 2) := dk_21 5 (dk_at dksX0_laysLegs_5 2 rfl rfl)
theorem dX0_laysLegs_119 : decode cX0_laysLegs 119 = .ok (.if_icmp .le 7, 3) := dk_164 0 7 (dk_at dksX0_laysLegs_5 4 rfl rfl)
theorem dX0_laysLegs_122 : decode cX0_laysLegs 122 = .ok (.iconst 2, 1) := dk_5 (dk_at dksX0_laysLegs_5 7 rfl rfl)
theorem dX0_laysLegs_123 : decode cX0_laysLegs 123 = .ok (.goto 4, 3) := dk_167 0 4 (dk_at dksX0_laysLegs_5 8 rfl rfl)
theorem dX0_laysLegs_126 : decode cX0_laysLegs 126 = .ok (.iconst 4, 1) := dk_7 (dk_at dksX0_laysLegs_5 11 rfl rfl)
theorem dX0_laysLegs_127 : decode cX0_laysLegs 127 = .ok (.iload 9, 2) := dk_21 9 (dk_at dksX0_laysLegs_5 12 rfl rfl)
theorem dX0_laysLegs_129 : decode cX0_laysLegs 129 = .ok (.iload 5, 2) := dk_21 5 (dk_at dksX0_laysLegs_5 14 rfl rfl)
theorem dX0_laysLegs_131 : decode cX0_laysLegs 131 = .ok (.isub, 1) := dk_100 (dk_at dksX0_laysLegs_5 16 rfl rfl)
theorem dX0_laysLegs_132 : decode cX0_laysLegs 132 = .ok (.invokestatic 206, 3) := dk_184 0 206 (dk_at dksX0_laysLegs_5 17 rfl rfl)
theorem dX0_laysLegs_135 : decode cX0_laysLegs 135 = .ok (.invokevirtual 367, 3) := dk_182 1 111 (dk_at dksX0_laysLegs_5 20 rfl rfl)
theorem dX0_laysLegs_138 : decode cX0_laysLegs 138 = .ok (.aload_n 0, 1) := dk_42 (dk_at dksX0_laysLegs_5 23 rfl rfl)
theorem dX0_laysLegs_139 : decode cX0_laysLegs 139 = .ok (.aload 4, 2) := dk_25 4 (dk_at dksX0_laysLegs_6 0 rfl rfl)
theorem dX0_laysLegs_141 : decode cX0_laysLegs 141 = .ok (.iload_n 2, 1) := dk_28 (dk_at dksX0_laysLegs_6 2 rfl rfl)
theorem dX0_laysLegs_142 : decode cX0_laysLegs 142 = .ok (.ifCond .ne 8, 3) := dk_154 0 8 (dk_at dksX0_laysLegs_6 3 rfl rfl)
theorem dX0_laysLegs_145 : decode cX0_laysLegs 145 = .ok (.iload 9, 2) := dk_21 9 (dk_at dksX0_laysLegs_6 6 rfl rfl)
theorem dX0_laysLegs_147 : decode cX0_laysLegs 147 = .ok (.goto 5, 3) := dk_167 0 5 (dk_at dksX0_laysLegs_6 8 rfl rfl)
theorem dX0_laysLegs_150 : decode cX0_laysLegs 150 = .ok (.iload 5, 2) := dk_21 5 (dk_at dksX0_laysLegs_6 11 rfl rfl)
theorem dX0_laysLegs_152 : decode cX0_laysLegs 152 = .ok (.iload 6, 2) := dk_21 6 (dk_at dksX0_laysLegs_6 13 rfl rfl)
theorem dX0_laysLegs_154 : decode cX0_laysLegs 154 = .ok (.iload 10, 2) := dk_21 10 (dk_at dksX0_laysLegs_6 15 rfl rfl)
theorem dX0_laysLegs_156 : decode cX0_laysLegs 156 = .ok (.iload 6, 2) := dk_21 6 (dk_at dksX0_laysLegs_6 17 rfl rfl)
theorem dX0_laysLegs_158 : decode cX0_laysLegs 158 = .ok (.if_icmp .le 7, 3) := dk_164 0 7 (dk_at dksX0_laysLegs_6 19 rfl rfl)
theorem dX0_laysLegs_161 : decode cX0_laysLegs 161 = .ok (.iconst 1, 1) := dk_4 (dk_at dksX0_laysLegs_6 22 rfl rfl)
theorem dX0_laysLegs_162 : decode cX0_laysLegs 162 = .ok (.goto 4, 3) := dk_167 0 4 (dk_at dksX0_laysLegs_7 0 rfl rfl)
theorem dX0_laysLegs_165 : decode cX0_laysLegs 165 = .ok (.iconst 3, 1) := dk_6 (dk_at dksX0_laysLegs_7 3 rfl rfl)
theorem dX0_laysLegs_166 : decode cX0_laysLegs 166 = .ok (.iload 10, 2) := dk_21 10 (dk_at dksX0_laysLegs_7 4 rfl rfl)
theorem dX0_laysLegs_168 : decode cX0_laysLegs 168 = .ok (.iload 6, 2) := dk_21 6 (dk_at dksX0_laysLegs_7 6 rfl rfl)
theorem dX0_laysLegs_170 : decode cX0_laysLegs 170 = .ok (.isub, 1) := dk_100 (dk_at dksX0_laysLegs_7 8 rfl rfl)
theorem dX0_laysLegs_171 : decode cX0_laysLegs 171 = .ok (.invokestatic 206, 3) := dk_184 0 206 (dk_at dksX0_laysLegs_7 9 rfl rfl)
theorem dX0_laysLegs_174 : decode cX0_laysLegs 174 = .ok (.invokevirtual 367, 3) := dk_182 1 111 (dk_at dksX0_laysLegs_7 12 rfl rfl)
theorem dX0_laysLegs_177 : decode cX0_laysLegs 177 = .ok (.iload 9, 2) := dk_21 9 (dk_at dksX0_laysLegs_7 15 rfl rfl)
theorem dX0_laysLegs_179 : decode cX0_laysLegs 179 = .ok (.istore 5, 2) := dk_54 5 (dk_at dksX0_laysLegs_7 17 rfl rfl)
theorem dX0_laysLegs_181 : decode cX0_laysLegs 181 = .ok (.iload 10, 2) := dk_21 10 (dk_at dksX0_laysLegs_7 19 rfl rfl)
theorem dX0_laysLegs_183 : decode cX0_laysLegs 183 = .ok (.istore 6, 2) := dk_54 6 (dk_at dksX0_laysLegs_7 21 rfl rfl)
theorem dX0_laysLegs_185 : decode cX0_laysLegs 185 = .ok (.iinc 7 1, 3) := dk_132 7 1 (dk_at dksX0_laysLegs_8 0 rfl rfl)
theorem dX0_laysLegs_188 : decode cX0_laysLegs 188 = .ok (.goto (-125), 3) := dk_167 255 131 (dk_at dksX0_laysLegs_8 3 rfl rfl)
theorem dX0_laysLegs_191 : decode cX0_laysLegs 191 = .ok (.return_, 1) := dk_177 (dk_at dksX0_laysLegs_8 6 rfl rfl)
abbrev cX0_goesLeg : ByteArray := prog_1_method_62_code
def yX0_goesLeg : MethodName := ⟨RX0, "goesLeg", "([IIIII)V"⟩
def dkwX0_goesLeg_2 : List UInt8 := [184, 0, 17, 96, 54, 7, 132, 8, 1, 167, 255, 211, 177]
abbrev dktX0_goesLeg_2 : List UInt8 := dkwX0_goesLeg_2 ++ []
def dkwX0_goesLeg_1 : List UInt8 := [184, 1, 63, 92, 46, 4, 96, 79, 21, 6, 21, 4, 184, 0, 8, 96, 54, 6, 21, 7, 21, 4]
abbrev dktX0_goesLeg_1 : List UInt8 := dkwX0_goesLeg_1 ++ dktX0_goesLeg_2
def dkwX0_goesLeg_0 : List UInt8 := [28, 54, 6, 29, 54, 7, 3, 54, 8, 21, 8, 21, 5, 162, 0, 44, 43, 21, 6, 21, 7, 21, 4]
abbrev dktX0_goesLeg_0 : List UInt8 := dkwX0_goesLeg_0 ++ dktX0_goesLeg_1
theorem dksX0_goesLeg_0 : cX0_goesLeg.data.toList.drop 0 = dktX0_goesLeg_0 := by decide +kernel
theorem dksX0_goesLeg_1 : cX0_goesLeg.data.toList.drop 23 = dktX0_goesLeg_1 := dk_seg dksX0_goesLeg_0 23 rfl rfl
theorem dksX0_goesLeg_2 : cX0_goesLeg.data.toList.drop 45 = dktX0_goesLeg_2 := dk_seg dksX0_goesLeg_1 22 rfl rfl
theorem dX0_goesLeg_0 : decode cX0_goesLeg 0 = .ok (.iload_n 2, 1) := dk_28 (dk_at dksX0_goesLeg_0 0 rfl rfl)
theorem dX0_goesLeg_1 : decode cX0_goesLeg 1 = .ok (.istore 6, 2) := dk_54 6 (dk_at dksX0_goesLeg_0 1 rfl rfl)
theorem dX0_goesLeg_3 : decode cX0_goesLeg 3 = .ok (.iload_n 3, 1) := dk_29 (dk_at dksX0_goesLeg_0 3 rfl rfl)
theorem dX0_goesLeg_4 : decode cX0_goesLeg 4 = .ok (.istore 7, 2) := dk_54 7 (dk_at dksX0_goesLeg_0 4 rfl rfl)
theorem dX0_goesLeg_6 : decode cX0_goesLeg 6 = .ok (.iconst 0, 1) := dk_3 (dk_at dksX0_goesLeg_0 6 rfl rfl)
theorem dX0_goesLeg_7 : decode cX0_goesLeg 7 = .ok (.istore 8, 2) := dk_54 8 (dk_at dksX0_goesLeg_0 7 rfl rfl)
theorem dX0_goesLeg_9 : decode cX0_goesLeg 9 = .ok (.iload 8, 2) := dk_21 8 (dk_at dksX0_goesLeg_0 9 rfl rfl)
theorem dX0_goesLeg_11 : decode cX0_goesLeg 11 = .ok (.iload 5, 2) := dk_21 5 (dk_at dksX0_goesLeg_0 11 rfl rfl)
theorem dX0_goesLeg_13 : decode cX0_goesLeg 13 = .ok (.if_icmp .ge 44, 3) := dk_162 0 44 (dk_at dksX0_goesLeg_0 13 rfl rfl)
theorem dX0_goesLeg_16 : decode cX0_goesLeg 16 = .ok (.aload_n 1, 1) := dk_43 (dk_at dksX0_goesLeg_0 16 rfl rfl)
theorem dX0_goesLeg_17 : decode cX0_goesLeg 17 = .ok (.iload 6, 2) := dk_21 6 (dk_at dksX0_goesLeg_0 17 rfl rfl)
theorem dX0_goesLeg_19 : decode cX0_goesLeg 19 = .ok (.iload 7, 2) := dk_21 7 (dk_at dksX0_goesLeg_0 19 rfl rfl)
theorem dX0_goesLeg_21 : decode cX0_goesLeg 21 = .ok (.iload 4, 2) := dk_21 4 (dk_at dksX0_goesLeg_0 21 rfl rfl)
theorem dX0_goesLeg_23 : decode cX0_goesLeg 23 = .ok (.invokestatic 319, 3) := dk_184 1 63 (dk_at dksX0_goesLeg_1 0 rfl rfl)
theorem dX0_goesLeg_26 : decode cX0_goesLeg 26 = .ok (.dup2, 1) := dk_92 (dk_at dksX0_goesLeg_1 3 rfl rfl)
theorem dX0_goesLeg_27 : decode cX0_goesLeg 27 = .ok (.iaload, 1) := dk_46 (dk_at dksX0_goesLeg_1 4 rfl rfl)
theorem dX0_goesLeg_28 : decode cX0_goesLeg 28 = .ok (.iconst 1, 1) := dk_4 (dk_at dksX0_goesLeg_1 5 rfl rfl)
theorem dX0_goesLeg_29 : decode cX0_goesLeg 29 = .ok (.iadd, 1) := dk_96 (dk_at dksX0_goesLeg_1 6 rfl rfl)
theorem dX0_goesLeg_30 : decode cX0_goesLeg 30 = .ok (.iastore, 1) := dk_79 (dk_at dksX0_goesLeg_1 7 rfl rfl)
theorem dX0_goesLeg_31 : decode cX0_goesLeg 31 = .ok (.iload 6, 2) := dk_21 6 (dk_at dksX0_goesLeg_1 8 rfl rfl)
theorem dX0_goesLeg_33 : decode cX0_goesLeg 33 = .ok (.iload 4, 2) := dk_21 4 (dk_at dksX0_goesLeg_1 10 rfl rfl)
theorem dX0_goesLeg_35 : decode cX0_goesLeg 35 = .ok (.invokestatic 8, 3) := dk_184 0 8 (dk_at dksX0_goesLeg_1 12 rfl rfl)
theorem dX0_goesLeg_38 : decode cX0_goesLeg 38 = .ok (.iadd, 1) := dk_96 (dk_at dksX0_goesLeg_1 15 rfl rfl)
theorem dX0_goesLeg_39 : decode cX0_goesLeg 39 = .ok (.istore 6, 2) := dk_54 6 (dk_at dksX0_goesLeg_1 16 rfl rfl)
theorem dX0_goesLeg_41 : decode cX0_goesLeg 41 = .ok (.iload 7, 2) := dk_21 7 (dk_at dksX0_goesLeg_1 18 rfl rfl)
theorem dX0_goesLeg_43 : decode cX0_goesLeg 43 = .ok (.iload 4, 2) := dk_21 4 (dk_at dksX0_goesLeg_1 20 rfl rfl)
theorem dX0_goesLeg_45 : decode cX0_goesLeg 45 = .ok (.invokestatic 17, 3) := dk_184 0 17 (dk_at dksX0_goesLeg_2 0 rfl rfl)
theorem dX0_goesLeg_48 : decode cX0_goesLeg 48 = .ok (.iadd, 1) := dk_96 (dk_at dksX0_goesLeg_2 3 rfl rfl)
theorem dX0_goesLeg_49 : decode cX0_goesLeg 49 = .ok (.istore 7, 2) := dk_54 7 (dk_at dksX0_goesLeg_2 4 rfl rfl)
theorem dX0_goesLeg_51 : decode cX0_goesLeg 51 = .ok (.iinc 8 1, 3) := dk_132 8 1 (dk_at dksX0_goesLeg_2 6 rfl rfl)
theorem dX0_goesLeg_54 : decode cX0_goesLeg 54 = .ok (.goto (-45), 3) := dk_167 255 211 (dk_at dksX0_goesLeg_2 9 rfl rfl)
theorem dX0_goesLeg_57 : decode cX0_goesLeg 57 = .ok (.return_, 1) := dk_177 (dk_at dksX0_goesLeg_2 12 rfl rfl)
abbrev cX0_lieTogether : ByteArray := prog_1_method_64_code
def yX0_lieTogether : MethodName := ⟨RX0, "lieTogether", "(IIII)I"⟩
def dkwX0_lieTogether_2 : List UInt8 := [167, 255, 216, 21, 5, 172]
abbrev dktX0_lieTogether_2 : List UInt8 := dkwX0_lieTogether_2 ++ []
def dkwX0_lieTogether_1 : List UInt8 := [21, 6, 46, 42, 180, 0, 119, 29, 50, 21, 4, 50, 21, 6, 46, 104, 96, 54, 5, 132, 6, 1]
abbrev dktX0_lieTogether_1 : List UInt8 := dkwX0_lieTogether_1 ++ dktX0_lieTogether_2
def dkwX0_lieTogether_0 : List UInt8 := [3, 54, 5, 3, 54, 6, 21, 6, 17, 1, 32, 162, 0, 38, 21, 5, 42, 180, 0, 119, 27, 50, 28, 50]
abbrev dktX0_lieTogether_0 : List UInt8 := dkwX0_lieTogether_0 ++ dktX0_lieTogether_1
theorem dksX0_lieTogether_0 : cX0_lieTogether.data.toList.drop 0 = dktX0_lieTogether_0 := by decide +kernel
theorem dksX0_lieTogether_1 : cX0_lieTogether.data.toList.drop 24 = dktX0_lieTogether_1 := dk_seg dksX0_lieTogether_0 24 rfl rfl
theorem dksX0_lieTogether_2 : cX0_lieTogether.data.toList.drop 46 = dktX0_lieTogether_2 := dk_seg dksX0_lieTogether_1 22 rfl rfl
theorem dX0_lieTogether_0 : decode cX0_lieTogether 0 = .ok (.iconst 0, 1) := dk_3 (dk_at dksX0_lieTogether_0 0 rfl rfl)
theorem dX0_lieTogether_1 : decode cX0_lieTogether 1 = .ok (.istore 5, 2) := dk_54 5 (dk_at dksX0_lieTogether_0 1 rfl rfl)
theorem dX0_lieTogether_3 : decode cX0_lieTogether 3 = .ok (.iconst 0, 1) := dk_3 (dk_at dksX0_lieTogether_0 3 rfl rfl)
theorem dX0_lieTogether_4 : decode cX0_lieTogether 4 = .ok (.istore 6, 2) := dk_54 6 (dk_at dksX0_lieTogether_0 4 rfl rfl)
theorem dX0_lieTogether_6 : decode cX0_lieTogether 6 = .ok (.iload 6, 2) := dk_21 6 (dk_at dksX0_lieTogether_0 6 rfl rfl)
theorem dX0_lieTogether_8 : decode cX0_lieTogether 8 = .ok (.sipush 288, 3) := dk_17 1 32 (dk_at dksX0_lieTogether_0 8 rfl rfl)
theorem dX0_lieTogether_11 : decode cX0_lieTogether 11 = .ok (.if_icmp .ge 38, 3) := dk_162 0 38 (dk_at dksX0_lieTogether_0 11 rfl rfl)
theorem dX0_lieTogether_14 : decode cX0_lieTogether 14 = .ok (.iload 5, 2) := dk_21 5 (dk_at dksX0_lieTogether_0 14 rfl rfl)
theorem dX0_lieTogether_16 : decode cX0_lieTogether 16 = .ok (.aload_n 0, 1) := dk_42 (dk_at dksX0_lieTogether_0 16 rfl rfl)
theorem dX0_lieTogether_17 : decode cX0_lieTogether 17 = .ok (.getfield 119, 3) := dk_180 0 119 (dk_at dksX0_lieTogether_0 17 rfl rfl)
theorem dX0_lieTogether_20 : decode cX0_lieTogether 20 = .ok (.iload_n 1, 1) := dk_27 (dk_at dksX0_lieTogether_0 20 rfl rfl)
theorem dX0_lieTogether_21 : decode cX0_lieTogether 21 = .ok (.aaload, 1) := dk_50 (dk_at dksX0_lieTogether_0 21 rfl rfl)
theorem dX0_lieTogether_22 : decode cX0_lieTogether 22 = .ok (.iload_n 2, 1) := dk_28 (dk_at dksX0_lieTogether_0 22 rfl rfl)
theorem dX0_lieTogether_23 : decode cX0_lieTogether 23 = .ok (.aaload, 1) := dk_50 (dk_at dksX0_lieTogether_0 23 rfl rfl)
theorem dX0_lieTogether_24 : decode cX0_lieTogether 24 = .ok (.iload 6, 2) := dk_21 6 (dk_at dksX0_lieTogether_1 0 rfl rfl)
theorem dX0_lieTogether_26 : decode cX0_lieTogether 26 = .ok (.iaload, 1) := dk_46 (dk_at dksX0_lieTogether_1 2 rfl rfl)
theorem dX0_lieTogether_27 : decode cX0_lieTogether 27 = .ok (.aload_n 0, 1) := dk_42 (dk_at dksX0_lieTogether_1 3 rfl rfl)
theorem dX0_lieTogether_28 : decode cX0_lieTogether 28 = .ok (.getfield 119, 3) := dk_180 0 119 (dk_at dksX0_lieTogether_1 4 rfl rfl)
theorem dX0_lieTogether_31 : decode cX0_lieTogether 31 = .ok (.iload_n 3, 1) := dk_29 (dk_at dksX0_lieTogether_1 7 rfl rfl)
theorem dX0_lieTogether_32 : decode cX0_lieTogether 32 = .ok (.aaload, 1) := dk_50 (dk_at dksX0_lieTogether_1 8 rfl rfl)
theorem dX0_lieTogether_33 : decode cX0_lieTogether 33 = .ok (.iload 4, 2) := dk_21 4 (dk_at dksX0_lieTogether_1 9 rfl rfl)
theorem dX0_lieTogether_35 : decode cX0_lieTogether 35 = .ok (.aaload, 1) := dk_50 (dk_at dksX0_lieTogether_1 11 rfl rfl)
theorem dX0_lieTogether_36 : decode cX0_lieTogether 36 = .ok (.iload 6, 2) := dk_21 6 (dk_at dksX0_lieTogether_1 12 rfl rfl)
theorem dX0_lieTogether_38 : decode cX0_lieTogether 38 = .ok (.iaload, 1) := dk_46 (dk_at dksX0_lieTogether_1 14 rfl rfl)
theorem dX0_lieTogether_39 : decode cX0_lieTogether 39 = .ok (.imul, 1) := dk_104 (dk_at dksX0_lieTogether_1 15 rfl rfl)
theorem dX0_lieTogether_40 : decode cX0_lieTogether 40 = .ok (.iadd, 1) := dk_96 (dk_at dksX0_lieTogether_1 16 rfl rfl)
theorem dX0_lieTogether_41 : decode cX0_lieTogether 41 = .ok (.istore 5, 2) := dk_54 5 (dk_at dksX0_lieTogether_1 17 rfl rfl)
theorem dX0_lieTogether_43 : decode cX0_lieTogether 43 = .ok (.iinc 6 1, 3) := dk_132 6 1 (dk_at dksX0_lieTogether_1 19 rfl rfl)
theorem dX0_lieTogether_46 : decode cX0_lieTogether 46 = .ok (.goto (-40), 3) := dk_167 255 216 (dk_at dksX0_lieTogether_2 0 rfl rfl)
theorem dX0_lieTogether_49 : decode cX0_lieTogether 49 = .ok (.iload 5, 2) := dk_21 5 (dk_at dksX0_lieTogether_2 3 rfl rfl)
theorem dX0_lieTogether_51 : decode cX0_lieTogether 51 = .ok (.ireturn, 1) := dk_172 (dk_at dksX0_lieTogether_2 5 rfl rfl)
abbrev cX0_tell : ByteArray := prog_1_method_66_code
def yX0_tell : MethodName := ⟨RX0, "tell", "(IIZ)I"⟩
def dkwX0_tell_2 : List UInt8 := [29, 84, 42, 89, 180, 0, 156, 4, 96, 181, 0, 156, 42, 180, 0, 156, 4, 100, 172]
abbrev dktX0_tell_2 : List UInt8 := dkwX0_tell_2 ++ []
def dkwX0_tell_1 : List UInt8 := [42, 180, 0, 156, 27, 79, 42, 180, 0, 125, 42, 180, 0, 156, 28, 79, 42, 180, 0, 131, 42, 180, 0, 156]
abbrev dktX0_tell_1 : List UInt8 := dkwX0_tell_1 ++ dktX0_tell_2
def dkwX0_tell_0 : List UInt8 := [42, 27, 28, 182, 0, 250, 153, 0, 12, 42, 180, 0, 156, 16, 12, 160, 0, 5, 2, 172, 42, 180, 0, 122]
abbrev dktX0_tell_0 : List UInt8 := dkwX0_tell_0 ++ dktX0_tell_1
theorem dksX0_tell_0 : cX0_tell.data.toList.drop 0 = dktX0_tell_0 := by decide +kernel
theorem dksX0_tell_1 : cX0_tell.data.toList.drop 24 = dktX0_tell_1 := dk_seg dksX0_tell_0 24 rfl rfl
theorem dksX0_tell_2 : cX0_tell.data.toList.drop 48 = dktX0_tell_2 := dk_seg dksX0_tell_1 24 rfl rfl
theorem dX0_tell_0 : decode cX0_tell 0 = .ok (.aload_n 0, 1) := dk_42 (dk_at dksX0_tell_0 0 rfl rfl)
theorem dX0_tell_1 : decode cX0_tell 1 = .ok (.iload_n 1, 1) := dk_27 (dk_at dksX0_tell_0 1 rfl rfl)
theorem dX0_tell_2 : decode cX0_tell 2 = .ok (.iload_n 2, 1) := dk_28 (dk_at dksX0_tell_0 2 rfl rfl)
theorem dX0_tell_3 : decode cX0_tell 3 = .ok (.invokevirtual 250, 3) := dk_182 0 250 (dk_at dksX0_tell_0 3 rfl rfl)
theorem dX0_tell_6 : decode cX0_tell 6 = .ok (.ifCond .eq 12, 3) := dk_153 0 12 (dk_at dksX0_tell_0 6 rfl rfl)
theorem dX0_tell_9 : decode cX0_tell 9 = .ok (.aload_n 0, 1) := dk_42 (dk_at dksX0_tell_0 9 rfl rfl)
theorem dX0_tell_10 : decode cX0_tell 10 = .ok (.getfield 156, 3) := dk_180 0 156 (dk_at dksX0_tell_0 10 rfl rfl)
theorem dX0_tell_13 : decode cX0_tell 13 = .ok (.bipush 12, 2) := dk_16 12 (dk_at dksX0_tell_0 13 rfl rfl)
theorem dX0_tell_15 : decode cX0_tell 15 = .ok (.if_icmp .ne 5, 3) := dk_160 0 5 (dk_at dksX0_tell_0 15 rfl rfl)
theorem dX0_tell_18 : decode cX0_tell 18 = .ok (.iconst (-1), 1) := dk_2 (dk_at dksX0_tell_0 18 rfl rfl)
theorem dX0_tell_19 : decode cX0_tell 19 = .ok (.ireturn, 1) := dk_172 (dk_at dksX0_tell_0 19 rfl rfl)
theorem dX0_tell_20 : decode cX0_tell 20 = .ok (.aload_n 0, 1) := dk_42 (dk_at dksX0_tell_0 20 rfl rfl)
theorem dX0_tell_21 : decode cX0_tell 21 = .ok (.getfield 122, 3) := dk_180 0 122 (dk_at dksX0_tell_0 21 rfl rfl)
theorem dX0_tell_24 : decode cX0_tell 24 = .ok (.aload_n 0, 1) := dk_42 (dk_at dksX0_tell_1 0 rfl rfl)
theorem dX0_tell_25 : decode cX0_tell 25 = .ok (.getfield 156, 3) := dk_180 0 156 (dk_at dksX0_tell_1 1 rfl rfl)
theorem dX0_tell_28 : decode cX0_tell 28 = .ok (.iload_n 1, 1) := dk_27 (dk_at dksX0_tell_1 4 rfl rfl)
theorem dX0_tell_29 : decode cX0_tell 29 = .ok (.iastore, 1) := dk_79 (dk_at dksX0_tell_1 5 rfl rfl)
theorem dX0_tell_30 : decode cX0_tell 30 = .ok (.aload_n 0, 1) := dk_42 (dk_at dksX0_tell_1 6 rfl rfl)
theorem dX0_tell_31 : decode cX0_tell 31 = .ok (.getfield 125, 3) := dk_180 0 125 (dk_at dksX0_tell_1 7 rfl rfl)
theorem dX0_tell_34 : decode cX0_tell 34 = .ok (.aload_n 0, 1) := dk_42 (dk_at dksX0_tell_1 10 rfl rfl)
theorem dX0_tell_35 : decode cX0_tell 35 = .ok (.getfield 156, 3) := dk_180 0 156 (dk_at dksX0_tell_1 11 rfl rfl)
theorem dX0_tell_38 : decode cX0_tell 38 = .ok (.iload_n 2, 1) := dk_28 (dk_at dksX0_tell_1 14 rfl rfl)
theorem dX0_tell_39 : decode cX0_tell 39 = .ok (.iastore, 1) := dk_79 (dk_at dksX0_tell_1 15 rfl rfl)
theorem dX0_tell_40 : decode cX0_tell 40 = .ok (.aload_n 0, 1) := dk_42 (dk_at dksX0_tell_1 16 rfl rfl)
theorem dX0_tell_41 : decode cX0_tell 41 = .ok (.getfield 131, 3) := dk_180 0 131 (dk_at dksX0_tell_1 17 rfl rfl)
theorem dX0_tell_44 : decode cX0_tell 44 = .ok (.aload_n 0, 1) := dk_42 (dk_at dksX0_tell_1 20 rfl rfl)
theorem dX0_tell_45 : decode cX0_tell 45 = .ok (.getfield 156, 3) := dk_180 0 156 (dk_at dksX0_tell_1 21 rfl rfl)
theorem dX0_tell_48 : decode cX0_tell 48 = .ok (.iload_n 3, 1) := dk_29 (dk_at dksX0_tell_2 0 rfl rfl)
theorem dX0_tell_49 : decode cX0_tell 49 = .ok (.bastore, 1) := dk_84 (dk_at dksX0_tell_2 1 rfl rfl)
theorem dX0_tell_50 : decode cX0_tell 50 = .ok (.aload_n 0, 1) := dk_42 (dk_at dksX0_tell_2 2 rfl rfl)
theorem dX0_tell_51 : decode cX0_tell 51 = .ok (.dup, 1) := dk_89 (dk_at dksX0_tell_2 3 rfl rfl)
theorem dX0_tell_52 : decode cX0_tell 52 = .ok (.getfield 156, 3) := dk_180 0 156 (dk_at dksX0_tell_2 4 rfl rfl)
theorem dX0_tell_55 : decode cX0_tell 55 = .ok (.iconst 1, 1) := dk_4 (dk_at dksX0_tell_2 7 rfl rfl)
theorem dX0_tell_56 : decode cX0_tell 56 = .ok (.iadd, 1) := dk_96 (dk_at dksX0_tell_2 8 rfl rfl)
theorem dX0_tell_57 : decode cX0_tell 57 = .ok (.putfield 156, 3) := dk_181 0 156 (dk_at dksX0_tell_2 9 rfl rfl)
theorem dX0_tell_60 : decode cX0_tell 60 = .ok (.aload_n 0, 1) := dk_42 (dk_at dksX0_tell_2 12 rfl rfl)
theorem dX0_tell_61 : decode cX0_tell 61 = .ok (.getfield 156, 3) := dk_180 0 156 (dk_at dksX0_tell_2 13 rfl rfl)
theorem dX0_tell_64 : decode cX0_tell 64 = .ok (.iconst 1, 1) := dk_4 (dk_at dksX0_tell_2 16 rfl rfl)
theorem dX0_tell_65 : decode cX0_tell 65 = .ok (.isub, 1) := dk_100 (dk_at dksX0_tell_2 17 rfl rfl)
theorem dX0_tell_66 : decode cX0_tell 66 = .ok (.ireturn, 1) := dk_172 (dk_at dksX0_tell_2 18 rfl rfl)
abbrev cX0_forget : ByteArray := prog_1_method_67_code
def yX0_forget : MethodName := ⟨RX0, "forget", "()I"⟩
def dkwX0_forget_0 : List UInt8 := [42, 180, 0, 156, 60, 42, 3, 181, 0, 156, 27, 172]
abbrev dktX0_forget_0 : List UInt8 := dkwX0_forget_0 ++ []
theorem dksX0_forget_0 : cX0_forget.data.toList.drop 0 = dktX0_forget_0 := by decide +kernel
theorem dX0_forget_0 : decode cX0_forget 0 = .ok (.aload_n 0, 1) := dk_42 (dk_at dksX0_forget_0 0 rfl rfl)
theorem dX0_forget_1 : decode cX0_forget 1 = .ok (.getfield 156, 3) := dk_180 0 156 (dk_at dksX0_forget_0 1 rfl rfl)
theorem dX0_forget_4 : decode cX0_forget 4 = .ok (.istore_n 1, 1) := dk_60 (dk_at dksX0_forget_0 4 rfl rfl)
theorem dX0_forget_5 : decode cX0_forget 5 = .ok (.aload_n 0, 1) := dk_42 (dk_at dksX0_forget_0 5 rfl rfl)
theorem dX0_forget_6 : decode cX0_forget 6 = .ok (.iconst 0, 1) := dk_3 (dk_at dksX0_forget_0 6 rfl rfl)
theorem dX0_forget_7 : decode cX0_forget 7 = .ok (.putfield 156, 3) := dk_181 0 156 (dk_at dksX0_forget_0 7 rfl rfl)
theorem dX0_forget_10 : decode cX0_forget 10 = .ok (.iload_n 1, 1) := dk_27 (dk_at dksX0_forget_0 10 rfl rfl)
theorem dX0_forget_11 : decode cX0_forget 11 = .ok (.ireturn, 1) := dk_172 (dk_at dksX0_forget_0 11 rfl rfl)
abbrev cX0_starts : ByteArray := prog_1_method_69_code
def yX0_starts : MethodName := ⟨RX0, "starts", "(III)I"⟩
def dkwX0_starts_6 : List UInt8 := [153, 0, 7, 4, 167, 0, 4, 3, 96, 54, 5, 132, 6, 1, 167, 255, 184, 21, 5, 172]
abbrev dktX0_starts_6 : List UInt8 := dkwX0_starts_6 ++ []
def dkwX0_starts_5 : List UInt8 := [21, 7, 27, 4, 96, 108, 54, 7, 132, 8, 1, 167, 255, 223, 21, 5, 42, 28, 29, 182, 1, 126]
abbrev dktX0_starts_5 : List UInt8 := dkwX0_starts_5 ++ dktX0_starts_6
def dkwX0_starts_4 : List UInt8 := [54, 8, 21, 8, 42, 182, 0, 173, 162, 0, 30, 42, 180, 0, 128, 21, 8, 21, 7, 27, 4, 96, 112, 79]
abbrev dktX0_starts_4 : List UInt8 := dkwX0_starts_4 ++ dktX0_starts_5
def dkwX0_starts_3 : List UInt8 := [17, 3, 232, 164, 0, 6, 16, 254, 172, 3, 54, 6, 21, 6, 21, 4, 162, 0, 71, 21, 6, 54, 7, 3]
abbrev dktX0_starts_3 : List UInt8 := dkwX0_starts_3 ++ dktX0_starts_4
def dkwX0_starts_2 : List UInt8 := [182, 0, 173, 162, 0, 17, 21, 4, 27, 4, 96, 104, 54, 4, 132, 6, 1, 167, 255, 236, 21, 4]
abbrev dktX0_starts_2 : List UInt8 := dkwX0_starts_2 ++ dktX0_starts_3
def dkwX0_starts_1 : List UInt8 := [180, 0, 156, 184, 0, 175, 154, 0, 5, 2, 172, 4, 54, 4, 3, 54, 5, 3, 54, 6, 21, 6, 42]
abbrev dktX0_starts_1 : List UInt8 := dkwX0_starts_1 ++ dktX0_starts_2
def dkwX0_starts_0 : List UInt8 := [27, 3, 6, 184, 0, 175, 153, 0, 25, 28, 3, 16, 40, 184, 0, 175, 153, 0, 15, 29, 3, 42]
abbrev dktX0_starts_0 : List UInt8 := dkwX0_starts_0 ++ dktX0_starts_1
theorem dksX0_starts_0 : cX0_starts.data.toList.drop 0 = dktX0_starts_0 := by decide +kernel
theorem dksX0_starts_1 : cX0_starts.data.toList.drop 22 = dktX0_starts_1 := dk_seg dksX0_starts_0 22 rfl rfl
theorem dksX0_starts_2 : cX0_starts.data.toList.drop 45 = dktX0_starts_2 := dk_seg dksX0_starts_1 23 rfl rfl
theorem dksX0_starts_3 : cX0_starts.data.toList.drop 67 = dktX0_starts_3 := dk_seg dksX0_starts_2 22 rfl rfl
theorem dksX0_starts_4 : cX0_starts.data.toList.drop 91 = dktX0_starts_4 := dk_seg dksX0_starts_3 24 rfl rfl
theorem dksX0_starts_5 : cX0_starts.data.toList.drop 115 = dktX0_starts_5 := dk_seg dksX0_starts_4 24 rfl rfl
theorem dksX0_starts_6 : cX0_starts.data.toList.drop 137 = dktX0_starts_6 := dk_seg dksX0_starts_5 22 rfl rfl
theorem dX0_starts_0 : decode cX0_starts 0 = .ok (.iload_n 1, 1) := dk_27 (dk_at dksX0_starts_0 0 rfl rfl)
theorem dX0_starts_1 : decode cX0_starts 1 = .ok (.iconst 0, 1) := dk_3 (dk_at dksX0_starts_0 1 rfl rfl)
theorem dX0_starts_2 : decode cX0_starts 2 = .ok (.iconst 3, 1) := dk_6 (dk_at dksX0_starts_0 2 rfl rfl)
theorem dX0_starts_3 : decode cX0_starts 3 = .ok (.invokestatic 175, 3) := dk_184 0 175 (dk_at dksX0_starts_0 3 rfl rfl)
theorem dX0_starts_6 : decode cX0_starts 6 = .ok (.ifCond .eq 25, 3) := dk_153 0 25 (dk_at dksX0_starts_0 6 rfl rfl)
theorem dX0_starts_9 : decode cX0_starts 9 = .ok (.iload_n 2, 1) := dk_28 (dk_at dksX0_starts_0 9 rfl rfl)
theorem dX0_starts_10 : decode cX0_starts 10 = .ok (.iconst 0, 1) := dk_3 (dk_at dksX0_starts_0 10 rfl rfl)
theorem dX0_starts_11 : decode cX0_starts 11 = .ok (.bipush 40, 2) := dk_16 40 (dk_at dksX0_starts_0 11 rfl rfl)
theorem dX0_starts_13 : decode cX0_starts 13 = .ok (.invokestatic 175, 3) := dk_184 0 175 (dk_at dksX0_starts_0 13 rfl rfl)
theorem dX0_starts_16 : decode cX0_starts 16 = .ok (.ifCond .eq 15, 3) := dk_153 0 15 (dk_at dksX0_starts_0 16 rfl rfl)
theorem dX0_starts_19 : decode cX0_starts 19 = .ok (.iload_n 3, 1) := dk_29 (dk_at dksX0_starts_0 19 rfl rfl)
theorem dX0_starts_20 : decode cX0_starts 20 = .ok (.iconst 0, 1) := dk_3 (dk_at dksX0_starts_0 20 rfl rfl)
theorem dX0_starts_21 : decode cX0_starts 21 = .ok (.aload_n 0, 1) := dk_42 (dk_at dksX0_starts_0 21 rfl rfl)
theorem dX0_starts_22 : decode cX0_starts 22 = .ok (.getfield 156, 3) := dk_180 0 156 (dk_at dksX0_starts_1 0 rfl rfl)
theorem dX0_starts_25 : decode cX0_starts 25 = .ok (.invokestatic 175, 3) := dk_184 0 175 (dk_at dksX0_starts_1 3 rfl rfl)
theorem dX0_starts_28 : decode cX0_starts 28 = .ok (.ifCond .ne 5, 3) := dk_154 0 5 (dk_at dksX0_starts_1 6 rfl rfl)
theorem dX0_starts_31 : decode cX0_starts 31 = .ok (.iconst (-1), 1) := dk_2 (dk_at dksX0_starts_1 9 rfl rfl)
theorem dX0_starts_32 : decode cX0_starts 32 = .ok (.ireturn, 1) := dk_172 (dk_at dksX0_starts_1 10 rfl rfl)
theorem dX0_starts_33 : decode cX0_starts 33 = .ok (.iconst 1, 1) := dk_4 (dk_at dksX0_starts_1 11 rfl rfl)
theorem dX0_starts_34 : decode cX0_starts 34 = .ok (.istore 4, 2) := dk_54 4 (dk_at dksX0_starts_1 12 rfl rfl)
theorem dX0_starts_36 : decode cX0_starts 36 = .ok (.iconst 0, 1) := dk_3 (dk_at dksX0_starts_1 14 rfl rfl)
theorem dX0_starts_37 : decode cX0_starts 37 = .ok (.istore 5, 2) := dk_54 5 (dk_at dksX0_starts_1 15 rfl rfl)
theorem dX0_starts_39 : decode cX0_starts 39 = .ok (.iconst 0, 1) := dk_3 (dk_at dksX0_starts_1 17 rfl rfl)
theorem dX0_starts_40 : decode cX0_starts 40 = .ok (.istore 6, 2) := dk_54 6 (dk_at dksX0_starts_1 18 rfl rfl)
theorem dX0_starts_42 : decode cX0_starts 42 = .ok (.iload 6, 2) := dk_21 6 (dk_at dksX0_starts_1 20 rfl rfl)
theorem dX0_starts_44 : decode cX0_starts 44 = .ok (.aload_n 0, 1) := dk_42 (dk_at dksX0_starts_1 22 rfl rfl)
theorem dX0_starts_45 : decode cX0_starts 45 = .ok (.invokevirtual 173, 3) := dk_182 0 173 (dk_at dksX0_starts_2 0 rfl rfl)
theorem dX0_starts_48 : decode cX0_starts 48 = .ok (.if_icmp .ge 17, 3) := dk_162 0 17 (dk_at dksX0_starts_2 3 rfl rfl)
theorem dX0_starts_51 : decode cX0_starts 51 = .ok (.iload 4, 2) := dk_21 4 (dk_at dksX0_starts_2 6 rfl rfl)
theorem dX0_starts_53 : decode cX0_starts 53 = .ok (.iload_n 1, 1) := dk_27 (dk_at dksX0_starts_2 8 rfl rfl)
theorem dX0_starts_54 : decode cX0_starts 54 = .ok (.iconst 1, 1) := dk_4 (dk_at dksX0_starts_2 9 rfl rfl)
theorem dX0_starts_55 : decode cX0_starts 55 = .ok (.iadd, 1) := dk_96 (dk_at dksX0_starts_2 10 rfl rfl)
theorem dX0_starts_56 : decode cX0_starts 56 = .ok (.imul, 1) := dk_104 (dk_at dksX0_starts_2 11 rfl rfl)
theorem dX0_starts_57 : decode cX0_starts 57 = .ok (.istore 4, 2) := dk_54 4 (dk_at dksX0_starts_2 12 rfl rfl)
theorem dX0_starts_59 : decode cX0_starts 59 = .ok (.iinc 6 1, 3) := dk_132 6 1 (dk_at dksX0_starts_2 14 rfl rfl)
theorem dX0_starts_62 : decode cX0_starts 62 = .ok (.goto (-20), 3) := dk_167 255 236 (dk_at dksX0_starts_2 17 rfl rfl)
theorem dX0_starts_65 : decode cX0_starts 65 = .ok (.iload 4, 2) := dk_21 4 (dk_at dksX0_starts_2 20 rfl rfl)
theorem dX0_starts_67 : decode cX0_starts 67 = .ok (.sipush 1000, 3) := dk_17 3 232 (dk_at dksX0_starts_3 0 rfl rfl)
theorem dX0_starts_70 : decode cX0_starts 70 = .ok (.if_icmp .le 6, 3) := dk_164 0 6 (dk_at dksX0_starts_3 3 rfl rfl)
theorem dX0_starts_73 : decode cX0_starts 73 = .ok (.bipush (-2), 2) := dk_16 254 (dk_at dksX0_starts_3 6 rfl rfl)
theorem dX0_starts_75 : decode cX0_starts 75 = .ok (.ireturn, 1) := dk_172 (dk_at dksX0_starts_3 8 rfl rfl)
theorem dX0_starts_76 : decode cX0_starts 76 = .ok (.iconst 0, 1) := dk_3 (dk_at dksX0_starts_3 9 rfl rfl)
theorem dX0_starts_77 : decode cX0_starts 77 = .ok (.istore 6, 2) := dk_54 6 (dk_at dksX0_starts_3 10 rfl rfl)
theorem dX0_starts_79 : decode cX0_starts 79 = .ok (.iload 6, 2) := dk_21 6 (dk_at dksX0_starts_3 12 rfl rfl)
theorem dX0_starts_81 : decode cX0_starts 81 = .ok (.iload 4, 2) := dk_21 4 (dk_at dksX0_starts_3 14 rfl rfl)
theorem dX0_starts_83 : decode cX0_starts 83 = .ok (.if_icmp .ge 71, 3) := dk_162 0 71 (dk_at dksX0_starts_3 16 rfl rfl)
theorem dX0_starts_86 : decode cX0_starts 86 = .ok (.iload 6, 2) := dk_21 6 (dk_at dksX0_starts_3 19 rfl rfl)
theorem dX0_starts_88 : decode cX0_starts 88 = .ok (.istore 7, 2) := dk_54 7 (dk_at dksX0_starts_3 21 rfl rfl)
theorem dX0_starts_90 : decode cX0_starts 90 = .ok (.iconst 0, 1) := dk_3 (dk_at dksX0_starts_3 23 rfl rfl)
theorem dX0_starts_91 : decode cX0_starts 91 = .ok (.istore 8, 2) := dk_54 8 (dk_at dksX0_starts_4 0 rfl rfl)
theorem dX0_starts_93 : decode cX0_starts 93 = .ok (.iload 8, 2) := dk_21 8 (dk_at dksX0_starts_4 2 rfl rfl)
theorem dX0_starts_95 : decode cX0_starts 95 = .ok (.aload_n 0, 1) := dk_42 (dk_at dksX0_starts_4 4 rfl rfl)
theorem dX0_starts_96 : decode cX0_starts 96 = .ok (.invokevirtual 173, 3) := dk_182 0 173 (dk_at dksX0_starts_4 5 rfl rfl)
theorem dX0_starts_99 : decode cX0_starts 99 = .ok (.if_icmp .ge 30, 3) := dk_162 0 30 (dk_at dksX0_starts_4 8 rfl rfl)
theorem dX0_starts_102 : decode cX0_starts 102 = .ok (.aload_n 0, 1) := dk_42 (dk_at dksX0_starts_4 11 rfl rfl)
theorem dX0_starts_103 : decode cX0_starts 103 = .ok (.getfield 128, 3) := dk_180 0 128 (dk_at dksX0_starts_4 12 rfl rfl)
theorem dX0_starts_106 : decode cX0_starts 106 = .ok (.iload 8, 2) := dk_21 8 (dk_at dksX0_starts_4 15 rfl rfl)
theorem dX0_starts_108 : decode cX0_starts 108 = .ok (.iload 7, 2) := dk_21 7 (dk_at dksX0_starts_4 17 rfl rfl)
theorem dX0_starts_110 : decode cX0_starts 110 = .ok (.iload_n 1, 1) := dk_27 (dk_at dksX0_starts_4 19 rfl rfl)
theorem dX0_starts_111 : decode cX0_starts 111 = .ok (.iconst 1, 1) := dk_4 (dk_at dksX0_starts_4 20 rfl rfl)
theorem dX0_starts_112 : decode cX0_starts 112 = .ok (.iadd, 1) := dk_96 (dk_at dksX0_starts_4 21 rfl rfl)
theorem dX0_starts_113 : decode cX0_starts 113 = .ok (.irem, 1) := dk_112 (dk_at dksX0_starts_4 22 rfl rfl)
theorem dX0_starts_114 : decode cX0_starts 114 = .ok (.iastore, 1) := dk_79 (dk_at dksX0_starts_4 23 rfl rfl)
theorem dX0_starts_115 : decode cX0_starts 115 = .ok (.iload 7, 2) := dk_21 7 (dk_at dksX0_starts_5 0 rfl rfl)
theorem dX0_starts_117 : decode cX0_starts 117 = .ok (.iload_n 1, 1) := dk_27 (dk_at dksX0_starts_5 2 rfl rfl)
theorem dX0_starts_118 : decode cX0_starts 118 = .ok (.iconst 1, 1) := dk_4 (dk_at dksX0_starts_5 3 rfl rfl)
theorem dX0_starts_119 : decode cX0_starts 119 = .ok (.iadd, 1) := dk_96 (dk_at dksX0_starts_5 4 rfl rfl)
theorem dX0_starts_120 : decode cX0_starts 120 = .ok (.idiv, 1) := dk_108 (dk_at dksX0_starts_5 5 rfl rfl)
theorem dX0_starts_121 : decode cX0_starts 121 = .ok (.istore 7, 2) := dk_54 7 (dk_at dksX0_starts_5 6 rfl rfl)
theorem dX0_starts_123 : decode cX0_starts 123 = .ok (.iinc 8 1, 3) := dk_132 8 1 (dk_at dksX0_starts_5 8 rfl rfl)
theorem dX0_starts_126 : decode cX0_starts 126 = .ok (.goto (-33), 3) := dk_167 255 223 (dk_at dksX0_starts_5 11 rfl rfl)
theorem dX0_starts_129 : decode cX0_starts 129 = .ok (.iload 5, 2) := dk_21 5 (dk_at dksX0_starts_5 14 rfl rfl)
theorem dX0_starts_131 : decode cX0_starts 131 = .ok (.aload_n 0, 1) := dk_42 (dk_at dksX0_starts_5 16 rfl rfl)
theorem dX0_starts_132 : decode cX0_starts 132 = .ok (.iload_n 2, 1) := dk_28 (dk_at dksX0_starts_5 17 rfl rfl)
theorem dX0_starts_133 : decode cX0_starts 133 = .ok (.iload_n 3, 1) := dk_29 (dk_at dksX0_starts_5 18 rfl rfl)
theorem dX0_starts_134 : decode cX0_starts 134 = .ok (.invokevirtual 382, 3) := dk_182 1 126 (dk_at dksX0_starts_5 19 rfl rfl)
theorem dX0_starts_137 : decode cX0_starts 137 = .ok (.ifCond .eq 7, 3) := dk_153 0 7 (dk_at dksX0_starts_6 0 rfl rfl)
theorem dX0_starts_140 : decode cX0_starts 140 = .ok (.iconst 1, 1) := dk_4 (dk_at dksX0_starts_6 3 rfl rfl)
theorem dX0_starts_141 : decode cX0_starts 141 = .ok (.goto 4, 3) := dk_167 0 4 (dk_at dksX0_starts_6 4 rfl rfl)
theorem dX0_starts_144 : decode cX0_starts 144 = .ok (.iconst 0, 1) := dk_3 (dk_at dksX0_starts_6 7 rfl rfl)
theorem dX0_starts_145 : decode cX0_starts 145 = .ok (.iadd, 1) := dk_96 (dk_at dksX0_starts_6 8 rfl rfl)
theorem dX0_starts_146 : decode cX0_starts 146 = .ok (.istore 5, 2) := dk_54 5 (dk_at dksX0_starts_6 9 rfl rfl)
theorem dX0_starts_148 : decode cX0_starts 148 = .ok (.iinc 6 1, 3) := dk_132 6 1 (dk_at dksX0_starts_6 11 rfl rfl)
theorem dX0_starts_151 : decode cX0_starts 151 = .ok (.goto (-72), 3) := dk_167 255 184 (dk_at dksX0_starts_6 14 rfl rfl)
theorem dX0_starts_154 : decode cX0_starts 154 = .ok (.iload 5, 2) := dk_21 5 (dk_at dksX0_starts_6 17 rfl rfl)
theorem dX0_starts_156 : decode cX0_starts 156 = .ok (.ireturn, 1) := dk_172 (dk_at dksX0_starts_6 19 rfl rfl)
abbrev cX0_isSo : ByteArray := prog_1_method_68_code
def yX0_isSo : MethodName := ⟨RX0, "isSo", "(II)Z"⟩
def dkwX0_isSo_6 : List UInt8 := [167, 255, 210, 4, 172]
abbrev dktX0_isSo_6 : List UInt8 := dkwX0_isSo_6 ++ []
def dkwX0_isSo_5 : List UInt8 := [158, 0, 7, 4, 167, 0, 4, 3, 42, 180, 0, 131, 29, 51, 159, 0, 5, 3, 172, 132, 3, 1]
abbrev dktX0_isSo_5 : List UInt8 := dkwX0_isSo_5 ++ dktX0_isSo_6
def dkwX0_isSo_4 : List UInt8 := [162, 0, 47, 42, 180, 0, 67, 42, 180, 0, 122, 29, 46, 42, 180, 0, 125, 29, 46, 182, 0, 254]
abbrev dktX0_isSo_4 : List UInt8 := dkwX0_isSo_4 ++ dktX0_isSo_5
def dkwX0_isSo_3 : List UInt8 := [180, 0, 67, 89, 180, 0, 248, 4, 96, 181, 0, 248, 132, 3, 1, 167, 255, 186, 3, 62, 29, 28]
abbrev dktX0_isSo_3 : List UInt8 := dkwX0_isSo_3 ++ dktX0_isSo_4
def dkwX0_isSo_2 : List UInt8 := [180, 0, 52, 21, 4, 42, 180, 0, 128, 21, 4, 46, 182, 1, 122, 132, 4, 1, 167, 255, 213, 42]
abbrev dktX0_isSo_2 : List UInt8 := dkwX0_isSo_2 ++ dktX0_isSo_3
def dkwX0_isSo_1 : List UInt8 := [182, 0, 173, 162, 0, 40, 29, 42, 180, 0, 128, 21, 4, 46, 161, 0, 23, 42, 180, 0, 67, 42]
abbrev dktX0_isSo_1 : List UInt8 := dkwX0_isSo_1 ++ dktX0_isSo_2
def dkwX0_isSo_0 : List UInt8 := [42, 180, 0, 67, 42, 180, 0, 52, 182, 0, 134, 3, 62, 29, 27, 162, 0, 71, 3, 54, 4, 21, 4, 42]
abbrev dktX0_isSo_0 : List UInt8 := dkwX0_isSo_0 ++ dktX0_isSo_1
theorem dksX0_isSo_0 : cX0_isSo.data.toList.drop 0 = dktX0_isSo_0 := by decide +kernel
theorem dksX0_isSo_1 : cX0_isSo.data.toList.drop 24 = dktX0_isSo_1 := dk_seg dksX0_isSo_0 24 rfl rfl
theorem dksX0_isSo_2 : cX0_isSo.data.toList.drop 46 = dktX0_isSo_2 := dk_seg dksX0_isSo_1 22 rfl rfl
theorem dksX0_isSo_3 : cX0_isSo.data.toList.drop 68 = dktX0_isSo_3 := dk_seg dksX0_isSo_2 22 rfl rfl
theorem dksX0_isSo_4 : cX0_isSo.data.toList.drop 90 = dktX0_isSo_4 := dk_seg dksX0_isSo_3 22 rfl rfl
theorem dksX0_isSo_5 : cX0_isSo.data.toList.drop 112 = dktX0_isSo_5 := dk_seg dksX0_isSo_4 22 rfl rfl
theorem dksX0_isSo_6 : cX0_isSo.data.toList.drop 134 = dktX0_isSo_6 := dk_seg dksX0_isSo_5 22 rfl rfl
theorem dX0_isSo_0 : decode cX0_isSo 0 = .ok (.aload_n 0, 1) := dk_42 (dk_at dksX0_isSo_0 0 rfl rfl)
theorem dX0_isSo_1 : decode cX0_isSo 1 = .ok (.getfield 67, 3) := dk_180 0 67 (dk_at dksX0_isSo_0 1 rfl rfl)
theorem dX0_isSo_4 : decode cX0_isSo 4 = .ok (.aload_n 0, 1) := dk_42 (dk_at dksX0_isSo_0 4 rfl rfl)
theorem dX0_isSo_5 : decode cX0_isSo 5 = .ok (.getfield 52, 3) := dk_180 0 52 (dk_at dksX0_isSo_0 5 rfl rfl)
theorem dX0_isSo_8 : decode cX0_isSo 8 = .ok (.invokevirtual 134, 3) := dk_182 0 134 (dk_at dksX0_isSo_0 8 rfl rfl)
theorem dX0_isSo_11 : decode cX0_isSo 11 = .ok (.iconst 0, 1) := dk_3 (dk_at dksX0_isSo_0 11 rfl rfl)
theorem dX0_isSo_12 : decode cX0_isSo 12 = .ok (.istore_n 3, 1) := dk_62 (dk_at dksX0_isSo_0 12 rfl rfl)
theorem dX0_isSo_13 : decode cX0_isSo 13 = .ok (.iload_n 3, 1) := dk_29 (dk_at dksX0_isSo_0 13 rfl rfl)
theorem dX0_isSo_14 : decode cX0_isSo 14 = .ok (.iload_n 1, 1) := dk_27 (dk_at dksX0_isSo_0 14 rfl rfl)
theorem dX0_isSo_15 : decode cX0_isSo 15 = .ok (.if_icmp .ge 71, 3) := dk_162 0 71 (dk_at dksX0_isSo_0 15 rfl rfl)
theorem dX0_isSo_18 : decode cX0_isSo 18 = .ok (.iconst 0, 1) := dk_3 (dk_at dksX0_isSo_0 18 rfl rfl)
theorem dX0_isSo_19 : decode cX0_isSo 19 = .ok (.istore 4, 2) := dk_54 4 (dk_at dksX0_isSo_0 19 rfl rfl)
theorem dX0_isSo_21 : decode cX0_isSo 21 = .ok (.iload 4, 2) := dk_21 4 (dk_at dksX0_isSo_0 21 rfl rfl)
theorem dX0_isSo_23 : decode cX0_isSo 23 = .ok (.aload_n 0, 1) := dk_42 (dk_at dksX0_isSo_0 23 rfl rfl)
theorem dX0_isSo_24 : decode cX0_isSo 24 = .ok (.invokevirtual 173, 3) := dk_182 0 173 (dk_at dksX0_isSo_1 0 rfl rfl)
theorem dX0_isSo_27 : decode cX0_isSo 27 = .ok (.if_icmp .ge 40, 3) := dk_162 0 40 (dk_at dksX0_isSo_1 3 rfl rfl)
theorem dX0_isSo_30 : decode cX0_isSo 30 = .ok (.iload_n 3, 1) := dk_29 (dk_at dksX0_isSo_1 6 rfl rfl)
theorem dX0_isSo_31 : decode cX0_isSo 31 = .ok (.aload_n 0, 1) := dk_42 (dk_at dksX0_isSo_1 7 rfl rfl)
theorem dX0_isSo_32 : decode cX0_isSo 32 = .ok (.getfield 128, 3) := dk_180 0 128 (dk_at dksX0_isSo_1 8 rfl rfl)
theorem dX0_isSo_35 : decode cX0_isSo 35 = .ok (.iload 4, 2) := dk_21 4 (dk_at dksX0_isSo_1 11 rfl rfl)
theorem dX0_isSo_37 : decode cX0_isSo 37 = .ok (.iaload, 1) := dk_46 (dk_at dksX0_isSo_1 13 rfl rfl)
theorem dX0_isSo_38 : decode cX0_isSo 38 = .ok (.if_icmp .lt 23, 3) := dk_161 0 23 (dk_at dksX0_isSo_1 14 rfl rfl)
theorem dX0_isSo_41 : decode cX0_isSo 41 = .ok (.aload_n 0, 1) := dk_42 (dk_at dksX0_isSo_1 17 rfl rfl)
theorem dX0_isSo_42 : decode cX0_isSo 42 = .ok (.getfield 67, 3) := dk_180 0 67 (dk_at dksX0_isSo_1 18 rfl rfl)
theorem dX0_isSo_45 : decode cX0_isSo 45 = .ok (.aload_n 0, 1) := dk_42 (dk_at dksX0_isSo_1 21 rfl rfl)
theorem dX0_isSo_46 : decode cX0_isSo 46 = .ok (.getfield 52, 3) := dk_180 0 52 (dk_at dksX0_isSo_2 0 rfl rfl)
theorem dX0_isSo_49 : decode cX0_isSo 49 = .ok (.iload 4, 2) := dk_21 4 (dk_at dksX0_isSo_2 3 rfl rfl)
theorem dX0_isSo_51 : decode cX0_isSo 51 = .ok (.aload_n 0, 1) := dk_42 (dk_at dksX0_isSo_2 5 rfl rfl)
theorem dX0_isSo_52 : decode cX0_isSo 52 = .ok (.getfield 128, 3) := dk_180 0 128 (dk_at dksX0_isSo_2 6 rfl rfl)
theorem dX0_isSo_55 : decode cX0_isSo 55 = .ok (.iload 4, 2) := dk_21 4 (dk_at dksX0_isSo_2 9 rfl rfl)
theorem dX0_isSo_57 : decode cX0_isSo 57 = .ok (.iaload, 1) := dk_46 (dk_at dksX0_isSo_2 11 rfl rfl)
theorem dX0_isSo_58 : decode cX0_isSo 58 = .ok (.invokevirtual 378, 3) := dk_182 1 122 (dk_at dksX0_isSo_2 12 rfl rfl)
theorem dX0_isSo_61 : decode cX0_isSo 61 = .ok (.iinc 4 1, 3) := dk_132 4 1 (dk_at dksX0_isSo_2 15 rfl rfl)
theorem dX0_isSo_64 : decode cX0_isSo 64 = .ok (.goto (-43), 3) := dk_167 255 213 (dk_at dksX0_isSo_2 18 rfl rfl)
theorem dX0_isSo_67 : decode cX0_isSo 67 = .ok (.aload_n 0, 1) := dk_42 (dk_at dksX0_isSo_2 21 rfl rfl)
theorem dX0_isSo_68 : decode cX0_isSo 68 = .ok (.getfield 67, 3) := dk_180 0 67 (dk_at dksX0_isSo_3 0 rfl rfl)
theorem dX0_isSo_71 : decode cX0_isSo 71 = .ok (.dup, 1) := dk_89 (dk_at dksX0_isSo_3 3 rfl rfl)
theorem dX0_isSo_72 : decode cX0_isSo 72 = .ok (.getfield 248, 3) := dk_180 0 248 (dk_at dksX0_isSo_3 4 rfl rfl)
theorem dX0_isSo_75 : decode cX0_isSo 75 = .ok (.iconst 1, 1) := dk_4 (dk_at dksX0_isSo_3 7 rfl rfl)
theorem dX0_isSo_76 : decode cX0_isSo 76 = .ok (.iadd, 1) := dk_96 (dk_at dksX0_isSo_3 8 rfl rfl)
theorem dX0_isSo_77 : decode cX0_isSo 77 = .ok (.putfield 248, 3) := dk_181 0 248 (dk_at dksX0_isSo_3 9 rfl rfl)
theorem dX0_isSo_80 : decode cX0_isSo 80 = .ok (.iinc 3 1, 3) := dk_132 3 1 (dk_at dksX0_isSo_3 12 rfl rfl)
theorem dX0_isSo_83 : decode cX0_isSo 83 = .ok (.goto (-70), 3) := dk_167 255 186 (dk_at dksX0_isSo_3 15 rfl rfl)
theorem dX0_isSo_86 : decode cX0_isSo 86 = .ok (.iconst 0, 1) := dk_3 (dk_at dksX0_isSo_3 18 rfl rfl)
theorem dX0_isSo_87 : decode cX0_isSo 87 = .ok (.istore_n 3, 1) := dk_62 (dk_at dksX0_isSo_3 19 rfl rfl)
theorem dX0_isSo_88 : decode cX0_isSo 88 = .ok (.iload_n 3, 1) := dk_29 (dk_at dksX0_isSo_3 20 rfl rfl)
theorem dX0_isSo_89 : decode cX0_isSo 89 = .ok (.iload_n 2, 1) := dk_28 (dk_at dksX0_isSo_3 21 rfl rfl)
theorem dX0_isSo_90 : decode cX0_isSo 90 = .ok (.if_icmp .ge 47, 3) := dk_162 0 47 (dk_at dksX0_isSo_4 0 rfl rfl)
theorem dX0_isSo_93 : decode cX0_isSo 93 = .ok (.aload_n 0, 1) := dk_42 (dk_at dksX0_isSo_4 3 rfl rfl)
theorem dX0_isSo_94 : decode cX0_isSo 94 = .ok (.getfield 67, 3) := dk_180 0 67 (dk_at dksX0_isSo_4 4 rfl rfl)
theorem dX0_isSo_97 : decode cX0_isSo 97 = .ok (.aload_n 0, 1) := dk_42 (dk_at dksX0_isSo_4 7 rfl rfl)
theorem dX0_isSo_98 : decode cX0_isSo 98 = .ok (.getfield 122, 3) := dk_180 0 122 (dk_at dksX0_isSo_4 8 rfl rfl)
theorem dX0_isSo_101 : decode cX0_isSo 101 = .ok (.iload_n 3, 1) := dk_29 (dk_at dksX0_isSo_4 11 rfl rfl)
theorem dX0_isSo_102 : decode cX0_isSo 102 = .ok (.iaload, 1) := dk_46 (dk_at dksX0_isSo_4 12 rfl rfl)
theorem dX0_isSo_103 : decode cX0_isSo 103 = .ok (.aload_n 0, 1) := dk_42 (dk_at dksX0_isSo_4 13 rfl rfl)
theorem dX0_isSo_104 : decode cX0_isSo 104 = .ok (.getfield 125, 3) := dk_180 0 125 (dk_at dksX0_isSo_4 14 rfl rfl)
theorem dX0_isSo_107 : decode cX0_isSo 107 = .ok (.iload_n 3, 1) := dk_29 (dk_at dksX0_isSo_4 17 rfl rfl)
theorem dX0_isSo_108 : decode cX0_isSo 108 = .ok (.iaload, 1) := dk_46 (dk_at dksX0_isSo_4 18 rfl rfl)
theorem dX0_isSo_109 : decode cX0_isSo 109 = .ok (.invokevirtual 254, 3) := dk_182 0 254 (dk_at dksX0_isSo_4 19 rfl rfl)
theorem dX0_isSo_112 : decode cX0_isSo 112 = .ok (.ifCond .le 7, 3) := dk_158 0 7 (dk_at dksX0_isSo_5 0 rfl rfl)
theorem dX0_isSo_115 : decode cX0_isSo 115 = .ok (.iconst 1, 1) := dk_4 (dk_at dksX0_isSo_5 3 rfl rfl)
theorem dX0_isSo_116 : decode cX0_isSo 116 = .ok (.goto 4, 3) := dk_167 0 4 (dk_at dksX0_isSo_5 4 rfl rfl)
theorem dX0_isSo_119 : decode cX0_isSo 119 = .ok (.iconst 0, 1) := dk_3 (dk_at dksX0_isSo_5 7 rfl rfl)
theorem dX0_isSo_120 : decode cX0_isSo 120 = .ok (.aload_n 0, 1) := dk_42 (dk_at dksX0_isSo_5 8 rfl rfl)
theorem dX0_isSo_121 : decode cX0_isSo 121 = .ok (.getfield 131, 3) := dk_180 0 131 (dk_at dksX0_isSo_5 9 rfl rfl)
theorem dX0_isSo_124 : decode cX0_isSo 124 = .ok (.iload_n 3, 1) := dk_29 (dk_at dksX0_isSo_5 12 rfl rfl)
theorem dX0_isSo_125 : decode cX0_isSo 125 = .ok (.baload, 1) := dk_51 (dk_at dksX0_isSo_5 13 rfl rfl)
theorem dX0_isSo_126 : decode cX0_isSo 126 = .ok (.if_icmp .eq 5, 3) := dk_159 0 5 (dk_at dksX0_isSo_5 14 rfl rfl)
theorem dX0_isSo_129 : decode cX0_isSo 129 = .ok (.iconst 0, 1) := dk_3 (dk_at dksX0_isSo_5 17 rfl rfl)
theorem dX0_isSo_130 : decode cX0_isSo 130 = .ok (.ireturn, 1) := dk_172 (dk_at dksX0_isSo_5 18 rfl rfl)
theorem dX0_isSo_131 : decode cX0_isSo 131 = .ok (.iinc 3 1, 3) := dk_132 3 1 (dk_at dksX0_isSo_5 19 rfl rfl)
theorem dX0_isSo_134 : decode cX0_isSo 134 = .ok (.goto (-46), 3) := dk_167 255 210 (dk_at dksX0_isSo_6 0 rfl rfl)
theorem dX0_isSo_137 : decode cX0_isSo 137 = .ok (.iconst 1, 1) := dk_4 (dk_at dksX0_isSo_6 3 rfl rfl)
theorem dX0_isSo_138 : decode cX0_isSo 138 = .ok (.ireturn, 1) := dk_172 (dk_at dksX0_isSo_6 4 rfl rfl)
abbrev cX0_hold : ByteArray := prog_1_method_70_code
def yX0_hold : MethodName := ⟨RX0, "hold", "(I)Z"⟩
def dkwX0_hold_1 : List UInt8 := [42, 180, 0, 98, 27, 4, 84, 4, 172]
abbrev dktX0_hold_1 : List UInt8 := dkwX0_hold_1 ++ []
def dkwX0_hold_0 : List UInt8 := [27, 3, 5, 184, 0, 175, 154, 0, 5, 3, 172, 42, 180, 0, 74, 27, 50, 42, 180, 0, 63, 182, 0, 228]
abbrev dktX0_hold_0 : List UInt8 := dkwX0_hold_0 ++ dktX0_hold_1
theorem dksX0_hold_0 : cX0_hold.data.toList.drop 0 = dktX0_hold_0 := by decide +kernel
theorem dksX0_hold_1 : cX0_hold.data.toList.drop 24 = dktX0_hold_1 := dk_seg dksX0_hold_0 24 rfl rfl
theorem dX0_hold_0 : decode cX0_hold 0 = .ok (.iload_n 1, 1) := dk_27 (dk_at dksX0_hold_0 0 rfl rfl)
theorem dX0_hold_1 : decode cX0_hold 1 = .ok (.iconst 0, 1) := dk_3 (dk_at dksX0_hold_0 1 rfl rfl)
theorem dX0_hold_2 : decode cX0_hold 2 = .ok (.iconst 2, 1) := dk_5 (dk_at dksX0_hold_0 2 rfl rfl)
theorem dX0_hold_3 : decode cX0_hold 3 = .ok (.invokestatic 175, 3) := dk_184 0 175 (dk_at dksX0_hold_0 3 rfl rfl)
theorem dX0_hold_6 : decode cX0_hold 6 = .ok (.ifCond .ne 5, 3) := dk_154 0 5 (dk_at dksX0_hold_0 6 rfl rfl)
theorem dX0_hold_9 : decode cX0_hold 9 = .ok (.iconst 0, 1) := dk_3 (dk_at dksX0_hold_0 9 rfl rfl)
theorem dX0_hold_10 : decode cX0_hold 10 = .ok (.ireturn, 1) := dk_172 (dk_at dksX0_hold_0 10 rfl rfl)
theorem dX0_hold_11 : decode cX0_hold 11 = .ok (.aload_n 0, 1) := dk_42 (dk_at dksX0_hold_0 11 rfl rfl)
theorem dX0_hold_12 : decode cX0_hold 12 = .ok (.getfield 74, 3) := dk_180 0 74 (dk_at dksX0_hold_0 12 rfl rfl)
theorem dX0_hold_15 : decode cX0_hold 15 = .ok (.iload_n 1, 1) := dk_27 (dk_at dksX0_hold_0 15 rfl rfl)
theorem dX0_hold_16 : decode cX0_hold 16 = .ok (.aaload, 1) := dk_50 (dk_at dksX0_hold_0 16 rfl rfl)
theorem dX0_hold_17 : decode cX0_hold 17 = .ok (.aload_n 0, 1) := dk_42 (dk_at dksX0_hold_0 17 rfl rfl)
theorem dX0_hold_18 : decode cX0_hold 18 = .ok (.getfield 63, 3) := dk_180 0 63 (dk_at dksX0_hold_0 18 rfl rfl)
theorem dX0_hold_21 : decode cX0_hold 21 = .ok (.invokevirtual 228, 3) := dk_182 0 228 (dk_at dksX0_hold_0 21 rfl rfl)
theorem dX0_hold_24 : decode cX0_hold 24 = .ok (.aload_n 0, 1) := dk_42 (dk_at dksX0_hold_1 0 rfl rfl)
theorem dX0_hold_25 : decode cX0_hold 25 = .ok (.getfield 98, 3) := dk_180 0 98 (dk_at dksX0_hold_1 1 rfl rfl)
theorem dX0_hold_28 : decode cX0_hold 28 = .ok (.iload_n 1, 1) := dk_27 (dk_at dksX0_hold_1 4 rfl rfl)
theorem dX0_hold_29 : decode cX0_hold 29 = .ok (.iconst 1, 1) := dk_4 (dk_at dksX0_hold_1 5 rfl rfl)
theorem dX0_hold_30 : decode cX0_hold 30 = .ok (.bastore, 1) := dk_84 (dk_at dksX0_hold_1 6 rfl rfl)
theorem dX0_hold_31 : decode cX0_hold 31 = .ok (.iconst 1, 1) := dk_4 (dk_at dksX0_hold_1 7 rfl rfl)
theorem dX0_hold_32 : decode cX0_hold 32 = .ok (.ireturn, 1) := dk_172 (dk_at dksX0_hold_1 8 rfl rfl)
abbrev cX0_restore : ByteArray := prog_1_method_71_code
def yX0_restore : MethodName := ⟨RX0, "restore", "(I)Z"⟩
def dkwX0_restore_1 : List UInt8 := [42, 180, 0, 74, 27, 50, 182, 0, 228, 42, 3, 181, 0, 153, 4, 172]
abbrev dktX0_restore_1 : List UInt8 := dkwX0_restore_1 ++ []
def dkwX0_restore_0 : List UInt8 := [27, 3, 5, 184, 0, 175, 153, 0, 12, 42, 180, 0, 98, 27, 51, 154, 0, 5, 3, 172, 42, 180, 0, 63]
abbrev dktX0_restore_0 : List UInt8 := dkwX0_restore_0 ++ dktX0_restore_1
theorem dksX0_restore_0 : cX0_restore.data.toList.drop 0 = dktX0_restore_0 := by decide +kernel
theorem dksX0_restore_1 : cX0_restore.data.toList.drop 24 = dktX0_restore_1 := dk_seg dksX0_restore_0 24 rfl rfl
theorem dX0_restore_0 : decode cX0_restore 0 = .ok (.iload_n 1, 1) := dk_27 (dk_at dksX0_restore_0 0 rfl rfl)
theorem dX0_restore_1 : decode cX0_restore 1 = .ok (.iconst 0, 1) := dk_3 (dk_at dksX0_restore_0 1 rfl rfl)
theorem dX0_restore_2 : decode cX0_restore 2 = .ok (.iconst 2, 1) := dk_5 (dk_at dksX0_restore_0 2 rfl rfl)
theorem dX0_restore_3 : decode cX0_restore 3 = .ok (.invokestatic 175, 3) := dk_184 0 175 (dk_at dksX0_restore_0 3 rfl rfl)
theorem dX0_restore_6 : decode cX0_restore 6 = .ok (.ifCond .eq 12, 3) := dk_153 0 12 (dk_at dksX0_restore_0 6 rfl rfl)
theorem dX0_restore_9 : decode cX0_restore 9 = .ok (.aload_n 0, 1) := dk_42 (dk_at dksX0_restore_0 9 rfl rfl)
theorem dX0_restore_10 : decode cX0_restore 10 = .ok (.getfield 98, 3) := dk_180 0 98 (dk_at dksX0_restore_0 10 rfl rfl)
theorem dX0_restore_13 : decode cX0_restore 13 = .ok (.iload_n 1, 1) := dk_27 (dk_at dksX0_restore_0 13 rfl rfl)
theorem dX0_restore_14 : decode cX0_restore 14 = .ok (.baload, 1) := dk_51 (dk_at dksX0_restore_0 14 rfl rfl)
theorem dX0_restore_15 : decode cX0_restore 15 = .ok (.ifCond .ne 5, 3) := dk_154 0 5 (dk_at dksX0_restore_0 15 rfl rfl)
theorem dX0_restore_18 : decode cX0_restore 18 = .ok (.iconst 0, 1) := dk_3 (dk_at dksX0_restore_0 18 rfl rfl)
theorem dX0_restore_19 : decode cX0_restore 19 = .ok (.ireturn, 1) := dk_172 (dk_at dksX0_restore_0 19 rfl rfl)
theorem dX0_restore_20 : decode cX0_restore 20 = .ok (.aload_n 0, 1) := dk_42 (dk_at dksX0_restore_0 20 rfl rfl)
theorem dX0_restore_21 : decode cX0_restore 21 = .ok (.getfield 63, 3) := dk_180 0 63 (dk_at dksX0_restore_0 21 rfl rfl)
theorem dX0_restore_24 : decode cX0_restore 24 = .ok (.aload_n 0, 1) := dk_42 (dk_at dksX0_restore_1 0 rfl rfl)
theorem dX0_restore_25 : decode cX0_restore 25 = .ok (.getfield 74, 3) := dk_180 0 74 (dk_at dksX0_restore_1 1 rfl rfl)
theorem dX0_restore_28 : decode cX0_restore 28 = .ok (.iload_n 1, 1) := dk_27 (dk_at dksX0_restore_1 4 rfl rfl)
theorem dX0_restore_29 : decode cX0_restore 29 = .ok (.aaload, 1) := dk_50 (dk_at dksX0_restore_1 5 rfl rfl)
theorem dX0_restore_30 : decode cX0_restore 30 = .ok (.invokevirtual 228, 3) := dk_182 0 228 (dk_at dksX0_restore_1 6 rfl rfl)
theorem dX0_restore_33 : decode cX0_restore 33 = .ok (.aload_n 0, 1) := dk_42 (dk_at dksX0_restore_1 9 rfl rfl)
theorem dX0_restore_34 : decode cX0_restore 34 = .ok (.iconst 0, 1) := dk_3 (dk_at dksX0_restore_1 10 rfl rfl)
theorem dX0_restore_35 : decode cX0_restore 35 = .ok (.putfield 153, 3) := dk_181 0 153 (dk_at dksX0_restore_1 11 rfl rfl)
theorem dX0_restore_38 : decode cX0_restore 38 = .ok (.iconst 1, 1) := dk_4 (dk_at dksX0_restore_1 14 rfl rfl)
theorem dX0_restore_39 : decode cX0_restore 39 = .ok (.ireturn, 1) := dk_172 (dk_at dksX0_restore_1 15 rfl rfl)
abbrev cX0_count : ByteArray := prog_1_method_72_code
def yX0_count : MethodName := ⟨RX0, "count", "(I)I"⟩
def dkwX0_count_8 : List UInt8 := [96, 42, 180, 0, 98, 5, 51, 153, 0, 7, 4, 167, 0, 4, 3, 96, 172, 2, 172]
abbrev dktX0_count_8 : List UInt8 := dkwX0_count_8 ++ []
def dkwX0_count_7 : List UInt8 := [3, 51, 153, 0, 7, 4, 167, 0, 4, 3, 42, 180, 0, 98, 4, 51, 153, 0, 7, 4, 167, 0, 4, 3]
abbrev dktX0_count_7 : List UInt8 := dkwX0_count_7 ++ dktX0_count_8
def dkwX0_count_6 : List UInt8 := [28, 172, 42, 180, 0, 36, 180, 0, 138, 172, 42, 180, 0, 153, 172, 42, 180, 0, 156, 172, 42, 180, 0, 98]
abbrev dktX0_count_6 : List UInt8 := dkwX0_count_6 ++ dktX0_count_7
def dkwX0_count_5 : List UInt8 := [180, 0, 52, 180, 0, 163, 29, 182, 0, 183, 192, 0, 187, 180, 1, 18, 96, 61, 132, 3, 1, 167, 255, 225]
abbrev dktX0_count_5 : List UInt8 := dkwX0_count_5 ++ dktX0_count_6
def dkwX0_count_4 : List UInt8 := [184, 1, 7, 172, 42, 180, 0, 52, 180, 1, 48, 172, 3, 62, 29, 42, 182, 0, 173, 162, 0, 29, 28, 42]
abbrev dktX0_count_4 : List UInt8 := dkwX0_count_4 ++ dktX0_count_5
def dkwX0_count_3 : List UInt8 := [180, 0, 63, 180, 0, 248, 172, 42, 180, 0, 63, 182, 1, 129, 172, 42, 180, 0, 63, 180, 1, 132]
abbrev dktX0_count_3 : List UInt8 := dkwX0_count_3 ++ dktX0_count_4
def dkwX0_count_2 : List UInt8 := [42, 182, 0, 173, 172, 42, 180, 0, 52, 180, 1, 45, 172, 42, 180, 0, 52, 180, 1, 42, 172, 42]
abbrev dktX0_count_2 : List UInt8 := dkwX0_count_2 ++ dktX0_count_3
def dkwX0_count_1 : List UInt8 := [170, 0, 0, 0, 218, 0, 0, 0, 0, 0, 0, 0, 11, 0, 0, 0, 61, 0, 0, 0, 66, 0, 0, 0, 74, 0, 0, 0, 82, 0, 0, 0, 90, 0, 0, 0, 98, 0, 0, 0, 109, 0, 0, 0, 117, 0, 0, 0, 155, 0, 0, 0, 163, 0, 0, 0, 168, 0, 0, 0, 173]
abbrev dktX0_count_1 : List UInt8 := dkwX0_count_1 ++ dktX0_count_2
def dkwX0_count_0 : List UInt8 := [3, 61, 27]
abbrev dktX0_count_0 : List UInt8 := dkwX0_count_0 ++ dktX0_count_1
theorem dksX0_count_0 : cX0_count.data.toList.drop 0 = dktX0_count_0 := by decide +kernel
theorem dksX0_count_1 : cX0_count.data.toList.drop 3 = dktX0_count_1 := dk_seg dksX0_count_0 3 rfl rfl
theorem dksX0_count_2 : cX0_count.data.toList.drop 64 = dktX0_count_2 := dk_seg dksX0_count_1 61 rfl rfl
theorem dksX0_count_3 : cX0_count.data.toList.drop 86 = dktX0_count_3 := dk_seg dksX0_count_2 22 rfl rfl
theorem dksX0_count_4 : cX0_count.data.toList.drop 108 = dktX0_count_4 := dk_seg dksX0_count_3 22 rfl rfl
theorem dksX0_count_5 : cX0_count.data.toList.drop 132 = dktX0_count_5 := dk_seg dksX0_count_4 24 rfl rfl
theorem dksX0_count_6 : cX0_count.data.toList.drop 156 = dktX0_count_6 := dk_seg dksX0_count_5 24 rfl rfl
theorem dksX0_count_7 : cX0_count.data.toList.drop 180 = dktX0_count_7 := dk_seg dksX0_count_6 24 rfl rfl
theorem dksX0_count_8 : cX0_count.data.toList.drop 204 = dktX0_count_8 := dk_seg dksX0_count_7 24 rfl rfl
theorem dX0_count_0 : decode cX0_count 0 = .ok (.iconst 0, 1) := dk_3 (dk_at dksX0_count_0 0 rfl rfl)
theorem dX0_count_1 : decode cX0_count 1 = .ok (.istore_n 2, 1) := dk_61 (dk_at dksX0_count_0 1 rfl rfl)
theorem dX0_count_2 : decode cX0_count 2 = .ok (.iload_n 1, 1) := dk_27 (dk_at dksX0_count_0 2 rfl rfl)
theorem dX0_count_3 : decode cX0_count 3 = .ok (.tableswitch 218 0 11 #[61, 66, 74, 82, 90, 98, 109, 117, 155, 163, 168, 173], 61) := by decide +kernel
theorem dX0_count_64 : decode cX0_count 64 = .ok (.aload_n 0, 1) := dk_42 (dk_at dksX0_count_2 0 rfl rfl)
theorem dX0_count_65 : decode cX0_count 65 = .ok (.invokevirtual 173, 3) := dk_182 0 173 (dk_at dksX0_count_2 1 rfl rfl)
theorem dX0_count_68 : decode cX0_count 68 = .ok (.ireturn, 1) := dk_172 (dk_at dksX0_count_2 4 rfl rfl)
theorem dX0_count_69 : decode cX0_count 69 = .ok (.aload_n 0, 1) := dk_42 (dk_at dksX0_count_2 5 rfl rfl)
theorem dX0_count_70 : decode cX0_count 70 = .ok (.getfield 52, 3) := dk_180 0 52 (dk_at dksX0_count_2 6 rfl rfl)
theorem dX0_count_73 : decode cX0_count 73 = .ok (.getfield 301, 3) := dk_180 1 45 (dk_at dksX0_count_2 9 rfl rfl)
theorem dX0_count_76 : decode cX0_count 76 = .ok (.ireturn, 1) := dk_172 (dk_at dksX0_count_2 12 rfl rfl)
theorem dX0_count_77 : decode cX0_count 77 = .ok (.aload_n 0, 1) := dk_42 (dk_at dksX0_count_2 13 rfl rfl)
theorem dX0_count_78 : decode cX0_count 78 = .ok (.getfield 52, 3) := dk_180 0 52 (dk_at dksX0_count_2 14 rfl rfl)
theorem dX0_count_81 : decode cX0_count 81 = .ok (.getfield 298, 3) := dk_180 1 42 (dk_at dksX0_count_2 17 rfl rfl)
theorem dX0_count_84 : decode cX0_count 84 = .ok (.ireturn, 1) := dk_172 (dk_at dksX0_count_2 20 rfl rfl)
theorem dX0_count_85 : decode cX0_count 85 = .ok (.aload_n 0, 1) := dk_42 (dk_at dksX0_count_2 21 rfl rfl)
theorem dX0_count_86 : decode cX0_count 86 = .ok (.getfield 63, 3) := dk_180 0 63 (dk_at dksX0_count_3 0 rfl rfl)
theorem dX0_count_89 : decode cX0_count 89 = .ok (.getfield 248, 3) := dk_180 0 248 (dk_at dksX0_count_3 3 rfl rfl)
theorem dX0_count_92 : decode cX0_count 92 = .ok (.ireturn, 1) := dk_172 (dk_at dksX0_count_3 6 rfl rfl)
theorem dX0_count_93 : decode cX0_count 93 = .ok (.aload_n 0, 1) := dk_42 (dk_at dksX0_count_3 7 rfl rfl)
theorem dX0_count_94 : decode cX0_count 94 = .ok (.getfield 63, 3) := dk_180 0 63 (dk_at dksX0_count_3 8 rfl rfl)
theorem dX0_count_97 : decode cX0_count 97 = .ok (.invokevirtual 385, 3) := dk_182 1 129 (dk_at dksX0_count_3 11 rfl rfl)
theorem dX0_count_100 : decode cX0_count 100 = .ok (.ireturn, 1) := dk_172 (dk_at dksX0_count_3 14 rfl rfl)
theorem dX0_count_101 : decode cX0_count 101 = .ok (.aload_n 0, 1) := dk_42 (dk_at dksX0_count_3 15 rfl rfl)
theorem dX0_count_102 : decode cX0_count 102 = .ok (.getfield 63, 3) := dk_180 0 63 (dk_at dksX0_count_3 16 rfl rfl)
theorem dX0_count_105 : decode cX0_count 105 = .ok (.getfield 388, 3) := dk_180 1 132 (dk_at dksX0_count_3 19 rfl rfl)
theorem dX0_count_108 : decode cX0_count 108 = .ok (.invokestatic 263, 3) := dk_184 1 7 (dk_at dksX0_count_4 0 rfl rfl)
theorem dX0_count_111 : decode cX0_count 111 = .ok (.ireturn, 1) := dk_172 (dk_at dksX0_count_4 3 rfl rfl)
theorem dX0_count_112 : decode cX0_count 112 = .ok (.aload_n 0, 1) := dk_42 (dk_at dksX0_count_4 4 rfl rfl)
theorem dX0_count_113 : decode cX0_count 113 = .ok (.getfield 52, 3) := dk_180 0 52 (dk_at dksX0_count_4 5 rfl rfl)
theorem dX0_count_116 : decode cX0_count 116 = .ok (.getfield 304, 3) := dk_180 1 48 (dk_at dksX0_count_4 8 rfl rfl)
theorem dX0_count_119 : decode cX0_count 119 = .ok (.ireturn, 1) := dk_172 (dk_at dksX0_count_4 11 rfl rfl)
theorem dX0_count_120 : decode cX0_count 120 = .ok (.iconst 0, 1) := dk_3 (dk_at dksX0_count_4 12 rfl rfl)
theorem dX0_count_121 : decode cX0_count 121 = .ok (.istore_n 3, 1) := dk_62 (dk_at dksX0_count_4 13 rfl rfl)
theorem dX0_count_122 : decode cX0_count 122 = .ok (.iload_n 3, 1) := dk_29 (dk_at dksX0_count_4 14 rfl rfl)
theorem dX0_count_123 : decode cX0_count 123 = .ok (.aload_n 0, 1) := dk_42 (dk_at dksX0_count_4 15 rfl rfl)
theorem dX0_count_124 : decode cX0_count 124 = .ok (.invokevirtual 173, 3) := dk_182 0 173 (dk_at dksX0_count_4 16 rfl rfl)
theorem dX0_count_127 : decode cX0_count 127 = .ok (.if_icmp .ge 29, 3) := dk_162 0 29 (dk_at dksX0_count_4 19 rfl rfl)
theorem dX0_count_130 : decode cX0_count 130 = .ok (.iload_n 2, 1) := dk_28 (dk_at dksX0_count_4 22 rfl rfl)
theorem dX0_count_131 : decode cX0_count 131 = .ok (.aload_n 0, 1) := dk_42 (dk_at dksX0_count_4 23 rfl rfl)
theorem dX0_count_132 : decode cX0_count 132 = .ok (.getfield 52, 3) := dk_180 0 52 (dk_at dksX0_count_5 0 rfl rfl)
theorem dX0_count_135 : decode cX0_count 135 = .ok (.getfield 163, 3) := dk_180 0 163 (dk_at dksX0_count_5 3 rfl rfl)
theorem dX0_count_138 : decode cX0_count 138 = .ok (.iload_n 3, 1) := dk_29 (dk_at dksX0_count_5 6 rfl rfl)
theorem dX0_count_139 : decode cX0_count 139 = .ok (.invokevirtual 183, 3) := dk_182 0 183 (dk_at dksX0_count_5 7 rfl rfl)
theorem dX0_count_142 : decode cX0_count 142 = .ok (.checkcast 187, 3) := dk_192 0 187 (dk_at dksX0_count_5 10 rfl rfl)
theorem dX0_count_145 : decode cX0_count 145 = .ok (.getfield 274, 3) := dk_180 1 18 (dk_at dksX0_count_5 13 rfl rfl)
theorem dX0_count_148 : decode cX0_count 148 = .ok (.iadd, 1) := dk_96 (dk_at dksX0_count_5 16 rfl rfl)
theorem dX0_count_149 : decode cX0_count 149 = .ok (.istore_n 2, 1) := dk_61 (dk_at dksX0_count_5 17 rfl rfl)
theorem dX0_count_150 : decode cX0_count 150 = .ok (.iinc 3 1, 3) := dk_132 3 1 (dk_at dksX0_count_5 18 rfl rfl)
theorem dX0_count_153 : decode cX0_count 153 = .ok (.goto (-31), 3) := dk_167 255 225 (dk_at dksX0_count_5 21 rfl rfl)
theorem dX0_count_156 : decode cX0_count 156 = .ok (.iload_n 2, 1) := dk_28 (dk_at dksX0_count_6 0 rfl rfl)
theorem dX0_count_157 : decode cX0_count 157 = .ok (.ireturn, 1) := dk_172 (dk_at dksX0_count_6 1 rfl rfl)
theorem dX0_count_158 : decode cX0_count 158 = .ok (.aload_n 0, 1) := dk_42 (dk_at dksX0_count_6 2 rfl rfl)
theorem dX0_count_159 : decode cX0_count 159 = .ok (.getfield 36, 3) := dk_180 0 36 (dk_at dksX0_count_6 3 rfl rfl)
theorem dX0_count_162 : decode cX0_count 162 = .ok (.getfield 138, 3) := dk_180 0 138 (dk_at dksX0_count_6 6 rfl rfl)
theorem dX0_count_165 : decode cX0_count 165 = .ok (.ireturn, 1) := dk_172 (dk_at dksX0_count_6 9 rfl rfl)
theorem dX0_count_166 : decode cX0_count 166 = .ok (.aload_n 0, 1) := dk_42 (dk_at dksX0_count_6 10 rfl rfl)
theorem dX0_count_167 : decode cX0_count 167 = .ok (.getfield 153, 3) := dk_180 0 153 (dk_at dksX0_count_6 11 rfl rfl)
theorem dX0_count_170 : decode cX0_count 170 = .ok (.ireturn, 1) := dk_172 (dk_at dksX0_count_6 14 rfl rfl)
theorem dX0_count_171 : decode cX0_count 171 = .ok (.aload_n 0, 1) := dk_42 (dk_at dksX0_count_6 15 rfl rfl)
theorem dX0_count_172 : decode cX0_count 172 = .ok (.getfield 156, 3) := dk_180 0 156 (dk_at dksX0_count_6 16 rfl rfl)
theorem dX0_count_175 : decode cX0_count 175 = .ok (.ireturn, 1) := dk_172 (dk_at dksX0_count_6 19 rfl rfl)
theorem dX0_count_176 : decode cX0_count 176 = .ok (.aload_n 0, 1) := dk_42 (dk_at dksX0_count_6 20 rfl rfl)
theorem dX0_count_177 : decode cX0_count 177 = .ok (.getfield 98, 3) := dk_180 0 98 (dk_at dksX0_count_6 21 rfl rfl)
theorem dX0_count_180 : decode cX0_count 180 = .ok (.iconst 0, 1) := dk_3 (dk_at dksX0_count_7 0 rfl rfl)
theorem dX0_count_181 : decode cX0_count 181 = .ok (.baload, 1) := dk_51 (dk_at dksX0_count_7 1 rfl rfl)
theorem dX0_count_182 : decode cX0_count 182 = .ok (.ifCond .eq 7, 3) := dk_153 0 7 (dk_at dksX0_count_7 2 rfl rfl)
theorem dX0_count_185 : decode cX0_count 185 = .ok (.iconst 1, 1) := dk_4 (dk_at dksX0_count_7 5 rfl rfl)
theorem dX0_count_186 : decode cX0_count 186 = .ok (.goto 4, 3) := dk_167 0 4 (dk_at dksX0_count_7 6 rfl rfl)
theorem dX0_count_189 : decode cX0_count 189 = .ok (.iconst 0, 1) := dk_3 (dk_at dksX0_count_7 9 rfl rfl)
theorem dX0_count_190 : decode cX0_count 190 = .ok (.aload_n 0, 1) := dk_42 (dk_at dksX0_count_7 10 rfl rfl)
theorem dX0_count_191 : decode cX0_count 191 = .ok (.getfield 98, 3) := dk_180 0 98 (dk_at dksX0_count_7 11 rfl rfl)
theorem dX0_count_194 : decode cX0_count 194 = .ok (.iconst 1, 1) := dk_4 (dk_at dksX0_count_7 14 rfl rfl)
theorem dX0_count_195 : decode cX0_count 195 = .ok (.baload, 1) := dk_51 (dk_at dksX0_count_7 15 rfl rfl)
theorem dX0_count_196 : decode cX0_count 196 = .ok (.ifCond .eq 7, 3) := dk_153 0 7 (dk_at dksX0_count_7 16 rfl rfl)
theorem dX0_count_199 : decode cX0_count 199 = .ok (.iconst 1, 1) := dk_4 (dk_at dksX0_count_7 19 rfl rfl)
theorem dX0_count_200 : decode cX0_count 200 = .ok (.goto 4, 3) := dk_167 0 4 (dk_at dksX0_count_7 20 rfl rfl)
theorem dX0_count_203 : decode cX0_count 203 = .ok (.iconst 0, 1) := dk_3 (dk_at dksX0_count_7 23 rfl rfl)
theorem dX0_count_204 : decode cX0_count 204 = .ok (.iadd, 1) := dk_96 (dk_at dksX0_count_8 0 rfl rfl)
theorem dX0_count_205 : decode cX0_count 205 = .ok (.aload_n 0, 1) := dk_42 (dk_at dksX0_count_8 1 rfl rfl)
theorem dX0_count_206 : decode cX0_count 206 = .ok (.getfield 98, 3) := dk_180 0 98 (dk_at dksX0_count_8 2 rfl rfl)
theorem dX0_count_209 : decode cX0_count 209 = .ok (.iconst 2, 1) := dk_5 (dk_at dksX0_count_8 5 rfl rfl)
theorem dX0_count_210 : decode cX0_count 210 = .ok (.baload, 1) := dk_51 (dk_at dksX0_count_8 6 rfl rfl)
theorem dX0_count_211 : decode cX0_count 211 = .ok (.ifCond .eq 7, 3) := dk_153 0 7 (dk_at dksX0_count_8 7 rfl rfl)
theorem dX0_count_214 : decode cX0_count 214 = .ok (.iconst 1, 1) := dk_4 (dk_at dksX0_count_8 10 rfl rfl)
theorem dX0_count_215 : decode cX0_count 215 = .ok (.goto 4, 3) := dk_167 0 4 (dk_at dksX0_count_8 11 rfl rfl)
theorem dX0_count_218 : decode cX0_count 218 = .ok (.iconst 0, 1) := dk_3 (dk_at dksX0_count_8 14 rfl rfl)
theorem dX0_count_219 : decode cX0_count 219 = .ok (.iadd, 1) := dk_96 (dk_at dksX0_count_8 15 rfl rfl)
theorem dX0_count_220 : decode cX0_count 220 = .ok (.ireturn, 1) := dk_172 (dk_at dksX0_count_8 16 rfl rfl)
theorem dX0_count_221 : decode cX0_count 221 = .ok (.iconst (-1), 1) := dk_2 (dk_at dksX0_count_8 17 rfl rfl)
theorem dX0_count_222 : decode cX0_count 222 = .ok (.ireturn, 1) := dk_172 (dk_at dksX0_count_8 18 rfl rfl)
def mX0_init : am_M := (yX0_init, cX0_init, 2, none, [])
theorem okX0_init : am_Ok mX0_init 0 := ⟨rfl, q156, q114, ⟨by decide +kernel, by decide +kernel, by decide +kernel⟩, by decide, by decide +kernel⟩
def mX0_feed : am_M := (yX0_feed, cX0_feed, 6, (some .int), [])
theorem okX0_feed : am_Ok mX0_feed 5 := ⟨rfl, q651, q114, ⟨by decide +kernel, by decide +kernel, by decide +kernel⟩, by decide, by decide +kernel⟩
def mX0_typed : am_M := (yX0_typed, cX0_typed, 3, none, [])
theorem okX0_typed : am_Ok mX0_typed 1 := ⟨rfl, q655, q114, ⟨by decide +kernel, by decide +kernel, by decide +kernel⟩, by decide, by decide +kernel⟩
def mX0_back : am_M := (yX0_back, cX0_back, 2, (some .int), [])
theorem okX0_back : am_Ok mX0_back 1 := ⟨rfl, q659, q114, ⟨by decide +kernel, by decide +kernel, by decide +kernel⟩, by decide, by decide +kernel⟩
def mX0_read : am_M := (yX0_read, cX0_read, 3, (some .int), [((7), (59), (62), (26))])
def mX0_place : am_M := (yX0_place, cX0_place, 1, (some .int), [])
theorem okX0_place : am_Ok mX0_place 0 := ⟨rfl, q1187, q114, ⟨by decide +kernel, by decide +kernel, by decide +kernel⟩, by decide, by decide +kernel⟩
def mX0_man : am_M := (yX0_man, cX0_man, 4, (some .int), [])
theorem okX0_man : am_Ok mX0_man 2 := ⟨rfl, q1191, q114, ⟨by decide +kernel, by decide +kernel, by decide +kernel⟩, by decide, by decide +kernel⟩
def mX0_isMan : am_M := (yX0_isMan, cX0_isMan, 2, (some .boolean), [])
theorem okX0_isMan : am_Ok mX0_isMan 1 := ⟨rfl, q1195, q114, ⟨by decide +kernel, by decide +kernel, by decide +kernel⟩, by decide, by decide +kernel⟩
def mX0_men : am_M := (yX0_men, cX0_men, 1, (some .int), [])
theorem okX0_men : am_Ok mX0_men 0 := ⟨rfl, q1199, q114, ⟨by decide +kernel, by decide +kernel, by decide +kernel⟩, by decide, by decide +kernel⟩
def mX0_isIn : am_M := (yX0_isIn, cX0_isIn, 3, (some .boolean), [])
theorem okX0_isIn : am_Ok mX0_isIn 3 := ⟨rfl, q1203, q114, ⟨by decide +kernel, by decide +kernel, by decide +kernel⟩, by decide, by decide +kernel⟩
def mX0_lot : am_M := (yX0_lot, cX0_lot, 3, (some .int), [])
theorem okX0_lot : am_Ok mX0_lot 3 := ⟨rfl, q1220, q114, ⟨by decide +kernel, by decide +kernel, by decide +kernel⟩, by decide, by decide +kernel⟩
def mX0_mixed : am_M := (yX0_mixed, cX0_mixed, 3, (some .int), [])
theorem okX0_mixed : am_Ok mX0_mixed 2 := ⟨rfl, q1223, q114, ⟨by decide +kernel, by decide +kernel, by decide +kernel⟩, by decide, by decide +kernel⟩
def mX0_piece : am_M := (yX0_piece, cX0_piece, 4, (some .int), [])
theorem okX0_piece : am_Ok mX0_piece 3 := ⟨rfl, q1228, q114, ⟨by decide +kernel, by decide +kernel, by decide +kernel⟩, by decide, by decide +kernel⟩
def mX0_step : am_M := (yX0_step, cX0_step, 3, (some .boolean), [])
theorem okX0_step : am_Ok mX0_step 2 := ⟨rfl, q1236, q114, ⟨by decide +kernel, by decide +kernel, by decide +kernel⟩, by decide, by decide +kernel⟩
def mX0_byX : am_M := (yX0_byX, cX0_byX, 1, (some .int), [])
theorem okX0_byX : am_Ok mX0_byX 1 := ⟨rfl, q1248, q114, ⟨by decide +kernel, by decide +kernel, by decide +kernel⟩, by decide, by decide +kernel⟩
def mX0_byY : am_M := (yX0_byY, cX0_byY, 1, (some .int), [])
theorem okX0_byY : am_Ok mX0_byY 1 := ⟨rfl, q1251, q114, ⟨by decide +kernel, by decide +kernel, by decide +kernel⟩, by decide, by decide +kernel⟩
def mX0_streetOf : am_M := (yX0_streetOf, cX0_streetOf, 5, (some .int), [])
theorem okX0_streetOf : am_Ok mX0_streetOf 3 := ⟨rfl, q1255, q114, ⟨by decide +kernel, by decide +kernel, by decide +kernel⟩, by decide, by decide +kernel⟩
def mX0_keeps : am_M := (yX0_keeps, cX0_keeps, 1, none, [])
theorem okX0_keeps : am_Ok mX0_keeps 0 := ⟨rfl, q1262, q114, ⟨by decide +kernel, by decide +kernel, by decide +kernel⟩, by decide, by decide +kernel⟩
def mX0_wind : am_M := (yX0_wind, cX0_wind, 2, (some .boolean), [])
theorem okX0_wind : am_Ok mX0_wind 1 := ⟨rfl, q1266, q114, ⟨by decide +kernel, by decide +kernel, by decide +kernel⟩, by decide, by decide +kernel⟩
def mX0_home : am_M := (yX0_home, cX0_home, 3, (some .int), [])
theorem okX0_home : am_Ok mX0_home 1 := ⟨rfl, q1275, q114, ⟨by decide +kernel, by decide +kernel, by decide +kernel⟩, by decide, by decide +kernel⟩
def mX0_cut : am_M := (yX0_cut, cX0_cut, 2, (some .int), [])
theorem okX0_cut : am_Ok mX0_cut 1 := ⟨rfl, q1279, q114, ⟨by decide +kernel, by decide +kernel, by decide +kernel⟩, by decide, by decide +kernel⟩
def mX0_run : am_M := (yX0_run, cX0_run, 3, (some .int), [])
theorem okX0_run : am_Ok mX0_run 1 := ⟨rfl, q1287, q114, ⟨by decide +kernel, by decide +kernel, by decide +kernel⟩, by decide, by decide +kernel⟩
def mX0_undo : am_M := (yX0_undo, cX0_undo, 1, (some .boolean), [])
theorem okX0_undo : am_Ok mX0_undo 0 := ⟨rfl, q1302, q114, ⟨by decide +kernel, by decide +kernel, by decide +kernel⟩, by decide, by decide +kernel⟩
def mX0_over : am_M := (yX0_over, cX0_over, 3, (some .int), [])
theorem okX0_over : am_Ok mX0_over 2 := ⟨rfl, q1306, q114, ⟨by decide +kernel, by decide +kernel, by decide +kernel⟩, by decide, by decide +kernel⟩
def mX0_areTwo : am_M := (yX0_areTwo, cX0_areTwo, 3, (some .boolean), [])
theorem okX0_areTwo : am_Ok mX0_areTwo 2 := ⟨rfl, q1310, q114, ⟨by decide +kernel, by decide +kernel, by decide +kernel⟩, by decide, by decide +kernel⟩
def mX0_waits : am_M := (yX0_waits, cX0_waits, 4, (some .int), [])
theorem okX0_waits : am_Ok mX0_waits 1 := ⟨rfl, q1318, q114, ⟨by decide +kernel, by decide +kernel, by decide +kernel⟩, by decide, by decide +kernel⟩
def mX0_orders : am_M := (yX0_orders, cX0_orders, 1, (some .int), [])
theorem okX0_orders : am_Ok mX0_orders 0 := ⟨rfl, q1322, q114, ⟨by decide +kernel, by decide +kernel, by decide +kernel⟩, by decide, by decide +kernel⟩
def mX0_laysWaits : am_M := (yX0_laysWaits, cX0_laysWaits, 4, (some .int), [])
theorem okX0_laysWaits : am_Ok mX0_laysWaits 0 := ⟨rfl, q1326, q114, ⟨by decide +kernel, by decide +kernel, by decide +kernel⟩, by decide, by decide +kernel⟩
def mX0_orderAt : am_M := (yX0_orderAt, cX0_orderAt, 5, (some .int), [])
theorem okX0_orderAt : am_Ok mX0_orderAt 1 := ⟨rfl, q1331, q114, ⟨by decide +kernel, by decide +kernel, by decide +kernel⟩, by decide, by decide +kernel⟩
def mX0_cuts : am_M := (yX0_cuts, cX0_cuts, 3, (some .int), [])
theorem okX0_cuts : am_Ok mX0_cuts 1 := ⟨rfl, q1335, q114, ⟨by decide +kernel, by decide +kernel, by decide +kernel⟩, by decide, by decide +kernel⟩
def mX0_leastCut : am_M := (yX0_leastCut, cX0_leastCut, 6, (some .int), [])
theorem okX0_leastCut : am_Ok mX0_leastCut 0 := ⟨rfl, q1339, q114, ⟨by decide +kernel, by decide +kernel, by decide +kernel⟩, by decide, by decide +kernel⟩
def mX0_piecesOf : am_M := (yX0_piecesOf, cX0_piecesOf, 4, (some .int), [])
theorem okX0_piecesOf : am_Ok mX0_piecesOf 1 := ⟨rfl, q1349, q114, ⟨by decide +kernel, by decide +kernel, by decide +kernel⟩, by decide, by decide +kernel⟩
def mX0_way : am_M := (yX0_way, cX0_way, 3, (some .int), [])
theorem okX0_way : am_Ok mX0_way 1 := ⟨rfl, q1353, q114, ⟨by decide +kernel, by decide +kernel, by decide +kernel⟩, by decide, by decide +kernel⟩
def mX0_laysLeft : am_M := (yX0_laysLeft, cX0_laysLeft, 5, none, [])
theorem okX0_laysLeft : am_Ok mX0_laysLeft 1 := ⟨rfl, q1357, q114, ⟨by decide +kernel, by decide +kernel, by decide +kernel⟩, by decide, by decide +kernel⟩
def mX0_apart : am_M := (yX0_apart, cX0_apart, 4, (some .int), [])
theorem okX0_apart : am_Ok mX0_apart 4 := ⟨rfl, q1361, q114, ⟨by decide +kernel, by decide +kernel, by decide +kernel⟩, by decide, by decide +kernel⟩
def mX0_wayFrom : am_M := (yX0_wayFrom, cX0_wayFrom, 7, (some .int), [])
theorem okX0_wayFrom : am_Ok mX0_wayFrom 3 := ⟨rfl, q1365, q114, ⟨by decide +kernel, by decide +kernel, by decide +kernel⟩, by decide, by decide +kernel⟩
def mX0_wayAt : am_M := (yX0_wayAt, cX0_wayAt, 10, (some .int), [])
theorem okX0_wayAt : am_Ok mX0_wayAt 2 := ⟨rfl, q1369, q114, ⟨by decide +kernel, by decide +kernel, by decide +kernel⟩, by decide, by decide +kernel⟩
def mX0_lives : am_M := (yX0_lives, cX0_lives, 6, (some .int), [])
theorem okX0_lives : am_Ok mX0_lives 1 := ⟨rfl, q1374, q114, ⟨by decide +kernel, by decide +kernel, by decide +kernel⟩, by decide, by decide +kernel⟩
def mX0_turns : am_M := (yX0_turns, cX0_turns, 8, (some .int), [])
theorem okX0_turns : am_Ok mX0_turns 2 := ⟨rfl, q1378, q114, ⟨by decide +kernel, by decide +kernel, by decide +kernel⟩, by decide, by decide +kernel⟩
def mX0_meet : am_M := (yX0_meet, cX0_meet, 4, (some .int), [])
theorem okX0_meet : am_Ok mX0_meet 2 := ⟨rfl, q1382, q114, ⟨by decide +kernel, by decide +kernel, by decide +kernel⟩, by decide, by decide +kernel⟩
def mX0_most : am_M := (yX0_most, cX0_most, 4, (some .int), [])
theorem okX0_most : am_Ok mX0_most 1 := ⟨rfl, q1386, q114, ⟨by decide +kernel, by decide +kernel, by decide +kernel⟩, by decide, by decide +kernel⟩
def mX0_overAll : am_M := (yX0_overAll, cX0_overAll, 4, (some .int), [])
theorem okX0_overAll : am_Ok mX0_overAll 1 := ⟨rfl, q1390, q114, ⟨by decide +kernel, by decide +kernel, by decide +kernel⟩, by decide, by decide +kernel⟩
def mX0_street : am_M := (yX0_street, cX0_street, 9, (some .int), [])
theorem okX0_street : am_Ok mX0_street 4 := ⟨rfl, q1394, q114, ⟨by decide +kernel, by decide +kernel, by decide +kernel⟩, by decide, by decide +kernel⟩
def mX0_isStreet : am_M := (yX0_isStreet, cX0_isStreet, 4, (some .boolean), [])
theorem okX0_isStreet : am_Ok mX0_isStreet 3 := ⟨rfl, q1398, q114, ⟨by decide +kernel, by decide +kernel, by decide +kernel⟩, by decide, by decide +kernel⟩
def mX0_dusk : am_M := (yX0_dusk, cX0_dusk, 6, (some .int), [])
theorem okX0_dusk : am_Ok mX0_dusk 2 := ⟨rfl, q1404, q114, ⟨by decide +kernel, by decide +kernel, by decide +kernel⟩, by decide, by decide +kernel⟩
def mX0_runsDusk : am_M := (yX0_runsDusk, cX0_runsDusk, 3, none, [])
theorem okX0_runsDusk : am_Ok mX0_runsDusk 1 := ⟨rfl, q1408, q114, ⟨by decide +kernel, by decide +kernel, by decide +kernel⟩, by decide, by decide +kernel⟩
def mX0_windsAll : am_M := (yX0_windsAll, cX0_windsAll, 6, (some .int), [])
theorem okX0_windsAll : am_Ok mX0_windsAll 2 := ⟨rfl, q1412, q114, ⟨by decide +kernel, by decide +kernel, by decide +kernel⟩, by decide, by decide +kernel⟩
def mX0_nextOf : am_M := (yX0_nextOf, cX0_nextOf, 4, (some .int), [])
theorem okX0_nextOf : am_Ok mX0_nextOf 1 := ⟨rfl, q1439, q114, ⟨by decide +kernel, by decide +kernel, by decide +kernel⟩, by decide, by decide +kernel⟩
def mX0_bestDusk : am_M := (yX0_bestDusk, cX0_bestDusk, 5, (some .int), [])
theorem okX0_bestDusk : am_Ok mX0_bestDusk 0 := ⟨rfl, q1443, q114, ⟨by decide +kernel, by decide +kernel, by decide +kernel⟩, by decide, by decide +kernel⟩
def mX0_shows : am_M := (yX0_shows, cX0_shows, 5, (some .int), [])
theorem okX0_shows : am_Ok mX0_shows 3 := ⟨rfl, q1447, q114, ⟨by decide +kernel, by decide +kernel, by decide +kernel⟩, by decide, by decide +kernel⟩
def mX0_shown : am_M := (yX0_shown, cX0_shown, 4, (some .int), [])
theorem okX0_shown : am_Ok mX0_shown 1 := ⟨rfl, q1455, q114, ⟨by decide +kernel, by decide +kernel, by decide +kernel⟩, by decide, by decide +kernel⟩
def mX0_uppermost : am_M := (yX0_uppermost, cX0_uppermost, 4, (some .int), [])
theorem okX0_uppermost : am_Ok mX0_uppermost 1 := ⟨rfl, q1459, q114, ⟨by decide +kernel, by decide +kernel, by decide +kernel⟩, by decide, by decide +kernel⟩
def mX0_knows : am_M := (yX0_knows, cX0_knows, 4, (some .int), [])
theorem okX0_knows : am_Ok mX0_knows 1 := ⟨rfl, q1463, q114, ⟨by decide +kernel, by decide +kernel, by decide +kernel⟩, by decide, by decide +kernel⟩
def mX0_links : am_M := (yX0_links, cX0_links, 6, (some .int), [])
theorem okX0_links : am_Ok mX0_links 2 := ⟨rfl, q1467, q114, ⟨by decide +kernel, by decide +kernel, by decide +kernel⟩, by decide, by decide +kernel⟩
def mX0_around : am_M := (yX0_around, cX0_around, 4, (some .int), [])
theorem okX0_around : am_Ok mX0_around 1 := ⟨rfl, q1471, q114, ⟨by decide +kernel, by decide +kernel, by decide +kernel⟩, by decide, by decide +kernel⟩
def mX0_rounds : am_M := (yX0_rounds, cX0_rounds, 5, (some .int), [])
theorem okX0_rounds : am_Ok mX0_rounds 0 := ⟨rfl, q1476, q114, ⟨by decide +kernel, by decide +kernel, by decide +kernel⟩, by decide, by decide +kernel⟩
def mX0_crowd : am_M := (yX0_crowd, cX0_crowd, 8, (some .int), [])
theorem okX0_crowd : am_Ok mX0_crowd 1 := ⟨rfl, q1480, q114, ⟨by decide +kernel, by decide +kernel, by decide +kernel⟩, by decide, by decide +kernel⟩
def mX0_comesTo : am_M := (yX0_comesTo, cX0_comesTo, 8, (some .boolean), [])
theorem okX0_comesTo : am_Ok mX0_comesTo 3 := ⟨rfl, q1484, q114, ⟨by decide +kernel, by decide +kernel, by decide +kernel⟩, by decide, by decide +kernel⟩
def mX0_thieves : am_M := (yX0_thieves, cX0_thieves, 4, (some .int), [])
theorem okX0_thieves : am_Ok mX0_thieves 0 := ⟨rfl, q1488, q114, ⟨by decide +kernel, by decide +kernel, by decide +kernel⟩, by decide, by decide +kernel⟩
def mX0_nearest : am_M := (yX0_nearest, cX0_nearest, 7, (some .int), [])
theorem okX0_nearest : am_Ok mX0_nearest 2 := ⟨rfl, q1493, q114, ⟨by decide +kernel, by decide +kernel, by decide +kernel⟩, by decide, by decide +kernel⟩
def mX0_unfair : am_M := (yX0_unfair, cX0_unfair, 4, (some .int), [])
theorem okX0_unfair : am_Ok mX0_unfair 0 := ⟨rfl, q1497, q114, ⟨by decide +kernel, by decide +kernel, by decide +kernel⟩, by decide, by decide +kernel⟩
def mX0_plain : am_M := (yX0_plain, cX0_plain, 8, (some .int), [])
theorem okX0_plain : am_Ok mX0_plain 1 := ⟨rfl, q1502, q114, ⟨by decide +kernel, by decide +kernel, by decide +kernel⟩, by decide, by decide +kernel⟩
def mX0_laysLegs : am_M := (yX0_laysLegs, cX0_laysLegs, 11, none, [])
theorem okX0_laysLegs : am_Ok mX0_laysLegs 2 := ⟨rfl, q1506, q114, ⟨by decide +kernel, by decide +kernel, by decide +kernel⟩, by decide, by decide +kernel⟩
def mX0_goesLeg : am_M := (yX0_goesLeg, cX0_goesLeg, 9, none, [])
theorem okX0_goesLeg : am_Ok mX0_goesLeg 5 := ⟨rfl, q1511, q114, ⟨by decide +kernel, by decide +kernel, by decide +kernel⟩, by decide, by decide +kernel⟩
def mX0_lieTogether : am_M := (yX0_lieTogether, cX0_lieTogether, 7, (some .int), [])
theorem okX0_lieTogether : am_Ok mX0_lieTogether 4 := ⟨rfl, q1515, q114, ⟨by decide +kernel, by decide +kernel, by decide +kernel⟩, by decide, by decide +kernel⟩
def mX0_tell : am_M := (yX0_tell, cX0_tell, 4, (some .int), [])
theorem okX0_tell : am_Ok mX0_tell 3 := ⟨rfl, q1519, q114, ⟨by decide +kernel, by decide +kernel, by decide +kernel⟩, by decide, by decide +kernel⟩
def mX0_forget : am_M := (yX0_forget, cX0_forget, 2, (some .int), [])
theorem okX0_forget : am_Ok mX0_forget 0 := ⟨rfl, q1523, q114, ⟨by decide +kernel, by decide +kernel, by decide +kernel⟩, by decide, by decide +kernel⟩
def mX0_starts : am_M := (yX0_starts, cX0_starts, 9, (some .int), [])
theorem okX0_starts : am_Ok mX0_starts 3 := ⟨rfl, q1527, q114, ⟨by decide +kernel, by decide +kernel, by decide +kernel⟩, by decide, by decide +kernel⟩
def mX0_isSo : am_M := (yX0_isSo, cX0_isSo, 5, (some .boolean), [])
theorem okX0_isSo : am_Ok mX0_isSo 2 := ⟨rfl, q1531, q114, ⟨by decide +kernel, by decide +kernel, by decide +kernel⟩, by decide, by decide +kernel⟩
def mX0_hold : am_M := (yX0_hold, cX0_hold, 2, (some .boolean), [])
theorem okX0_hold : am_Ok mX0_hold 1 := ⟨rfl, q1536, q114, ⟨by decide +kernel, by decide +kernel, by decide +kernel⟩, by decide, by decide +kernel⟩
def mX0_restore : am_M := (yX0_restore, cX0_restore, 2, (some .boolean), [])
theorem okX0_restore : am_Ok mX0_restore 1 := ⟨rfl, q1540, q114, ⟨by decide +kernel, by decide +kernel, by decide +kernel⟩, by decide, by decide +kernel⟩
def mX0_count : am_M := (yX0_count, cX0_count, 4, (some .int), [])
theorem okX0_count : am_Ok mX0_count 1 := ⟨rfl, q1544, q114, ⟨by decide +kernel, by decide +kernel, by decide +kernel⟩, by decide, by decide +kernel⟩
