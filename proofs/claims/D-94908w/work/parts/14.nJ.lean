set_option maxRecDepth 100000
def RJ0 : String := "java/lang/Throwable"
/-! java/lang/Throwable -/
abbrev cJ0_init : ByteArray := prog_38_method_1_code
def yJ0_init : MethodName := ⟨RJ0, "<init>", "()V"⟩
def dkwJ0_init_1 : List UInt8 := [182, 0, 27, 87, 177]
abbrev dktJ0_init_1 : List UInt8 := dkwJ0_init_1 ++ []
def dkwJ0_init_0 : List UInt8 := [42, 183, 0, 1, 42, 42, 181, 0, 7, 42, 178, 0, 13, 181, 0, 17, 42, 178, 0, 20, 181, 0, 24, 42]
abbrev dktJ0_init_0 : List UInt8 := dkwJ0_init_0 ++ dktJ0_init_1
theorem dksJ0_init_0 : cJ0_init.data.toList.drop 0 = dktJ0_init_0 := by decide +kernel
theorem dksJ0_init_1 : cJ0_init.data.toList.drop 24 = dktJ0_init_1 := dk_seg dksJ0_init_0 24 rfl rfl
theorem dJ0_init_0 : decode cJ0_init 0 = .ok (.aload_n 0, 1) := dk_42 (dk_at dksJ0_init_0 0 rfl rfl)
theorem dJ0_init_1 : decode cJ0_init 1 = .ok (.invokespecial 1, 3) := dk_183 0 1 (dk_at dksJ0_init_0 1 rfl rfl)
theorem dJ0_init_4 : decode cJ0_init 4 = .ok (.aload_n 0, 1) := dk_42 (dk_at dksJ0_init_0 4 rfl rfl)
theorem dJ0_init_5 : decode cJ0_init 5 = .ok (.aload_n 0, 1) := dk_42 (dk_at dksJ0_init_0 5 rfl rfl)
theorem dJ0_init_6 : decode cJ0_init 6 = .ok (.putfield 7, 3) := dk_181 0 7 (dk_at dksJ0_init_0 6 rfl rfl)
theorem dJ0_init_9 : decode cJ0_init 9 = .ok (.aload_n 0, 1) := dk_42 (dk_at dksJ0_init_0 9 rfl rfl)
theorem dJ0_init_10 : decode cJ0_init 10 = .ok (.getstatic 13, 3) := dk_178 0 13 (dk_at dksJ0_init_0 10 rfl rfl)
theorem dJ0_init_13 : decode cJ0_init 13 = .ok (.putfield 17, 3) := dk_181 0 17 (dk_at dksJ0_init_0 13 rfl rfl)
theorem dJ0_init_16 : decode cJ0_init 16 = .ok (.aload_n 0, 1) := dk_42 (dk_at dksJ0_init_0 16 rfl rfl)
theorem dJ0_init_17 : decode cJ0_init 17 = .ok (.getstatic 20, 3) := dk_178 0 20 (dk_at dksJ0_init_0 17 rfl rfl)
theorem dJ0_init_20 : decode cJ0_init 20 = .ok (.putfield 24, 3) := dk_181 0 24 (dk_at dksJ0_init_0 20 rfl rfl)
theorem dJ0_init_23 : decode cJ0_init 23 = .ok (.aload_n 0, 1) := dk_42 (dk_at dksJ0_init_0 23 rfl rfl)
theorem dJ0_init_24 : decode cJ0_init 24 = .ok (.invokevirtual 27, 3) := dk_182 0 27 (dk_at dksJ0_init_1 0 rfl rfl)
theorem dJ0_init_27 : decode cJ0_init 27 = .ok (.pop, 1) := dk_87 (dk_at dksJ0_init_1 3 rfl rfl)
theorem dJ0_init_28 : decode cJ0_init 28 = .ok (.return_, 1) := dk_177 (dk_at dksJ0_init_1 4 rfl rfl)
abbrev cJ0_init_2 : ByteArray := prog_38_method_5_code
def yJ0_init_2 : MethodName := ⟨RJ0, "<init>", "(Ljava/lang/String;Ljava/lang/Throwable;ZZ)V"⟩
def dkwJ0_init_2_2 : List UInt8 := [44, 181, 0, 7, 29, 154, 0, 8, 42, 1, 181, 0, 24, 177]
abbrev dktJ0_init_2_2 : List UInt8 := dkwJ0_init_2_2 ++ []
def dkwJ0_init_2_1 : List UInt8 := [21, 4, 153, 0, 11, 42, 182, 0, 27, 87, 167, 0, 8, 42, 1, 181, 0, 17, 42, 43, 181, 0, 31, 42]
abbrev dktJ0_init_2_1 : List UInt8 := dkwJ0_init_2_1 ++ dktJ0_init_2_2
def dkwJ0_init_2_0 : List UInt8 := [42, 183, 0, 1, 42, 42, 181, 0, 7, 42, 178, 0, 13, 181, 0, 17, 42, 178, 0, 20, 181, 0, 24]
abbrev dktJ0_init_2_0 : List UInt8 := dkwJ0_init_2_0 ++ dktJ0_init_2_1
theorem dksJ0_init_2_0 : cJ0_init_2.data.toList.drop 0 = dktJ0_init_2_0 := by decide +kernel
theorem dksJ0_init_2_1 : cJ0_init_2.data.toList.drop 23 = dktJ0_init_2_1 := dk_seg dksJ0_init_2_0 23 rfl rfl
theorem dksJ0_init_2_2 : cJ0_init_2.data.toList.drop 47 = dktJ0_init_2_2 := dk_seg dksJ0_init_2_1 24 rfl rfl
theorem dJ0_init_2_0 : decode cJ0_init_2 0 = .ok (.aload_n 0, 1) := dk_42 (dk_at dksJ0_init_2_0 0 rfl rfl)
theorem dJ0_init_2_1 : decode cJ0_init_2 1 = .ok (.invokespecial 1, 3) := dk_183 0 1 (dk_at dksJ0_init_2_0 1 rfl rfl)
theorem dJ0_init_2_4 : decode cJ0_init_2 4 = .ok (.aload_n 0, 1) := dk_42 (dk_at dksJ0_init_2_0 4 rfl rfl)
theorem dJ0_init_2_5 : decode cJ0_init_2 5 = .ok (.aload_n 0, 1) := dk_42 (dk_at dksJ0_init_2_0 5 rfl rfl)
theorem dJ0_init_2_6 : decode cJ0_init_2 6 = .ok (.putfield 7, 3) := dk_181 0 7 (dk_at dksJ0_init_2_0 6 rfl rfl)
theorem dJ0_init_2_9 : decode cJ0_init_2 9 = .ok (.aload_n 0, 1) := dk_42 (dk_at dksJ0_init_2_0 9 rfl rfl)
theorem dJ0_init_2_10 : decode cJ0_init_2 10 = .ok (.getstatic 13, 3) := dk_178 0 13 (dk_at dksJ0_init_2_0 10 rfl rfl)
theorem dJ0_init_2_13 : decode cJ0_init_2 13 = .ok (.putfield 17, 3) := dk_181 0 17 (dk_at dksJ0_init_2_0 13 rfl rfl)
theorem dJ0_init_2_16 : decode cJ0_init_2 16 = .ok (.aload_n 0, 1) := dk_42 (dk_at dksJ0_init_2_0 16 rfl rfl)
theorem dJ0_init_2_17 : decode cJ0_init_2 17 = .ok (.getstatic 20, 3) := dk_178 0 20 (dk_at dksJ0_init_2_0 17 rfl rfl)
theorem dJ0_init_2_20 : decode cJ0_init_2 20 = .ok (.putfield 24, 3) := dk_181 0 24 (dk_at dksJ0_init_2_0 20 rfl rfl)
theorem dJ0_init_2_23 : decode cJ0_init_2 23 = .ok (.iload 4, 2) := dk_21 4 (dk_at dksJ0_init_2_1 0 rfl rfl)
theorem dJ0_init_2_25 : decode cJ0_init_2 25 = .ok (.ifCond .eq 11, 3) := dk_153 0 11 (dk_at dksJ0_init_2_1 2 rfl rfl)
theorem dJ0_init_2_28 : decode cJ0_init_2 28 = .ok (.aload_n 0, 1) := dk_42 (dk_at dksJ0_init_2_1 5 rfl rfl)
theorem dJ0_init_2_29 : decode cJ0_init_2 29 = .ok (.invokevirtual 27, 3) := dk_182 0 27 (dk_at dksJ0_init_2_1 6 rfl rfl)
theorem dJ0_init_2_32 : decode cJ0_init_2 32 = .ok (.pop, 1) := dk_87 (dk_at dksJ0_init_2_1 9 rfl rfl)
theorem dJ0_init_2_33 : decode cJ0_init_2 33 = .ok (.goto 8, 3) := dk_167 0 8 (dk_at dksJ0_init_2_1 10 rfl rfl)
theorem dJ0_init_2_36 : decode cJ0_init_2 36 = .ok (.aload_n 0, 1) := dk_42 (dk_at dksJ0_init_2_1 13 rfl rfl)
theorem dJ0_init_2_37 : decode cJ0_init_2 37 = .ok (.aconst_null, 1) := dk_1 (dk_at dksJ0_init_2_1 14 rfl rfl)
theorem dJ0_init_2_38 : decode cJ0_init_2 38 = .ok (.putfield 17, 3) := dk_181 0 17 (dk_at dksJ0_init_2_1 15 rfl rfl)
theorem dJ0_init_2_41 : decode cJ0_init_2 41 = .ok (.aload_n 0, 1) := dk_42 (dk_at dksJ0_init_2_1 18 rfl rfl)
theorem dJ0_init_2_42 : decode cJ0_init_2 42 = .ok (.aload_n 1, 1) := dk_43 (dk_at dksJ0_init_2_1 19 rfl rfl)
theorem dJ0_init_2_43 : decode cJ0_init_2 43 = .ok (.putfield 31, 3) := dk_181 0 31 (dk_at dksJ0_init_2_1 20 rfl rfl)
theorem dJ0_init_2_46 : decode cJ0_init_2 46 = .ok (.aload_n 0, 1) := dk_42 (dk_at dksJ0_init_2_1 23 rfl rfl)
theorem dJ0_init_2_47 : decode cJ0_init_2 47 = .ok (.aload_n 2, 1) := dk_44 (dk_at dksJ0_init_2_2 0 rfl rfl)
theorem dJ0_init_2_48 : decode cJ0_init_2 48 = .ok (.putfield 7, 3) := dk_181 0 7 (dk_at dksJ0_init_2_2 1 rfl rfl)
theorem dJ0_init_2_51 : decode cJ0_init_2 51 = .ok (.iload_n 3, 1) := dk_29 (dk_at dksJ0_init_2_2 4 rfl rfl)
theorem dJ0_init_2_52 : decode cJ0_init_2 52 = .ok (.ifCond .ne 8, 3) := dk_154 0 8 (dk_at dksJ0_init_2_2 5 rfl rfl)
theorem dJ0_init_2_55 : decode cJ0_init_2 55 = .ok (.aload_n 0, 1) := dk_42 (dk_at dksJ0_init_2_2 8 rfl rfl)
theorem dJ0_init_2_56 : decode cJ0_init_2 56 = .ok (.aconst_null, 1) := dk_1 (dk_at dksJ0_init_2_2 9 rfl rfl)
theorem dJ0_init_2_57 : decode cJ0_init_2 57 = .ok (.putfield 24, 3) := dk_181 0 24 (dk_at dksJ0_init_2_2 10 rfl rfl)
theorem dJ0_init_2_60 : decode cJ0_init_2 60 = .ok (.return_, 1) := dk_177 (dk_at dksJ0_init_2_2 13 rfl rfl)
def mJ0_init : am_M := (yJ0_init, cJ0_init, 1, none, [])
theorem okJ0_init : am_Ok mJ0_init 0 := ⟨rfl, q184, q115, ⟨by decide +kernel, by decide +kernel, by decide +kernel⟩, by decide, by decide +kernel⟩
def mJ0_init_2 : am_M := (yJ0_init_2, cJ0_init_2, 5, none, [])
theorem okJ0_init_2 : am_Ok mJ0_init_2 4 := ⟨rfl, q211, q115, ⟨by decide +kernel, by decide +kernel, by decide +kernel⟩, by decide, by decide +kernel⟩
def RJ1 : String := "java/lang/Exception"
/-! java/lang/Exception -/
abbrev cJ1_init : ByteArray := prog_28_method_5_code
def yJ1_init : MethodName := ⟨RJ1, "<init>", "(Ljava/lang/String;Ljava/lang/Throwable;ZZ)V"⟩
def dkwJ1_init_0 : List UInt8 := [42, 43, 44, 29, 21, 4, 183, 0, 16, 177]
abbrev dktJ1_init_0 : List UInt8 := dkwJ1_init_0 ++ []
theorem dksJ1_init_0 : cJ1_init.data.toList.drop 0 = dktJ1_init_0 := by decide +kernel
theorem dJ1_init_0 : decode cJ1_init 0 = .ok (.aload_n 0, 1) := dk_42 (dk_at dksJ1_init_0 0 rfl rfl)
theorem dJ1_init_1 : decode cJ1_init 1 = .ok (.aload_n 1, 1) := dk_43 (dk_at dksJ1_init_0 1 rfl rfl)
theorem dJ1_init_2 : decode cJ1_init 2 = .ok (.aload_n 2, 1) := dk_44 (dk_at dksJ1_init_0 2 rfl rfl)
theorem dJ1_init_3 : decode cJ1_init 3 = .ok (.iload_n 3, 1) := dk_29 (dk_at dksJ1_init_0 3 rfl rfl)
theorem dJ1_init_4 : decode cJ1_init 4 = .ok (.iload 4, 2) := dk_21 4 (dk_at dksJ1_init_0 4 rfl rfl)
theorem dJ1_init_6 : decode cJ1_init 6 = .ok (.invokespecial 16, 3) := dk_183 0 16 (dk_at dksJ1_init_0 6 rfl rfl)
theorem dJ1_init_9 : decode cJ1_init 9 = .ok (.return_, 1) := dk_177 (dk_at dksJ1_init_0 9 rfl rfl)
def mJ1_init : am_M := (yJ1_init, cJ1_init, 5, none, [])
theorem okJ1_init : am_Ok mJ1_init 4 := ⟨rfl, q208, q116, ⟨by decide +kernel, by decide +kernel, by decide +kernel⟩, by decide, by decide +kernel⟩
def RJ2 : String := "java/lang/RuntimeException"
/-! java/lang/RuntimeException -/
abbrev cJ2_init : ByteArray := prog_32_method_5_code
def yJ2_init : MethodName := ⟨RJ2, "<init>", "(Ljava/lang/String;Ljava/lang/Throwable;ZZ)V"⟩
def dkwJ2_init_0 : List UInt8 := [42, 43, 44, 29, 21, 4, 183, 0, 16, 177]
abbrev dktJ2_init_0 : List UInt8 := dkwJ2_init_0 ++ []
theorem dksJ2_init_0 : cJ2_init.data.toList.drop 0 = dktJ2_init_0 := by decide +kernel
theorem dJ2_init_0 : decode cJ2_init 0 = .ok (.aload_n 0, 1) := dk_42 (dk_at dksJ2_init_0 0 rfl rfl)
theorem dJ2_init_1 : decode cJ2_init 1 = .ok (.aload_n 1, 1) := dk_43 (dk_at dksJ2_init_0 1 rfl rfl)
theorem dJ2_init_2 : decode cJ2_init 2 = .ok (.aload_n 2, 1) := dk_44 (dk_at dksJ2_init_0 2 rfl rfl)
theorem dJ2_init_3 : decode cJ2_init 3 = .ok (.iload_n 3, 1) := dk_29 (dk_at dksJ2_init_0 3 rfl rfl)
theorem dJ2_init_4 : decode cJ2_init 4 = .ok (.iload 4, 2) := dk_21 4 (dk_at dksJ2_init_0 4 rfl rfl)
theorem dJ2_init_6 : decode cJ2_init 6 = .ok (.invokespecial 16, 3) := dk_183 0 16 (dk_at dksJ2_init_0 6 rfl rfl)
theorem dJ2_init_9 : decode cJ2_init 9 = .ok (.return_, 1) := dk_177 (dk_at dksJ2_init_0 9 rfl rfl)
def mJ2_init : am_M := (yJ2_init, cJ2_init, 5, none, [])
theorem okJ2_init : am_Ok mJ2_init 4 := ⟨rfl, q205, q117, ⟨by decide +kernel, by decide +kernel, by decide +kernel⟩, by decide, by decide +kernel⟩
def RJ3 : String := "java/util/AbstractCollection"
/-! java/util/AbstractCollection -/
abbrev cJ3_init : ByteArray := prog_41_method_1_code
def yJ3_init : MethodName := ⟨RJ3, "<init>", "()V"⟩
theorem dJ3_init_0 : decode cJ3_init 0 = .ok (.aload_n 0, 1) := by decide +kernel
theorem dJ3_init_1 : decode cJ3_init 1 = .ok (.invokespecial 1, 3) := by decide +kernel
theorem dJ3_init_4 : decode cJ3_init 4 = .ok (.return_, 1) := by decide +kernel
def mJ3_init : am_M := (yJ3_init, cJ3_init, 1, none, [])
theorem okJ3_init : am_Ok mJ3_init 0 := ⟨rfl, q334, q122, ⟨by decide +kernel, by decide +kernel, by decide +kernel⟩, by decide, by decide +kernel⟩
def RJ4 : String := "java/util/AbstractList"
/-! java/util/AbstractList -/
abbrev cJ4_init : ByteArray := prog_42_method_1_code
def yJ4_init : MethodName := ⟨RJ4, "<init>", "()V"⟩
def dkwJ4_init_0 : List UInt8 := [42, 183, 0, 1, 42, 3, 181, 0, 7, 177]
abbrev dktJ4_init_0 : List UInt8 := dkwJ4_init_0 ++ []
theorem dksJ4_init_0 : cJ4_init.data.toList.drop 0 = dktJ4_init_0 := by decide +kernel
theorem dJ4_init_0 : decode cJ4_init 0 = .ok (.aload_n 0, 1) := dk_42 (dk_at dksJ4_init_0 0 rfl rfl)
theorem dJ4_init_1 : decode cJ4_init 1 = .ok (.invokespecial 1, 3) := dk_183 0 1 (dk_at dksJ4_init_0 1 rfl rfl)
theorem dJ4_init_4 : decode cJ4_init 4 = .ok (.aload_n 0, 1) := dk_42 (dk_at dksJ4_init_0 4 rfl rfl)
theorem dJ4_init_5 : decode cJ4_init 5 = .ok (.iconst 0, 1) := dk_3 (dk_at dksJ4_init_0 5 rfl rfl)
theorem dJ4_init_6 : decode cJ4_init 6 = .ok (.putfield 7, 3) := dk_181 0 7 (dk_at dksJ4_init_0 6 rfl rfl)
theorem dJ4_init_9 : decode cJ4_init 9 = .ok (.return_, 1) := dk_177 (dk_at dksJ4_init_0 9 rfl rfl)
def mJ4_init : am_M := (yJ4_init, cJ4_init, 1, none, [])
theorem okJ4_init : am_Ok mJ4_init 0 := ⟨rfl, q331, q123, ⟨by decide +kernel, by decide +kernel, by decide +kernel⟩, by decide, by decide +kernel⟩
/-! java/util/ArrayList -/
abbrev cJ5_init : ByteArray := prog_43_method_2_code
def yJ5_init : MethodName := ⟨RJ5, "<init>", "()V"⟩
def dkwJ5_init_0 : List UInt8 := [42, 183, 0, 1, 42, 178, 0, 39, 181, 0, 9, 177]
abbrev dktJ5_init_0 : List UInt8 := dkwJ5_init_0 ++ []
theorem dksJ5_init_0 : cJ5_init.data.toList.drop 0 = dktJ5_init_0 := by decide +kernel
theorem dJ5_init_0 : decode cJ5_init 0 = .ok (.aload_n 0, 1) := dk_42 (dk_at dksJ5_init_0 0 rfl rfl)
theorem dJ5_init_1 : decode cJ5_init 1 = .ok (.invokespecial 1, 3) := dk_183 0 1 (dk_at dksJ5_init_0 1 rfl rfl)
theorem dJ5_init_4 : decode cJ5_init 4 = .ok (.aload_n 0, 1) := dk_42 (dk_at dksJ5_init_0 4 rfl rfl)
theorem dJ5_init_5 : decode cJ5_init 5 = .ok (.getstatic 39, 3) := dk_178 0 39 (dk_at dksJ5_init_0 5 rfl rfl)
theorem dJ5_init_8 : decode cJ5_init 8 = .ok (.putfield 9, 3) := dk_181 0 9 (dk_at dksJ5_init_0 8 rfl rfl)
theorem dJ5_init_11 : decode cJ5_init 11 = .ok (.return_, 1) := dk_177 (dk_at dksJ5_init_0 11 rfl rfl)
abbrev cJ5_size : ByteArray := prog_43_method_8_code
def yJ5_size : MethodName := ⟨RJ5, "size", "()I"⟩
theorem dJ5_size_0 : decode cJ5_size 0 = .ok (.aload_n 0, 1) := by decide +kernel
theorem dJ5_size_1 : decode cJ5_size 1 = .ok (.getfield 48, 3) := by decide +kernel
theorem dJ5_size_4 : decode cJ5_size 4 = .ok (.ireturn, 1) := by decide +kernel
abbrev cJ5_get : ByteArray := prog_43_method_20_code
def yJ5_get : MethodName := ⟨RJ5, "get", "(I)Ljava/lang/Object;"⟩
def dkwJ5_get_0 : List UInt8 := [27, 42, 180, 0, 48, 184, 0, 118, 87, 42, 27, 182, 0, 123, 176]
abbrev dktJ5_get_0 : List UInt8 := dkwJ5_get_0 ++ []
theorem dksJ5_get_0 : cJ5_get.data.toList.drop 0 = dktJ5_get_0 := by decide +kernel
theorem dJ5_get_0 : decode cJ5_get 0 = .ok (.iload_n 1, 1) := dk_27 (dk_at dksJ5_get_0 0 rfl rfl)
theorem dJ5_get_1 : decode cJ5_get 1 = .ok (.aload_n 0, 1) := dk_42 (dk_at dksJ5_get_0 1 rfl rfl)
theorem dJ5_get_2 : decode cJ5_get 2 = .ok (.getfield 48, 3) := dk_180 0 48 (dk_at dksJ5_get_0 2 rfl rfl)
theorem dJ5_get_5 : decode cJ5_get 5 = .ok (.invokestatic 118, 3) := dk_184 0 118 (dk_at dksJ5_get_0 5 rfl rfl)
theorem dJ5_get_8 : decode cJ5_get 8 = .ok (.pop, 1) := dk_87 (dk_at dksJ5_get_0 8 rfl rfl)
theorem dJ5_get_9 : decode cJ5_get 9 = .ok (.aload_n 0, 1) := dk_42 (dk_at dksJ5_get_0 9 rfl rfl)
theorem dJ5_get_10 : decode cJ5_get 10 = .ok (.iload_n 1, 1) := dk_27 (dk_at dksJ5_get_0 10 rfl rfl)
theorem dJ5_get_11 : decode cJ5_get 11 = .ok (.invokevirtual 123, 3) := dk_182 0 123 (dk_at dksJ5_get_0 11 rfl rfl)
theorem dJ5_get_14 : decode cJ5_get 14 = .ok (.areturn, 1) := dk_176 (dk_at dksJ5_get_0 14 rfl rfl)
abbrev cJ5_elementData : ByteArray := prog_43_method_18_code
def yJ5_elementData : MethodName := ⟨RJ5, "elementData", "(I)Ljava/lang/Object;"⟩
def dkwJ5_elementData_0 : List UInt8 := [42, 180, 0, 9, 27, 50, 176]
abbrev dktJ5_elementData_0 : List UInt8 := dkwJ5_elementData_0 ++ []
theorem dksJ5_elementData_0 : cJ5_elementData.data.toList.drop 0 = dktJ5_elementData_0 := by decide +kernel
theorem dJ5_elementData_0 : decode cJ5_elementData 0 = .ok (.aload_n 0, 1) := dk_42 (dk_at dksJ5_elementData_0 0 rfl rfl)
theorem dJ5_elementData_1 : decode cJ5_elementData 1 = .ok (.getfield 9, 3) := dk_180 0 9 (dk_at dksJ5_elementData_0 1 rfl rfl)
theorem dJ5_elementData_4 : decode cJ5_elementData 4 = .ok (.iload_n 1, 1) := dk_27 (dk_at dksJ5_elementData_0 4 rfl rfl)
theorem dJ5_elementData_5 : decode cJ5_elementData 5 = .ok (.aaload, 1) := dk_50 (dk_at dksJ5_elementData_0 5 rfl rfl)
theorem dJ5_elementData_6 : decode cJ5_elementData 6 = .ok (.areturn, 1) := dk_176 (dk_at dksJ5_elementData_0 6 rfl rfl)
abbrev cJ5_add : ByteArray := prog_43_method_25_code
def yJ5_add : MethodName := ⟨RJ5, "add", "(Ljava/lang/Object;)Z"⟩
def dkwJ5_add_1 : List UInt8 := [172]
abbrev dktJ5_add_1 : List UInt8 := dkwJ5_add_1 ++ []
def dkwJ5_add_0 : List UInt8 := [42, 89, 180, 0, 63, 4, 96, 181, 0, 63, 42, 43, 42, 180, 0, 9, 42, 180, 0, 48, 182, 0, 131, 4]
abbrev dktJ5_add_0 : List UInt8 := dkwJ5_add_0 ++ dktJ5_add_1
theorem dksJ5_add_0 : cJ5_add.data.toList.drop 0 = dktJ5_add_0 := by decide +kernel
theorem dksJ5_add_1 : cJ5_add.data.toList.drop 24 = dktJ5_add_1 := dk_seg dksJ5_add_0 24 rfl rfl
theorem dJ5_add_0 : decode cJ5_add 0 = .ok (.aload_n 0, 1) := dk_42 (dk_at dksJ5_add_0 0 rfl rfl)
theorem dJ5_add_1 : decode cJ5_add 1 = .ok (.dup, 1) := dk_89 (dk_at dksJ5_add_0 1 rfl rfl)
theorem dJ5_add_2 : decode cJ5_add 2 = .ok (.getfield 63, 3) := dk_180 0 63 (dk_at dksJ5_add_0 2 rfl rfl)
theorem dJ5_add_5 : decode cJ5_add 5 = .ok (.iconst 1, 1) := dk_4 (dk_at dksJ5_add_0 5 rfl rfl)
theorem dJ5_add_6 : decode cJ5_add 6 = .ok (.iadd, 1) := dk_96 (dk_at dksJ5_add_0 6 rfl rfl)
theorem dJ5_add_7 : decode cJ5_add 7 = .ok (.putfield 63, 3) := dk_181 0 63 (dk_at dksJ5_add_0 7 rfl rfl)
theorem dJ5_add_10 : decode cJ5_add 10 = .ok (.aload_n 0, 1) := dk_42 (dk_at dksJ5_add_0 10 rfl rfl)
theorem dJ5_add_11 : decode cJ5_add 11 = .ok (.aload_n 1, 1) := dk_43 (dk_at dksJ5_add_0 11 rfl rfl)
theorem dJ5_add_12 : decode cJ5_add 12 = .ok (.aload_n 0, 1) := dk_42 (dk_at dksJ5_add_0 12 rfl rfl)
theorem dJ5_add_13 : decode cJ5_add 13 = .ok (.getfield 9, 3) := dk_180 0 9 (dk_at dksJ5_add_0 13 rfl rfl)
theorem dJ5_add_16 : decode cJ5_add 16 = .ok (.aload_n 0, 1) := dk_42 (dk_at dksJ5_add_0 16 rfl rfl)
theorem dJ5_add_17 : decode cJ5_add 17 = .ok (.getfield 48, 3) := dk_180 0 48 (dk_at dksJ5_add_0 17 rfl rfl)
theorem dJ5_add_20 : decode cJ5_add 20 = .ok (.invokevirtual 131, 3) := dk_182 0 131 (dk_at dksJ5_add_0 20 rfl rfl)
theorem dJ5_add_23 : decode cJ5_add 23 = .ok (.iconst 1, 1) := dk_4 (dk_at dksJ5_add_0 23 rfl rfl)
theorem dJ5_add_24 : decode cJ5_add 24 = .ok (.ireturn, 1) := dk_172 (dk_at dksJ5_add_1 0 rfl rfl)
abbrev cJ5_add_2 : ByteArray := prog_43_method_24_code
def yJ5_add_2 : MethodName := ⟨RJ5, "add", "(Ljava/lang/Object;[Ljava/lang/Object;I)V"⟩
def dkwJ5_add_2_0 : List UInt8 := [29, 44, 190, 160, 0, 8, 42, 182, 0, 129, 77, 44, 29, 43, 83, 42, 29, 4, 96, 181, 0, 48, 177]
abbrev dktJ5_add_2_0 : List UInt8 := dkwJ5_add_2_0 ++ []
theorem dksJ5_add_2_0 : cJ5_add_2.data.toList.drop 0 = dktJ5_add_2_0 := by decide +kernel
theorem dJ5_add_2_0 : decode cJ5_add_2 0 = .ok (.iload_n 3, 1) := dk_29 (dk_at dksJ5_add_2_0 0 rfl rfl)
theorem dJ5_add_2_1 : decode cJ5_add_2 1 = .ok (.aload_n 2, 1) := dk_44 (dk_at dksJ5_add_2_0 1 rfl rfl)
theorem dJ5_add_2_2 : decode cJ5_add_2 2 = .ok (.arraylength, 1) := dk_190 (dk_at dksJ5_add_2_0 2 rfl rfl)
theorem dJ5_add_2_3 : decode cJ5_add_2 3 = .ok (.if_icmp .ne 8, 3) := dk_160 0 8 (dk_at dksJ5_add_2_0 3 rfl rfl)
theorem dJ5_add_2_6 : decode cJ5_add_2 6 = .ok (.aload_n 0, 1) := dk_42 (dk_at dksJ5_add_2_0 6 rfl rfl)
theorem dJ5_add_2_7 : decode cJ5_add_2 7 = .ok (.invokevirtual 129, 3) := dk_182 0 129 (dk_at dksJ5_add_2_0 7 rfl rfl)
theorem dJ5_add_2_10 : decode cJ5_add_2 10 = .ok (.astore_n 2, 1) := dk_77 (dk_at dksJ5_add_2_0 10 rfl rfl)
theorem dJ5_add_2_11 : decode cJ5_add_2 11 = .ok (.aload_n 2, 1) := dk_44 (dk_at dksJ5_add_2_0 11 rfl rfl)
theorem dJ5_add_2_12 : decode cJ5_add_2 12 = .ok (.iload_n 3, 1) := dk_29 (dk_at dksJ5_add_2_0 12 rfl rfl)
theorem dJ5_add_2_13 : decode cJ5_add_2 13 = .ok (.aload_n 1, 1) := dk_43 (dk_at dksJ5_add_2_0 13 rfl rfl)
theorem dJ5_add_2_14 : decode cJ5_add_2 14 = .ok (.aastore, 1) := dk_83 (dk_at dksJ5_add_2_0 14 rfl rfl)
theorem dJ5_add_2_15 : decode cJ5_add_2 15 = .ok (.aload_n 0, 1) := dk_42 (dk_at dksJ5_add_2_0 15 rfl rfl)
theorem dJ5_add_2_16 : decode cJ5_add_2 16 = .ok (.iload_n 3, 1) := dk_29 (dk_at dksJ5_add_2_0 16 rfl rfl)
theorem dJ5_add_2_17 : decode cJ5_add_2 17 = .ok (.iconst 1, 1) := dk_4 (dk_at dksJ5_add_2_0 17 rfl rfl)
theorem dJ5_add_2_18 : decode cJ5_add_2 18 = .ok (.iadd, 1) := dk_96 (dk_at dksJ5_add_2_0 18 rfl rfl)
theorem dJ5_add_2_19 : decode cJ5_add_2 19 = .ok (.putfield 48, 3) := dk_181 0 48 (dk_at dksJ5_add_2_0 19 rfl rfl)
theorem dJ5_add_2_22 : decode cJ5_add_2 22 = .ok (.return_, 1) := dk_177 (dk_at dksJ5_add_2_0 22 rfl rfl)
abbrev cJ5_grow : ByteArray := prog_43_method_7_code
def yJ5_grow : MethodName := ⟨RJ5, "grow", "()[Ljava/lang/Object;"⟩
def dkwJ5_grow_0 : List UInt8 := [42, 42, 180, 0, 48, 4, 96, 182, 0, 69, 176]
abbrev dktJ5_grow_0 : List UInt8 := dkwJ5_grow_0 ++ []
theorem dksJ5_grow_0 : cJ5_grow.data.toList.drop 0 = dktJ5_grow_0 := by decide +kernel
theorem dJ5_grow_0 : decode cJ5_grow 0 = .ok (.aload_n 0, 1) := dk_42 (dk_at dksJ5_grow_0 0 rfl rfl)
theorem dJ5_grow_1 : decode cJ5_grow 1 = .ok (.aload_n 0, 1) := dk_42 (dk_at dksJ5_grow_0 1 rfl rfl)
theorem dJ5_grow_2 : decode cJ5_grow 2 = .ok (.getfield 48, 3) := dk_180 0 48 (dk_at dksJ5_grow_0 2 rfl rfl)
theorem dJ5_grow_5 : decode cJ5_grow 5 = .ok (.iconst 1, 1) := dk_4 (dk_at dksJ5_grow_0 5 rfl rfl)
theorem dJ5_grow_6 : decode cJ5_grow 6 = .ok (.iadd, 1) := dk_96 (dk_at dksJ5_grow_0 6 rfl rfl)
theorem dJ5_grow_7 : decode cJ5_grow 7 = .ok (.invokevirtual 69, 3) := dk_182 0 69 (dk_at dksJ5_grow_0 7 rfl rfl)
theorem dJ5_grow_10 : decode cJ5_grow 10 = .ok (.areturn, 1) := dk_176 (dk_at dksJ5_grow_0 10 rfl rfl)
abbrev cJ5_grow_2 : ByteArray := prog_43_method_6_code
def yJ5_grow_2 : MethodName := ⟨RJ5, "grow", "(I)[Ljava/lang/Object;"⟩
def dkwJ5_grow_2_2 : List UInt8 := [27, 184, 0, 79, 189, 0, 7, 90, 181, 0, 9, 176]
abbrev dktJ5_grow_2_2 : List UInt8 := dkwJ5_grow_2_2 ++ []
def dkwJ5_grow_2_1 : List UInt8 := [28, 4, 122, 184, 0, 73, 62, 42, 42, 180, 0, 9, 29, 184, 0, 66, 90, 181, 0, 9, 176, 42, 16, 10]
abbrev dktJ5_grow_2_1 : List UInt8 := dkwJ5_grow_2_1 ++ dktJ5_grow_2_2
def dkwJ5_grow_2_0 : List UInt8 := [42, 180, 0, 9, 190, 61, 28, 157, 0, 13, 42, 180, 0, 9, 178, 0, 39, 165, 0, 28, 28, 27, 28, 100]
abbrev dktJ5_grow_2_0 : List UInt8 := dkwJ5_grow_2_0 ++ dktJ5_grow_2_1
theorem dksJ5_grow_2_0 : cJ5_grow_2.data.toList.drop 0 = dktJ5_grow_2_0 := by decide +kernel
theorem dksJ5_grow_2_1 : cJ5_grow_2.data.toList.drop 24 = dktJ5_grow_2_1 := dk_seg dksJ5_grow_2_0 24 rfl rfl
theorem dksJ5_grow_2_2 : cJ5_grow_2.data.toList.drop 48 = dktJ5_grow_2_2 := dk_seg dksJ5_grow_2_1 24 rfl rfl
theorem dJ5_grow_2_0 : decode cJ5_grow_2 0 = .ok (.aload_n 0, 1) := dk_42 (dk_at dksJ5_grow_2_0 0 rfl rfl)
theorem dJ5_grow_2_1 : decode cJ5_grow_2 1 = .ok (.getfield 9, 3) := dk_180 0 9 (dk_at dksJ5_grow_2_0 1 rfl rfl)
theorem dJ5_grow_2_4 : decode cJ5_grow_2 4 = .ok (.arraylength, 1) := dk_190 (dk_at dksJ5_grow_2_0 4 rfl rfl)
theorem dJ5_grow_2_5 : decode cJ5_grow_2 5 = .ok (.istore_n 2, 1) := dk_61 (dk_at dksJ5_grow_2_0 5 rfl rfl)
theorem dJ5_grow_2_6 : decode cJ5_grow_2 6 = .ok (.iload_n 2, 1) := dk_28 (dk_at dksJ5_grow_2_0 6 rfl rfl)
theorem dJ5_grow_2_7 : decode cJ5_grow_2 7 = .ok (.ifCond .gt 13, 3) := dk_157 0 13 (dk_at dksJ5_grow_2_0 7 rfl rfl)
theorem dJ5_grow_2_10 : decode cJ5_grow_2 10 = .ok (.aload_n 0, 1) := dk_42 (dk_at dksJ5_grow_2_0 10 rfl rfl)
theorem dJ5_grow_2_11 : decode cJ5_grow_2 11 = .ok (.getfield 9, 3) := dk_180 0 9 (dk_at dksJ5_grow_2_0 11 rfl rfl)
theorem dJ5_grow_2_14 : decode cJ5_grow_2 14 = .ok (.getstatic 39, 3) := dk_178 0 39 (dk_at dksJ5_grow_2_0 14 rfl rfl)
theorem dJ5_grow_2_17 : decode cJ5_grow_2 17 = .ok (.if_acmp .eq 28, 3) := dk_165 0 28 (dk_at dksJ5_grow_2_0 17 rfl rfl)
theorem dJ5_grow_2_20 : decode cJ5_grow_2 20 = .ok (.iload_n 2, 1) := dk_28 (dk_at dksJ5_grow_2_0 20 rfl rfl)
theorem dJ5_grow_2_21 : decode cJ5_grow_2 21 = .ok (.iload_n 1, 1) := dk_27 (dk_at dksJ5_grow_2_0 21 rfl rfl)
theorem dJ5_grow_2_22 : decode cJ5_grow_2 22 = .ok (.iload_n 2, 1) := dk_28 (dk_at dksJ5_grow_2_0 22 rfl rfl)
theorem dJ5_grow_2_23 : decode cJ5_grow_2 23 = .ok (.isub, 1) := dk_100 (dk_at dksJ5_grow_2_0 23 rfl rfl)
theorem dJ5_grow_2_24 : decode cJ5_grow_2 24 = .ok (.iload_n 2, 1) := dk_28 (dk_at dksJ5_grow_2_1 0 rfl rfl)
theorem dJ5_grow_2_25 : decode cJ5_grow_2 25 = .ok (.iconst 1, 1) := dk_4 (dk_at dksJ5_grow_2_1 1 rfl rfl)
theorem dJ5_grow_2_26 : decode cJ5_grow_2 26 = .ok (.ishr, 1) := dk_122 (dk_at dksJ5_grow_2_1 2 rfl rfl)
theorem dJ5_grow_2_27 : decode cJ5_grow_2 27 = .ok (.invokestatic 73, 3) := dk_184 0 73 (dk_at dksJ5_grow_2_1 3 rfl rfl)
theorem dJ5_grow_2_30 : decode cJ5_grow_2 30 = .ok (.istore_n 3, 1) := dk_62 (dk_at dksJ5_grow_2_1 6 rfl rfl)
theorem dJ5_grow_2_31 : decode cJ5_grow_2 31 = .ok (.aload_n 0, 1) := dk_42 (dk_at dksJ5_grow_2_1 7 rfl rfl)
theorem dJ5_grow_2_32 : decode cJ5_grow_2 32 = .ok (.aload_n 0, 1) := dk_42 (dk_at dksJ5_grow_2_1 8 rfl rfl)
theorem dJ5_grow_2_33 : decode cJ5_grow_2 33 = .ok (.getfield 9, 3) := dk_180 0 9 (dk_at dksJ5_grow_2_1 9 rfl rfl)
theorem dJ5_grow_2_36 : decode cJ5_grow_2 36 = .ok (.iload_n 3, 1) := dk_29 (dk_at dksJ5_grow_2_1 12 rfl rfl)
theorem dJ5_grow_2_37 : decode cJ5_grow_2 37 = .ok (.invokestatic 66, 3) := dk_184 0 66 (dk_at dksJ5_grow_2_1 13 rfl rfl)
theorem dJ5_grow_2_40 : decode cJ5_grow_2 40 = .ok (.dup_x1, 1) := dk_90 (dk_at dksJ5_grow_2_1 16 rfl rfl)
theorem dJ5_grow_2_41 : decode cJ5_grow_2 41 = .ok (.putfield 9, 3) := dk_181 0 9 (dk_at dksJ5_grow_2_1 17 rfl rfl)
theorem dJ5_grow_2_44 : decode cJ5_grow_2 44 = .ok (.areturn, 1) := dk_176 (dk_at dksJ5_grow_2_1 20 rfl rfl)
theorem dJ5_grow_2_45 : decode cJ5_grow_2 45 = .ok (.aload_n 0, 1) := dk_42 (dk_at dksJ5_grow_2_1 21 rfl rfl)
theorem dJ5_grow_2_46 : decode cJ5_grow_2 46 = .ok (.bipush 10, 2) := dk_16 10 (dk_at dksJ5_grow_2_1 22 rfl rfl)
theorem dJ5_grow_2_48 : decode cJ5_grow_2 48 = .ok (.iload_n 1, 1) := dk_27 (dk_at dksJ5_grow_2_2 0 rfl rfl)
theorem dJ5_grow_2_49 : decode cJ5_grow_2 49 = .ok (.invokestatic 79, 3) := dk_184 0 79 (dk_at dksJ5_grow_2_2 1 rfl rfl)
theorem dJ5_grow_2_52 : decode cJ5_grow_2 52 = .ok (.anewarray 7, 3) := dk_189 0 7 (dk_at dksJ5_grow_2_2 4 rfl rfl)
theorem dJ5_grow_2_55 : decode cJ5_grow_2 55 = .ok (.dup_x1, 1) := dk_90 (dk_at dksJ5_grow_2_2 7 rfl rfl)
theorem dJ5_grow_2_56 : decode cJ5_grow_2 56 = .ok (.putfield 9, 3) := dk_181 0 9 (dk_at dksJ5_grow_2_2 8 rfl rfl)
theorem dJ5_grow_2_59 : decode cJ5_grow_2 59 = .ok (.areturn, 1) := dk_176 (dk_at dksJ5_grow_2_2 11 rfl rfl)
def mJ5_init : am_M := (yJ5_init, cJ5_init, 1, none, [])
theorem okJ5_init : am_Ok mJ5_init 0 := ⟨rfl, q328, q124, ⟨by decide +kernel, by decide +kernel, by decide +kernel⟩, by decide, by decide +kernel⟩
def mJ5_size : am_M := (yJ5_size, cJ5_size, 1, (some .int), [])
theorem okJ5_size : am_Ok mJ5_size 0 := ⟨rfl, q528, q124, ⟨by decide +kernel, by decide +kernel, by decide +kernel⟩, by decide, by decide +kernel⟩
def mJ5_get : am_M := (yJ5_get, cJ5_get, 2, (some (.object "java/lang/Object")), [])
theorem okJ5_get : am_Ok mJ5_get 1 := ⟨rfl, q532, q124, ⟨by decide +kernel, by decide +kernel, by decide +kernel⟩, by decide, by decide +kernel⟩
def mJ5_elementData : am_M := (yJ5_elementData, cJ5_elementData, 2, (some (.object "java/lang/Object")), [])
theorem okJ5_elementData : am_Ok mJ5_elementData 1 := ⟨rfl, q542, q124, ⟨by decide +kernel, by decide +kernel, by decide +kernel⟩, by decide, by decide +kernel⟩
def mJ5_add : am_M := (yJ5_add, cJ5_add, 2, (some .boolean), [])
theorem okJ5_add : am_Ok mJ5_add 1 := ⟨rfl, q1024, q124, ⟨by decide +kernel, by decide +kernel, by decide +kernel⟩, by decide, by decide +kernel⟩
def mJ5_add_2 : am_M := (yJ5_add_2, cJ5_add_2, 4, none, [])
theorem okJ5_add_2 : am_Ok mJ5_add_2 3 := ⟨rfl, q1028, q124, ⟨by decide +kernel, by decide +kernel, by decide +kernel⟩, by decide, by decide +kernel⟩
def mJ5_grow : am_M := (yJ5_grow, cJ5_grow, 1, (some (.array (.object "java/lang/Object"))), [])
theorem okJ5_grow : am_Ok mJ5_grow 0 := ⟨rfl, q1032, q124, ⟨by decide +kernel, by decide +kernel, by decide +kernel⟩, by decide, by decide +kernel⟩
def mJ5_grow_2 : am_M := (yJ5_grow_2, cJ5_grow_2, 4, (some (.array (.object "java/lang/Object"))), [])
theorem okJ5_grow_2 : am_Ok mJ5_grow_2 1 := ⟨rfl, q1036, q124, ⟨by decide +kernel, by decide +kernel, by decide +kernel⟩, by decide, by decide +kernel⟩
def RJ6 : String := "java/util/Objects"
/-! java/util/Objects -/
abbrev cJ6_checkIndex : ByteArray := prog_47_method_17_code
def yJ6_checkIndex : MethodName := ⟨RJ6, "checkIndex", "(II)I"⟩
def dkwJ6_checkIndex_0 : List UInt8 := [26, 27, 1, 184, 0, 105, 172]
abbrev dktJ6_checkIndex_0 : List UInt8 := dkwJ6_checkIndex_0 ++ []
theorem dksJ6_checkIndex_0 : cJ6_checkIndex.data.toList.drop 0 = dktJ6_checkIndex_0 := by decide +kernel
theorem dJ6_checkIndex_0 : decode cJ6_checkIndex 0 = .ok (.iload_n 0, 1) := dk_26 (dk_at dksJ6_checkIndex_0 0 rfl rfl)
theorem dJ6_checkIndex_1 : decode cJ6_checkIndex 1 = .ok (.iload_n 1, 1) := dk_27 (dk_at dksJ6_checkIndex_0 1 rfl rfl)
theorem dJ6_checkIndex_2 : decode cJ6_checkIndex 2 = .ok (.aconst_null, 1) := dk_1 (dk_at dksJ6_checkIndex_0 2 rfl rfl)
theorem dJ6_checkIndex_3 : decode cJ6_checkIndex 3 = .ok (.invokestatic 105, 3) := dk_184 0 105 (dk_at dksJ6_checkIndex_0 3 rfl rfl)
theorem dJ6_checkIndex_6 : decode cJ6_checkIndex 6 = .ok (.ireturn, 1) := dk_172 (dk_at dksJ6_checkIndex_0 6 rfl rfl)
def mJ6_checkIndex : am_M := (yJ6_checkIndex, cJ6_checkIndex, 2, (some .int), [])
theorem okJ6_checkIndex : am_Ok mJ6_checkIndex 2 := ⟨rfl, q535, q133, ⟨by decide +kernel, by decide +kernel, by decide +kernel⟩, by decide, by decide +kernel⟩
def RJ7 : String := "jdk/internal/util/Preconditions"
/-! jdk/internal/util/Preconditions -/
abbrev cJ7_checkIndex : ByteArray := prog_51_method_11_code
def yJ7_checkIndex : MethodName := ⟨RJ7, "checkIndex", "(IILjava/util/function/BiFunction;)I"⟩
def dkwJ7_checkIndex_0 : List UInt8 := [26, 155, 0, 8, 26, 27, 161, 0, 10, 44, 26, 27, 184, 0, 95, 191, 26, 172]
abbrev dktJ7_checkIndex_0 : List UInt8 := dkwJ7_checkIndex_0 ++ []
theorem dksJ7_checkIndex_0 : cJ7_checkIndex.data.toList.drop 0 = dktJ7_checkIndex_0 := by decide +kernel
theorem dJ7_checkIndex_0 : decode cJ7_checkIndex 0 = .ok (.iload_n 0, 1) := dk_26 (dk_at dksJ7_checkIndex_0 0 rfl rfl)
theorem dJ7_checkIndex_1 : decode cJ7_checkIndex 1 = .ok (.ifCond .lt 8, 3) := dk_155 0 8 (dk_at dksJ7_checkIndex_0 1 rfl rfl)
theorem dJ7_checkIndex_4 : decode cJ7_checkIndex 4 = .ok (.iload_n 0, 1) := dk_26 (dk_at dksJ7_checkIndex_0 4 rfl rfl)
theorem dJ7_checkIndex_5 : decode cJ7_checkIndex 5 = .ok (.iload_n 1, 1) := dk_27 (dk_at dksJ7_checkIndex_0 5 rfl rfl)
theorem dJ7_checkIndex_6 : decode cJ7_checkIndex 6 = .ok (.if_icmp .lt 10, 3) := dk_161 0 10 (dk_at dksJ7_checkIndex_0 6 rfl rfl)
theorem dJ7_checkIndex_9 : decode cJ7_checkIndex 9 = .ok (.aload_n 2, 1) := dk_44 (dk_at dksJ7_checkIndex_0 9 rfl rfl)
theorem dJ7_checkIndex_10 : decode cJ7_checkIndex 10 = .ok (.iload_n 0, 1) := dk_26 (dk_at dksJ7_checkIndex_0 10 rfl rfl)
theorem dJ7_checkIndex_11 : decode cJ7_checkIndex 11 = .ok (.iload_n 1, 1) := dk_27 (dk_at dksJ7_checkIndex_0 11 rfl rfl)
theorem dJ7_checkIndex_12 : decode cJ7_checkIndex 12 = .ok (.invokestatic 95, 3) := dk_184 0 95 (dk_at dksJ7_checkIndex_0 12 rfl rfl)
theorem dJ7_checkIndex_15 : decode cJ7_checkIndex 15 = .ok (.athrow, 1) := dk_191 (dk_at dksJ7_checkIndex_0 15 rfl rfl)
theorem dJ7_checkIndex_16 : decode cJ7_checkIndex 16 = .ok (.iload_n 0, 1) := dk_26 (dk_at dksJ7_checkIndex_0 16 rfl rfl)
theorem dJ7_checkIndex_17 : decode cJ7_checkIndex 17 = .ok (.ireturn, 1) := dk_172 (dk_at dksJ7_checkIndex_0 17 rfl rfl)
abbrev cJ7_checkFromIndexSize : ByteArray := prog_51_method_13_code
def yJ7_checkFromIndexSize : MethodName := ⟨RJ7, "checkFromIndexSize", "(IIILjava/util/function/BiFunction;)I"⟩
def dkwJ7_checkFromIndexSize_1 : List UInt8 := [172]
abbrev dktJ7_checkFromIndexSize_1 : List UInt8 := dkwJ7_checkFromIndexSize_1 ++ []
def dkwJ7_checkFromIndexSize_0 : List UInt8 := [28, 26, 128, 27, 128, 155, 0, 10, 27, 28, 26, 100, 164, 0, 11, 45, 26, 27, 28, 184, 0, 103, 191, 26]
abbrev dktJ7_checkFromIndexSize_0 : List UInt8 := dkwJ7_checkFromIndexSize_0 ++ dktJ7_checkFromIndexSize_1
theorem dksJ7_checkFromIndexSize_0 : cJ7_checkFromIndexSize.data.toList.drop 0 = dktJ7_checkFromIndexSize_0 := by decide +kernel
theorem dksJ7_checkFromIndexSize_1 : cJ7_checkFromIndexSize.data.toList.drop 24 = dktJ7_checkFromIndexSize_1 := dk_seg dksJ7_checkFromIndexSize_0 24 rfl rfl
theorem dJ7_checkFromIndexSize_0 : decode cJ7_checkFromIndexSize 0 = .ok (.iload_n 2, 1) := dk_28 (dk_at dksJ7_checkFromIndexSize_0 0 rfl rfl)
theorem dJ7_checkFromIndexSize_1 : decode cJ7_checkFromIndexSize 1 = .ok (.iload_n 0, 1) := dk_26 (dk_at dksJ7_checkFromIndexSize_0 1 rfl rfl)
theorem dJ7_checkFromIndexSize_2 : decode cJ7_checkFromIndexSize 2 = .ok (.ior, 1) := dk_128 (dk_at dksJ7_checkFromIndexSize_0 2 rfl rfl)
theorem dJ7_checkFromIndexSize_3 : decode cJ7_checkFromIndexSize 3 = .ok (.iload_n 1, 1) := dk_27 (dk_at dksJ7_checkFromIndexSize_0 3 rfl rfl)
theorem dJ7_checkFromIndexSize_4 : decode cJ7_checkFromIndexSize 4 = .ok (.ior, 1) := dk_128 (dk_at dksJ7_checkFromIndexSize_0 4 rfl rfl)
theorem dJ7_checkFromIndexSize_5 : decode cJ7_checkFromIndexSize 5 = .ok (.ifCond .lt 10, 3) := dk_155 0 10 (dk_at dksJ7_checkFromIndexSize_0 5 rfl rfl)
theorem dJ7_checkFromIndexSize_8 : decode cJ7_checkFromIndexSize 8 = .ok (.iload_n 1, 1) := dk_27 (dk_at dksJ7_checkFromIndexSize_0 8 rfl rfl)
theorem dJ7_checkFromIndexSize_9 : decode cJ7_checkFromIndexSize 9 = .ok (.iload_n 2, 1) := dk_28 (dk_at dksJ7_checkFromIndexSize_0 9 rfl rfl)
theorem dJ7_checkFromIndexSize_10 : decode cJ7_checkFromIndexSize 10 = .ok (.iload_n 0, 1) := dk_26 (dk_at dksJ7_checkFromIndexSize_0 10 rfl rfl)
theorem dJ7_checkFromIndexSize_11 : decode cJ7_checkFromIndexSize 11 = .ok (.isub, 1) := dk_100 (dk_at dksJ7_checkFromIndexSize_0 11 rfl rfl)
theorem dJ7_checkFromIndexSize_12 : decode cJ7_checkFromIndexSize 12 = .ok (.if_icmp .le 11, 3) := dk_164 0 11 (dk_at dksJ7_checkFromIndexSize_0 12 rfl rfl)
theorem dJ7_checkFromIndexSize_15 : decode cJ7_checkFromIndexSize 15 = .ok (.aload_n 3, 1) := dk_45 (dk_at dksJ7_checkFromIndexSize_0 15 rfl rfl)
theorem dJ7_checkFromIndexSize_16 : decode cJ7_checkFromIndexSize 16 = .ok (.iload_n 0, 1) := dk_26 (dk_at dksJ7_checkFromIndexSize_0 16 rfl rfl)
theorem dJ7_checkFromIndexSize_17 : decode cJ7_checkFromIndexSize 17 = .ok (.iload_n 1, 1) := dk_27 (dk_at dksJ7_checkFromIndexSize_0 17 rfl rfl)
theorem dJ7_checkFromIndexSize_18 : decode cJ7_checkFromIndexSize 18 = .ok (.iload_n 2, 1) := dk_28 (dk_at dksJ7_checkFromIndexSize_0 18 rfl rfl)
theorem dJ7_checkFromIndexSize_19 : decode cJ7_checkFromIndexSize 19 = .ok (.invokestatic 103, 3) := dk_184 0 103 (dk_at dksJ7_checkFromIndexSize_0 19 rfl rfl)
theorem dJ7_checkFromIndexSize_22 : decode cJ7_checkFromIndexSize 22 = .ok (.athrow, 1) := dk_191 (dk_at dksJ7_checkFromIndexSize_0 22 rfl rfl)
theorem dJ7_checkFromIndexSize_23 : decode cJ7_checkFromIndexSize 23 = .ok (.iload_n 0, 1) := dk_26 (dk_at dksJ7_checkFromIndexSize_0 23 rfl rfl)
theorem dJ7_checkFromIndexSize_24 : decode cJ7_checkFromIndexSize 24 = .ok (.ireturn, 1) := dk_172 (dk_at dksJ7_checkFromIndexSize_1 0 rfl rfl)
def mJ7_checkIndex : am_M := (yJ7_checkIndex, cJ7_checkIndex, 3, (some .int), [])
theorem okJ7_checkIndex : am_Ok mJ7_checkIndex 3 := ⟨rfl, q538, q134, ⟨by decide +kernel, by decide +kernel, by decide +kernel⟩, by decide, by decide +kernel⟩
def mJ7_checkFromIndexSize : am_M := (yJ7_checkFromIndexSize, cJ7_checkFromIndexSize, 4, (some .int), [])
theorem okJ7_checkFromIndexSize : am_Ok mJ7_checkFromIndexSize 4 := ⟨rfl, q893, q134, ⟨by decide +kernel, by decide +kernel, by decide +kernel⟩, by decide, by decide +kernel⟩
def RJ8 : String := "java/lang/Math"
/-! java/lang/Math -/
abbrev cJ8_max : ByteArray := prog_31_method_65_code
def yJ8_max : MethodName := ⟨RJ8, "max", "(II)I"⟩
def dkwJ8_max_0 : List UInt8 := [26, 27, 161, 0, 7, 26, 167, 0, 4, 27, 172]
abbrev dktJ8_max_0 : List UInt8 := dkwJ8_max_0 ++ []
theorem dksJ8_max_0 : cJ8_max.data.toList.drop 0 = dktJ8_max_0 := by decide +kernel
theorem dJ8_max_0 : decode cJ8_max 0 = .ok (.iload_n 0, 1) := dk_26 (dk_at dksJ8_max_0 0 rfl rfl)
theorem dJ8_max_1 : decode cJ8_max 1 = .ok (.iload_n 1, 1) := dk_27 (dk_at dksJ8_max_0 1 rfl rfl)
theorem dJ8_max_2 : decode cJ8_max 2 = .ok (.if_icmp .lt 7, 3) := dk_161 0 7 (dk_at dksJ8_max_0 2 rfl rfl)
theorem dJ8_max_5 : decode cJ8_max 5 = .ok (.iload_n 0, 1) := dk_26 (dk_at dksJ8_max_0 5 rfl rfl)
theorem dJ8_max_6 : decode cJ8_max 6 = .ok (.goto 4, 3) := dk_167 0 4 (dk_at dksJ8_max_0 6 rfl rfl)
theorem dJ8_max_9 : decode cJ8_max 9 = .ok (.iload_n 1, 1) := dk_27 (dk_at dksJ8_max_0 9 rfl rfl)
theorem dJ8_max_10 : decode cJ8_max 10 = .ok (.ireturn, 1) := dk_172 (dk_at dksJ8_max_0 10 rfl rfl)
abbrev cJ8_min : ByteArray := prog_31_method_69_code
def yJ8_min : MethodName := ⟨RJ8, "min", "(II)I"⟩
def dkwJ8_min_0 : List UInt8 := [26, 27, 163, 0, 7, 26, 167, 0, 4, 27, 172]
abbrev dktJ8_min_0 : List UInt8 := dkwJ8_min_0 ++ []
theorem dksJ8_min_0 : cJ8_min.data.toList.drop 0 = dktJ8_min_0 := by decide +kernel
theorem dJ8_min_0 : decode cJ8_min 0 = .ok (.iload_n 0, 1) := dk_26 (dk_at dksJ8_min_0 0 rfl rfl)
theorem dJ8_min_1 : decode cJ8_min 1 = .ok (.iload_n 1, 1) := dk_27 (dk_at dksJ8_min_0 1 rfl rfl)
theorem dJ8_min_2 : decode cJ8_min 2 = .ok (.if_icmp .gt 7, 3) := dk_163 0 7 (dk_at dksJ8_min_0 2 rfl rfl)
theorem dJ8_min_5 : decode cJ8_min 5 = .ok (.iload_n 0, 1) := dk_26 (dk_at dksJ8_min_0 5 rfl rfl)
theorem dJ8_min_6 : decode cJ8_min 6 = .ok (.goto 4, 3) := dk_167 0 4 (dk_at dksJ8_min_0 6 rfl rfl)
theorem dJ8_min_9 : decode cJ8_min 9 = .ok (.iload_n 1, 1) := dk_27 (dk_at dksJ8_min_0 9 rfl rfl)
theorem dJ8_min_10 : decode cJ8_min 10 = .ok (.ireturn, 1) := dk_172 (dk_at dksJ8_min_0 10 rfl rfl)
abbrev cJ8_abs : ByteArray := prog_31_method_59_code
def yJ8_abs : MethodName := ⟨RJ8, "abs", "(I)I"⟩
def dkwJ8_abs_0 : List UInt8 := [26, 156, 0, 8, 26, 116, 167, 0, 4, 26, 172]
abbrev dktJ8_abs_0 : List UInt8 := dkwJ8_abs_0 ++ []
theorem dksJ8_abs_0 : cJ8_abs.data.toList.drop 0 = dktJ8_abs_0 := by decide +kernel
theorem dJ8_abs_0 : decode cJ8_abs 0 = .ok (.iload_n 0, 1) := dk_26 (dk_at dksJ8_abs_0 0 rfl rfl)
theorem dJ8_abs_1 : decode cJ8_abs 1 = .ok (.ifCond .ge 8, 3) := dk_156 0 8 (dk_at dksJ8_abs_0 1 rfl rfl)
theorem dJ8_abs_4 : decode cJ8_abs 4 = .ok (.iload_n 0, 1) := dk_26 (dk_at dksJ8_abs_0 4 rfl rfl)
theorem dJ8_abs_5 : decode cJ8_abs 5 = .ok (.ineg, 1) := dk_116 (dk_at dksJ8_abs_0 5 rfl rfl)
theorem dJ8_abs_6 : decode cJ8_abs 6 = .ok (.goto 4, 3) := dk_167 0 4 (dk_at dksJ8_abs_0 6 rfl rfl)
theorem dJ8_abs_9 : decode cJ8_abs 9 = .ok (.iload_n 0, 1) := dk_26 (dk_at dksJ8_abs_0 9 rfl rfl)
theorem dJ8_abs_10 : decode cJ8_abs 10 = .ok (.ireturn, 1) := dk_172 (dk_at dksJ8_abs_0 10 rfl rfl)
def mJ8_max : am_M := (yJ8_max, cJ8_max, 2, (some .int), [])
def mJ8_min : am_M := (yJ8_min, cJ8_min, 2, (some .int), [])
def mJ8_abs : am_M := (yJ8_abs, cJ8_abs, 1, (some .int), [])
/-! java/lang/String -/
abbrev cJ9_length : ByteArray := prog_33_method_54_code
def yJ9_length : MethodName := ⟨RJ9, "length", "()I"⟩
def dkwJ9_length_0 : List UInt8 := [42, 180, 0, 9, 190, 42, 182, 1, 79, 122, 172]
abbrev dktJ9_length_0 : List UInt8 := dkwJ9_length_0 ++ []
theorem dksJ9_length_0 : cJ9_length.data.toList.drop 0 = dktJ9_length_0 := by decide +kernel
theorem dJ9_length_0 : decode cJ9_length 0 = .ok (.aload_n 0, 1) := dk_42 (dk_at dksJ9_length_0 0 rfl rfl)
theorem dJ9_length_1 : decode cJ9_length 1 = .ok (.getfield 9, 3) := dk_180 0 9 (dk_at dksJ9_length_0 1 rfl rfl)
theorem dJ9_length_4 : decode cJ9_length 4 = .ok (.arraylength, 1) := dk_190 (dk_at dksJ9_length_0 4 rfl rfl)
theorem dJ9_length_5 : decode cJ9_length 5 = .ok (.aload_n 0, 1) := dk_42 (dk_at dksJ9_length_0 5 rfl rfl)
theorem dJ9_length_6 : decode cJ9_length 6 = .ok (.invokevirtual 335, 3) := dk_182 1 79 (dk_at dksJ9_length_0 6 rfl rfl)
theorem dJ9_length_9 : decode cJ9_length 9 = .ok (.ishr, 1) := dk_122 (dk_at dksJ9_length_0 9 rfl rfl)
theorem dJ9_length_10 : decode cJ9_length 10 = .ok (.ireturn, 1) := dk_172 (dk_at dksJ9_length_0 10 rfl rfl)
abbrev cJ9_coder : ByteArray := prog_33_method_152_code
def yJ9_coder : MethodName := ⟨RJ9, "coder", "()B"⟩
def dkwJ9_coder_0 : List UInt8 := [178, 0, 38, 153, 0, 10, 42, 180, 0, 15, 167, 0, 4, 4, 172]
abbrev dktJ9_coder_0 : List UInt8 := dkwJ9_coder_0 ++ []
theorem dksJ9_coder_0 : cJ9_coder.data.toList.drop 0 = dktJ9_coder_0 := by decide +kernel
theorem dJ9_coder_0 : decode cJ9_coder 0 = .ok (.getstatic 38, 3) := dk_178 0 38 (dk_at dksJ9_coder_0 0 rfl rfl)
theorem dJ9_coder_3 : decode cJ9_coder 3 = .ok (.ifCond .eq 10, 3) := dk_153 0 10 (dk_at dksJ9_coder_0 3 rfl rfl)
theorem dJ9_coder_6 : decode cJ9_coder 6 = .ok (.aload_n 0, 1) := dk_42 (dk_at dksJ9_coder_0 6 rfl rfl)
theorem dJ9_coder_7 : decode cJ9_coder 7 = .ok (.getfield 15, 3) := dk_180 0 15 (dk_at dksJ9_coder_0 7 rfl rfl)
theorem dJ9_coder_10 : decode cJ9_coder 10 = .ok (.goto 4, 3) := dk_167 0 4 (dk_at dksJ9_coder_0 10 rfl rfl)
theorem dJ9_coder_13 : decode cJ9_coder 13 = .ok (.iconst 1, 1) := dk_4 (dk_at dksJ9_coder_0 13 rfl rfl)
theorem dJ9_coder_14 : decode cJ9_coder 14 = .ok (.ireturn, 1) := dk_172 (dk_at dksJ9_coder_0 14 rfl rfl)
abbrev cJ9_charAt : ByteArray := prog_33_method_56_code
def yJ9_charAt : MethodName := ⟨RJ9, "charAt", "(I)C"⟩
def dkwJ9_charAt_1 : List UInt8 := [172]
abbrev dktJ9_charAt_1 : List UInt8 := dkwJ9_charAt_1 ++ []
def dkwJ9_charAt_0 : List UInt8 := [42, 182, 1, 236, 153, 0, 12, 42, 180, 0, 9, 27, 184, 1, 239, 172, 42, 180, 0, 9, 27, 184, 1, 242]
abbrev dktJ9_charAt_0 : List UInt8 := dkwJ9_charAt_0 ++ dktJ9_charAt_1
theorem dksJ9_charAt_0 : cJ9_charAt.data.toList.drop 0 = dktJ9_charAt_0 := by decide +kernel
theorem dksJ9_charAt_1 : cJ9_charAt.data.toList.drop 24 = dktJ9_charAt_1 := dk_seg dksJ9_charAt_0 24 rfl rfl
theorem dJ9_charAt_0 : decode cJ9_charAt 0 = .ok (.aload_n 0, 1) := dk_42 (dk_at dksJ9_charAt_0 0 rfl rfl)
theorem dJ9_charAt_1 : decode cJ9_charAt 1 = .ok (.invokevirtual 492, 3) := dk_182 1 236 (dk_at dksJ9_charAt_0 1 rfl rfl)
theorem dJ9_charAt_4 : decode cJ9_charAt 4 = .ok (.ifCond .eq 12, 3) := dk_153 0 12 (dk_at dksJ9_charAt_0 4 rfl rfl)
theorem dJ9_charAt_7 : decode cJ9_charAt 7 = .ok (.aload_n 0, 1) := dk_42 (dk_at dksJ9_charAt_0 7 rfl rfl)
theorem dJ9_charAt_8 : decode cJ9_charAt 8 = .ok (.getfield 9, 3) := dk_180 0 9 (dk_at dksJ9_charAt_0 8 rfl rfl)
theorem dJ9_charAt_11 : decode cJ9_charAt 11 = .ok (.iload_n 1, 1) := dk_27 (dk_at dksJ9_charAt_0 11 rfl rfl)
theorem dJ9_charAt_12 : decode cJ9_charAt 12 = .ok (.invokestatic 495, 3) := dk_184 1 239 (dk_at dksJ9_charAt_0 12 rfl rfl)
theorem dJ9_charAt_15 : decode cJ9_charAt 15 = .ok (.ireturn, 1) := dk_172 (dk_at dksJ9_charAt_0 15 rfl rfl)
theorem dJ9_charAt_16 : decode cJ9_charAt 16 = .ok (.aload_n 0, 1) := dk_42 (dk_at dksJ9_charAt_0 16 rfl rfl)
theorem dJ9_charAt_17 : decode cJ9_charAt 17 = .ok (.getfield 9, 3) := dk_180 0 9 (dk_at dksJ9_charAt_0 17 rfl rfl)
theorem dJ9_charAt_20 : decode cJ9_charAt 20 = .ok (.iload_n 1, 1) := dk_27 (dk_at dksJ9_charAt_0 20 rfl rfl)
theorem dJ9_charAt_21 : decode cJ9_charAt 21 = .ok (.invokestatic 498, 3) := dk_184 1 242 (dk_at dksJ9_charAt_0 21 rfl rfl)
theorem dJ9_charAt_24 : decode cJ9_charAt 24 = .ok (.ireturn, 1) := dk_172 (dk_at dksJ9_charAt_1 0 rfl rfl)
abbrev cJ9_isLatin1 : ByteArray := prog_33_method_154_code
def yJ9_isLatin1 : MethodName := ⟨RJ9, "isLatin1", "()Z"⟩
def dkwJ9_isLatin1_0 : List UInt8 := [178, 0, 38, 153, 0, 14, 42, 180, 0, 15, 154, 0, 7, 4, 167, 0, 4, 3, 172]
abbrev dktJ9_isLatin1_0 : List UInt8 := dkwJ9_isLatin1_0 ++ []
theorem dksJ9_isLatin1_0 : cJ9_isLatin1.data.toList.drop 0 = dktJ9_isLatin1_0 := by decide +kernel
theorem dJ9_isLatin1_0 : decode cJ9_isLatin1 0 = .ok (.getstatic 38, 3) := dk_178 0 38 (dk_at dksJ9_isLatin1_0 0 rfl rfl)
theorem dJ9_isLatin1_3 : decode cJ9_isLatin1 3 = .ok (.ifCond .eq 14, 3) := dk_153 0 14 (dk_at dksJ9_isLatin1_0 3 rfl rfl)
theorem dJ9_isLatin1_6 : decode cJ9_isLatin1 6 = .ok (.aload_n 0, 1) := dk_42 (dk_at dksJ9_isLatin1_0 6 rfl rfl)
theorem dJ9_isLatin1_7 : decode cJ9_isLatin1 7 = .ok (.getfield 15, 3) := dk_180 0 15 (dk_at dksJ9_isLatin1_0 7 rfl rfl)
theorem dJ9_isLatin1_10 : decode cJ9_isLatin1 10 = .ok (.ifCond .ne 7, 3) := dk_154 0 7 (dk_at dksJ9_isLatin1_0 10 rfl rfl)
theorem dJ9_isLatin1_13 : decode cJ9_isLatin1 13 = .ok (.iconst 1, 1) := dk_4 (dk_at dksJ9_isLatin1_0 13 rfl rfl)
theorem dJ9_isLatin1_14 : decode cJ9_isLatin1 14 = .ok (.goto 4, 3) := dk_167 0 4 (dk_at dksJ9_isLatin1_0 14 rfl rfl)
theorem dJ9_isLatin1_17 : decode cJ9_isLatin1 17 = .ok (.iconst 0, 1) := dk_3 (dk_at dksJ9_isLatin1_0 17 rfl rfl)
theorem dJ9_isLatin1_18 : decode cJ9_isLatin1 18 = .ok (.ireturn, 1) := dk_172 (dk_at dksJ9_isLatin1_0 18 rfl rfl)
abbrev cJ9_checkIndex : ByteArray := prog_33_method_155_code
def yJ9_checkIndex : MethodName := ⟨RJ9, "checkIndex", "(II)V"⟩
def dkwJ9_checkIndex_0 : List UInt8 := [26, 27, 178, 4, 29, 184, 4, 35, 87, 177]
abbrev dktJ9_checkIndex_0 : List UInt8 := dkwJ9_checkIndex_0 ++ []
theorem dksJ9_checkIndex_0 : cJ9_checkIndex.data.toList.drop 0 = dktJ9_checkIndex_0 := by decide +kernel
theorem dJ9_checkIndex_0 : decode cJ9_checkIndex 0 = .ok (.iload_n 0, 1) := dk_26 (dk_at dksJ9_checkIndex_0 0 rfl rfl)
theorem dJ9_checkIndex_1 : decode cJ9_checkIndex 1 = .ok (.iload_n 1, 1) := dk_27 (dk_at dksJ9_checkIndex_0 1 rfl rfl)
theorem dJ9_checkIndex_2 : decode cJ9_checkIndex 2 = .ok (.getstatic 1053, 3) := dk_178 4 29 (dk_at dksJ9_checkIndex_0 2 rfl rfl)
theorem dJ9_checkIndex_5 : decode cJ9_checkIndex 5 = .ok (.invokestatic 1059, 3) := dk_184 4 35 (dk_at dksJ9_checkIndex_0 5 rfl rfl)
theorem dJ9_checkIndex_8 : decode cJ9_checkIndex 8 = .ok (.pop, 1) := dk_87 (dk_at dksJ9_checkIndex_0 8 rfl rfl)
theorem dJ9_checkIndex_9 : decode cJ9_checkIndex 9 = .ok (.return_, 1) := dk_177 (dk_at dksJ9_checkIndex_0 9 rfl rfl)
abbrev cJ9_checkBoundsOffCount : ByteArray := prog_33_method_157_code
def yJ9_checkBoundsOffCount : MethodName := ⟨RJ9, "checkBoundsOffCount", "(III)I"⟩
def dkwJ9_checkBoundsOffCount_0 : List UInt8 := [26, 27, 28, 178, 4, 29, 184, 4, 41, 172]
abbrev dktJ9_checkBoundsOffCount_0 : List UInt8 := dkwJ9_checkBoundsOffCount_0 ++ []
theorem dksJ9_checkBoundsOffCount_0 : cJ9_checkBoundsOffCount.data.toList.drop 0 = dktJ9_checkBoundsOffCount_0 := by decide +kernel
theorem dJ9_checkBoundsOffCount_0 : decode cJ9_checkBoundsOffCount 0 = .ok (.iload_n 0, 1) := dk_26 (dk_at dksJ9_checkBoundsOffCount_0 0 rfl rfl)
theorem dJ9_checkBoundsOffCount_1 : decode cJ9_checkBoundsOffCount 1 = .ok (.iload_n 1, 1) := dk_27 (dk_at dksJ9_checkBoundsOffCount_0 1 rfl rfl)
theorem dJ9_checkBoundsOffCount_2 : decode cJ9_checkBoundsOffCount 2 = .ok (.iload_n 2, 1) := dk_28 (dk_at dksJ9_checkBoundsOffCount_0 2 rfl rfl)
theorem dJ9_checkBoundsOffCount_3 : decode cJ9_checkBoundsOffCount 3 = .ok (.getstatic 1053, 3) := dk_178 4 29 (dk_at dksJ9_checkBoundsOffCount_0 3 rfl rfl)
theorem dJ9_checkBoundsOffCount_6 : decode cJ9_checkBoundsOffCount 6 = .ok (.invokestatic 1065, 3) := dk_184 4 41 (dk_at dksJ9_checkBoundsOffCount_0 6 rfl rfl)
theorem dJ9_checkBoundsOffCount_9 : decode cJ9_checkBoundsOffCount 9 = .ok (.ireturn, 1) := dk_172 (dk_at dksJ9_checkBoundsOffCount_0 9 rfl rfl)
abbrev cJ9_init : ByteArray := prog_33_method_53_code
def yJ9_init : MethodName := ⟨RJ9, "<init>", "(Ljava/lang/StringBuilder;)V"⟩
def dkwJ9_init_0 : List UInt8 := [42, 43, 1, 183, 1, 233, 177]
abbrev dktJ9_init_0 : List UInt8 := dkwJ9_init_0 ++ []
theorem dksJ9_init_0 : cJ9_init.data.toList.drop 0 = dktJ9_init_0 := by decide +kernel
theorem dJ9_init_0 : decode cJ9_init 0 = .ok (.aload_n 0, 1) := dk_42 (dk_at dksJ9_init_0 0 rfl rfl)
theorem dJ9_init_1 : decode cJ9_init 1 = .ok (.aload_n 1, 1) := dk_43 (dk_at dksJ9_init_0 1 rfl rfl)
theorem dJ9_init_2 : decode cJ9_init 2 = .ok (.aconst_null, 1) := dk_1 (dk_at dksJ9_init_0 2 rfl rfl)
theorem dJ9_init_3 : decode cJ9_init 3 = .ok (.invokespecial 489, 3) := dk_183 1 233 (dk_at dksJ9_init_0 3 rfl rfl)
theorem dJ9_init_6 : decode cJ9_init 6 = .ok (.return_, 1) := dk_177 (dk_at dksJ9_init_0 6 rfl rfl)
abbrev cJ9_init_2 : ByteArray := prog_33_method_150_code
def yJ9_init_2 : MethodName := ⟨RJ9, "<init>", "(Ljava/lang/AbstractStringBuilder;Ljava/lang/Void;)V"⟩
def dkwJ9_init_2_4 : List UInt8 := [181, 0, 9, 177]
abbrev dktJ9_init_2_4 : List UInt8 := dkwJ9_init_2_4 ++ []
def dkwJ9_init_2_3 : List UInt8 := [184, 0, 47, 181, 0, 15, 177, 42, 4, 181, 0, 15, 42, 45, 3, 21, 4, 4, 120, 184, 0, 54]
abbrev dktJ9_init_2_3 : List UInt8 := dkwJ9_init_2_3 ++ dktJ9_init_2_4
def dkwJ9_init_2_2 : List UInt8 := [180, 4, 24, 153, 0, 28, 42, 45, 3, 21, 4, 184, 4, 27, 181, 0, 9, 42, 42, 180, 0, 9, 21, 4]
abbrev dktJ9_init_2_2 : List UInt8 := dkwJ9_init_2_2 ++ dktJ9_init_2_3
def dkwJ9_init_2_1 : List UInt8 := [181, 0, 15, 42, 45, 3, 21, 4, 184, 0, 54, 181, 0, 9, 167, 0, 59, 178, 0, 38, 153, 0, 35, 43]
abbrev dktJ9_init_2_1 : List UInt8 := dkwJ9_init_2_1 ++ dktJ9_init_2_2
def dkwJ9_init_2_0 : List UInt8 := [42, 183, 0, 1, 43, 182, 2, 40, 78, 43, 182, 2, 37, 54, 4, 43, 182, 4, 23, 153, 0, 22, 42, 3]
abbrev dktJ9_init_2_0 : List UInt8 := dkwJ9_init_2_0 ++ dktJ9_init_2_1
theorem dksJ9_init_2_0 : cJ9_init_2.data.toList.drop 0 = dktJ9_init_2_0 := by decide +kernel
theorem dksJ9_init_2_1 : cJ9_init_2.data.toList.drop 24 = dktJ9_init_2_1 := dk_seg dksJ9_init_2_0 24 rfl rfl
theorem dksJ9_init_2_2 : cJ9_init_2.data.toList.drop 48 = dktJ9_init_2_2 := dk_seg dksJ9_init_2_1 24 rfl rfl
theorem dksJ9_init_2_3 : cJ9_init_2.data.toList.drop 72 = dktJ9_init_2_3 := dk_seg dksJ9_init_2_2 24 rfl rfl
theorem dksJ9_init_2_4 : cJ9_init_2.data.toList.drop 94 = dktJ9_init_2_4 := dk_seg dksJ9_init_2_3 22 rfl rfl
theorem dJ9_init_2_0 : decode cJ9_init_2 0 = .ok (.aload_n 0, 1) := dk_42 (dk_at dksJ9_init_2_0 0 rfl rfl)
theorem dJ9_init_2_1 : decode cJ9_init_2 1 = .ok (.invokespecial 1, 3) := dk_183 0 1 (dk_at dksJ9_init_2_0 1 rfl rfl)
theorem dJ9_init_2_4 : decode cJ9_init_2 4 = .ok (.aload_n 1, 1) := dk_43 (dk_at dksJ9_init_2_0 4 rfl rfl)
theorem dJ9_init_2_5 : decode cJ9_init_2 5 = .ok (.invokevirtual 552, 3) := dk_182 2 40 (dk_at dksJ9_init_2_0 5 rfl rfl)
theorem dJ9_init_2_8 : decode cJ9_init_2 8 = .ok (.astore_n 3, 1) := dk_78 (dk_at dksJ9_init_2_0 8 rfl rfl)
theorem dJ9_init_2_9 : decode cJ9_init_2 9 = .ok (.aload_n 1, 1) := dk_43 (dk_at dksJ9_init_2_0 9 rfl rfl)
theorem dJ9_init_2_10 : decode cJ9_init_2 10 = .ok (.invokevirtual 549, 3) := dk_182 2 37 (dk_at dksJ9_init_2_0 10 rfl rfl)
theorem dJ9_init_2_13 : decode cJ9_init_2 13 = .ok (.istore 4, 2) := dk_54 4 (dk_at dksJ9_init_2_0 13 rfl rfl)
theorem dJ9_init_2_15 : decode cJ9_init_2 15 = .ok (.aload_n 1, 1) := dk_43 (dk_at dksJ9_init_2_0 15 rfl rfl)
theorem dJ9_init_2_16 : decode cJ9_init_2 16 = .ok (.invokevirtual 1047, 3) := dk_182 4 23 (dk_at dksJ9_init_2_0 16 rfl rfl)
theorem dJ9_init_2_19 : decode cJ9_init_2 19 = .ok (.ifCond .eq 22, 3) := dk_153 0 22 (dk_at dksJ9_init_2_0 19 rfl rfl)
theorem dJ9_init_2_22 : decode cJ9_init_2 22 = .ok (.aload_n 0, 1) := dk_42 (dk_at dksJ9_init_2_0 22 rfl rfl)
theorem dJ9_init_2_23 : decode cJ9_init_2 23 = .ok (.iconst 0, 1) := dk_3 (dk_at dksJ9_init_2_0 23 rfl rfl)
theorem dJ9_init_2_24 : decode cJ9_init_2 24 = .ok (.putfield 15, 3) := dk_181 0 15 (dk_at dksJ9_init_2_1 0 rfl rfl)
theorem dJ9_init_2_27 : decode cJ9_init_2 27 = .ok (.aload_n 0, 1) := dk_42 (dk_at dksJ9_init_2_1 3 rfl rfl)
theorem dJ9_init_2_28 : decode cJ9_init_2 28 = .ok (.aload_n 3, 1) := dk_45 (dk_at dksJ9_init_2_1 4 rfl rfl)
theorem dJ9_init_2_29 : decode cJ9_init_2 29 = .ok (.iconst 0, 1) := dk_3 (dk_at dksJ9_init_2_1 5 rfl rfl)
theorem dJ9_init_2_30 : decode cJ9_init_2 30 = .ok (.iload 4, 2) := dk_21 4 (dk_at dksJ9_init_2_1 6 rfl rfl)
theorem dJ9_init_2_32 : decode cJ9_init_2 32 = .ok (.invokestatic 54, 3) := dk_184 0 54 (dk_at dksJ9_init_2_1 8 rfl rfl)
theorem dJ9_init_2_35 : decode cJ9_init_2 35 = .ok (.putfield 9, 3) := dk_181 0 9 (dk_at dksJ9_init_2_1 11 rfl rfl)
theorem dJ9_init_2_38 : decode cJ9_init_2 38 = .ok (.goto 59, 3) := dk_167 0 59 (dk_at dksJ9_init_2_1 14 rfl rfl)
theorem dJ9_init_2_41 : decode cJ9_init_2 41 = .ok (.getstatic 38, 3) := dk_178 0 38 (dk_at dksJ9_init_2_1 17 rfl rfl)
theorem dJ9_init_2_44 : decode cJ9_init_2 44 = .ok (.ifCond .eq 35, 3) := dk_153 0 35 (dk_at dksJ9_init_2_1 20 rfl rfl)
theorem dJ9_init_2_47 : decode cJ9_init_2 47 = .ok (.aload_n 1, 1) := dk_43 (dk_at dksJ9_init_2_1 23 rfl rfl)
theorem dJ9_init_2_48 : decode cJ9_init_2 48 = .ok (.getfield 1048, 3) := dk_180 4 24 (dk_at dksJ9_init_2_2 0 rfl rfl)
theorem dJ9_init_2_51 : decode cJ9_init_2 51 = .ok (.ifCond .eq 28, 3) := dk_153 0 28 (dk_at dksJ9_init_2_2 3 rfl rfl)
theorem dJ9_init_2_54 : decode cJ9_init_2 54 = .ok (.aload_n 0, 1) := dk_42 (dk_at dksJ9_init_2_2 6 rfl rfl)
theorem dJ9_init_2_55 : decode cJ9_init_2 55 = .ok (.aload_n 3, 1) := dk_45 (dk_at dksJ9_init_2_2 7 rfl rfl)
theorem dJ9_init_2_56 : decode cJ9_init_2 56 = .ok (.iconst 0, 1) := dk_3 (dk_at dksJ9_init_2_2 8 rfl rfl)
theorem dJ9_init_2_57 : decode cJ9_init_2 57 = .ok (.iload 4, 2) := dk_21 4 (dk_at dksJ9_init_2_2 9 rfl rfl)
theorem dJ9_init_2_59 : decode cJ9_init_2 59 = .ok (.invokestatic 1051, 3) := dk_184 4 27 (dk_at dksJ9_init_2_2 11 rfl rfl)
theorem dJ9_init_2_62 : decode cJ9_init_2 62 = .ok (.putfield 9, 3) := dk_181 0 9 (dk_at dksJ9_init_2_2 14 rfl rfl)
theorem dJ9_init_2_65 : decode cJ9_init_2 65 = .ok (.aload_n 0, 1) := dk_42 (dk_at dksJ9_init_2_2 17 rfl rfl)
theorem dJ9_init_2_66 : decode cJ9_init_2 66 = .ok (.aload_n 0, 1) := dk_42 (dk_at dksJ9_init_2_2 18 rfl rfl)
theorem dJ9_init_2_67 : decode cJ9_init_2 67 = .ok (.getfield 9, 3) := dk_180 0 9 (dk_at dksJ9_init_2_2 19 rfl rfl)
theorem dJ9_init_2_70 : decode cJ9_init_2 70 = .ok (.iload 4, 2) := dk_21 4 (dk_at dksJ9_init_2_2 22 rfl rfl)
theorem dJ9_init_2_72 : decode cJ9_init_2 72 = .ok (.invokestatic 47, 3) := dk_184 0 47 (dk_at dksJ9_init_2_3 0 rfl rfl)
theorem dJ9_init_2_75 : decode cJ9_init_2 75 = .ok (.putfield 15, 3) := dk_181 0 15 (dk_at dksJ9_init_2_3 3 rfl rfl)
theorem dJ9_init_2_78 : decode cJ9_init_2 78 = .ok (.return_, 1) := dk_177 (dk_at dksJ9_init_2_3 6 rfl rfl)
theorem dJ9_init_2_79 : decode cJ9_init_2 79 = .ok (.aload_n 0, 1) := dk_42 (dk_at dksJ9_init_2_3 7 rfl rfl)
theorem dJ9_init_2_80 : decode cJ9_init_2 80 = .ok (.iconst 1, 1) := dk_4 (dk_at dksJ9_init_2_3 8 rfl rfl)
theorem dJ9_init_2_81 : decode cJ9_init_2 81 = .ok (.putfield 15, 3) := dk_181 0 15 (dk_at dksJ9_init_2_3 9 rfl rfl)
theorem dJ9_init_2_84 : decode cJ9_init_2 84 = .ok (.aload_n 0, 1) := dk_42 (dk_at dksJ9_init_2_3 12 rfl rfl)
theorem dJ9_init_2_85 : decode cJ9_init_2 85 = .ok (.aload_n 3, 1) := dk_45 (dk_at dksJ9_init_2_3 13 rfl rfl)
theorem dJ9_init_2_86 : decode cJ9_init_2 86 = .ok (.iconst 0, 1) := dk_3 (dk_at dksJ9_init_2_3 14 rfl rfl)
theorem dJ9_init_2_87 : decode cJ9_init_2 87 = .ok (.iload 4, 2) := dk_21 4 (dk_at dksJ9_init_2_3 15 rfl rfl)
theorem dJ9_init_2_89 : decode cJ9_init_2 89 = .ok (.iconst 1, 1) := dk_4 (dk_at dksJ9_init_2_3 17 rfl rfl)
theorem dJ9_init_2_90 : decode cJ9_init_2 90 = .ok (.ishl, 1) := dk_120 (dk_at dksJ9_init_2_3 18 rfl rfl)
theorem dJ9_init_2_91 : decode cJ9_init_2 91 = .ok (.invokestatic 54, 3) := dk_184 0 54 (dk_at dksJ9_init_2_3 19 rfl rfl)
theorem dJ9_init_2_94 : decode cJ9_init_2 94 = .ok (.putfield 9, 3) := dk_181 0 9 (dk_at dksJ9_init_2_4 0 rfl rfl)
theorem dJ9_init_2_97 : decode cJ9_init_2 97 = .ok (.return_, 1) := dk_177 (dk_at dksJ9_init_2_4 3 rfl rfl)
abbrev cJ9_equals : ByteArray := prog_33_method_66_code
def yJ9_equals : MethodName := ⟨RJ9, "equals", "(Ljava/lang/Object;)Z"⟩
def dkwJ9_equals_2 : List UInt8 := [184, 2, 29, 153, 0, 7, 4, 167, 0, 4, 3, 172]
abbrev dktJ9_equals_2 : List UInt8 := dkwJ9_equals_2 ++ []
def dkwJ9_equals_1 : List UInt8 := [153, 0, 14, 42, 180, 0, 15, 44, 180, 0, 15, 160, 0, 21, 42, 180, 0, 9, 44, 180, 0, 9]
abbrev dktJ9_equals_1 : List UInt8 := dkwJ9_equals_1 ++ dktJ9_equals_2
def dkwJ9_equals_0 : List UInt8 := [42, 43, 166, 0, 5, 4, 172, 43, 193, 0, 10, 153, 0, 43, 43, 192, 0, 10, 77, 178, 0, 38]
abbrev dktJ9_equals_0 : List UInt8 := dkwJ9_equals_0 ++ dktJ9_equals_1
theorem dksJ9_equals_0 : cJ9_equals.data.toList.drop 0 = dktJ9_equals_0 := by decide +kernel
theorem dksJ9_equals_1 : cJ9_equals.data.toList.drop 22 = dktJ9_equals_1 := dk_seg dksJ9_equals_0 22 rfl rfl
theorem dksJ9_equals_2 : cJ9_equals.data.toList.drop 44 = dktJ9_equals_2 := dk_seg dksJ9_equals_1 22 rfl rfl
theorem dJ9_equals_0 : decode cJ9_equals 0 = .ok (.aload_n 0, 1) := dk_42 (dk_at dksJ9_equals_0 0 rfl rfl)
theorem dJ9_equals_1 : decode cJ9_equals 1 = .ok (.aload_n 1, 1) := dk_43 (dk_at dksJ9_equals_0 1 rfl rfl)
theorem dJ9_equals_2 : decode cJ9_equals 2 = .ok (.if_acmp .ne 5, 3) := dk_166 0 5 (dk_at dksJ9_equals_0 2 rfl rfl)
theorem dJ9_equals_5 : decode cJ9_equals 5 = .ok (.iconst 1, 1) := dk_4 (dk_at dksJ9_equals_0 5 rfl rfl)
theorem dJ9_equals_6 : decode cJ9_equals 6 = .ok (.ireturn, 1) := dk_172 (dk_at dksJ9_equals_0 6 rfl rfl)
theorem dJ9_equals_7 : decode cJ9_equals 7 = .ok (.aload_n 1, 1) := dk_43 (dk_at dksJ9_equals_0 7 rfl rfl)
theorem dJ9_equals_8 : decode cJ9_equals 8 = .ok (.instanceof 10, 3) := dk_193 0 10 (dk_at dksJ9_equals_0 8 rfl rfl)
theorem dJ9_equals_11 : decode cJ9_equals 11 = .ok (.ifCond .eq 43, 3) := dk_153 0 43 (dk_at dksJ9_equals_0 11 rfl rfl)
theorem dJ9_equals_14 : decode cJ9_equals 14 = .ok (.aload_n 1, 1) := dk_43 (dk_at dksJ9_equals_0 14 rfl rfl)
theorem dJ9_equals_15 : decode cJ9_equals 15 = .ok (.checkcast 10, 3) := dk_192 0 10 (dk_at dksJ9_equals_0 15 rfl rfl)
theorem dJ9_equals_18 : decode cJ9_equals 18 = .ok (.astore_n 2, 1) := dk_77 (dk_at dksJ9_equals_0 18 rfl rfl)
theorem dJ9_equals_19 : decode cJ9_equals 19 = .ok (.getstatic 38, 3) := dk_178 0 38 (dk_at dksJ9_equals_0 19 rfl rfl)
theorem dJ9_equals_22 : decode cJ9_equals 22 = .ok (.ifCond .eq 14, 3) := dk_153 0 14 (dk_at dksJ9_equals_1 0 rfl rfl)
theorem dJ9_equals_25 : decode cJ9_equals 25 = .ok (.aload_n 0, 1) := dk_42 (dk_at dksJ9_equals_1 3 rfl rfl)
theorem dJ9_equals_26 : decode cJ9_equals 26 = .ok (.getfield 15, 3) := dk_180 0 15 (dk_at dksJ9_equals_1 4 rfl rfl)
theorem dJ9_equals_29 : decode cJ9_equals 29 = .ok (.aload_n 2, 1) := dk_44 (dk_at dksJ9_equals_1 7 rfl rfl)
theorem dJ9_equals_30 : decode cJ9_equals 30 = .ok (.getfield 15, 3) := dk_180 0 15 (dk_at dksJ9_equals_1 8 rfl rfl)
theorem dJ9_equals_33 : decode cJ9_equals 33 = .ok (.if_icmp .ne 21, 3) := dk_160 0 21 (dk_at dksJ9_equals_1 11 rfl rfl)
theorem dJ9_equals_36 : decode cJ9_equals 36 = .ok (.aload_n 0, 1) := dk_42 (dk_at dksJ9_equals_1 14 rfl rfl)
theorem dJ9_equals_37 : decode cJ9_equals 37 = .ok (.getfield 9, 3) := dk_180 0 9 (dk_at dksJ9_equals_1 15 rfl rfl)
theorem dJ9_equals_40 : decode cJ9_equals 40 = .ok (.aload_n 2, 1) := dk_44 (dk_at dksJ9_equals_1 18 rfl rfl)
theorem dJ9_equals_41 : decode cJ9_equals 41 = .ok (.getfield 9, 3) := dk_180 0 9 (dk_at dksJ9_equals_1 19 rfl rfl)
theorem dJ9_equals_44 : decode cJ9_equals 44 = .ok (.invokestatic 541, 3) := dk_184 2 29 (dk_at dksJ9_equals_2 0 rfl rfl)
theorem dJ9_equals_47 : decode cJ9_equals 47 = .ok (.ifCond .eq 7, 3) := dk_153 0 7 (dk_at dksJ9_equals_2 3 rfl rfl)
theorem dJ9_equals_50 : decode cJ9_equals 50 = .ok (.iconst 1, 1) := dk_4 (dk_at dksJ9_equals_2 6 rfl rfl)
theorem dJ9_equals_51 : decode cJ9_equals 51 = .ok (.goto 4, 3) := dk_167 0 4 (dk_at dksJ9_equals_2 7 rfl rfl)
theorem dJ9_equals_54 : decode cJ9_equals 54 = .ok (.iconst 0, 1) := dk_3 (dk_at dksJ9_equals_2 10 rfl rfl)
theorem dJ9_equals_55 : decode cJ9_equals 55 = .ok (.ireturn, 1) := dk_172 (dk_at dksJ9_equals_2 11 rfl rfl)
def mJ9_length : am_M := (yJ9_length, cJ9_length, 1, (some .int), [])
theorem okJ9_length : am_Ok mJ9_length 0 := ⟨rfl, q687, q137, ⟨by decide +kernel, by decide +kernel, by decide +kernel⟩, by decide, by decide +kernel⟩
def mJ9_coder : am_M := (yJ9_coder, cJ9_coder, 1, (some .byte), [])
theorem okJ9_coder : am_Ok mJ9_coder 0 := ⟨rfl, q691, q137, ⟨by decide +kernel, by decide +kernel, by decide +kernel⟩, by decide, by decide +kernel⟩
def mJ9_charAt : am_M := (yJ9_charAt, cJ9_charAt, 2, (some .char), [])
theorem okJ9_charAt : am_Ok mJ9_charAt 1 := ⟨rfl, q697, q137, ⟨by decide +kernel, by decide +kernel, by decide +kernel⟩, by decide, by decide +kernel⟩
def mJ9_isLatin1 : am_M := (yJ9_isLatin1, cJ9_isLatin1, 1, (some .boolean), [])
theorem okJ9_isLatin1 : am_Ok mJ9_isLatin1 0 := ⟨rfl, q701, q137, ⟨by decide +kernel, by decide +kernel, by decide +kernel⟩, by decide, by decide +kernel⟩
def mJ9_checkIndex : am_M := (yJ9_checkIndex, cJ9_checkIndex, 2, none, [])
theorem okJ9_checkIndex : am_Ok mJ9_checkIndex 2 := ⟨rfl, q707, q137, ⟨by decide +kernel, by decide +kernel, by decide +kernel⟩, by decide, by decide +kernel⟩
def mJ9_checkBoundsOffCount : am_M := (yJ9_checkBoundsOffCount, cJ9_checkBoundsOffCount, 3, (some .int), [])
theorem okJ9_checkBoundsOffCount : am_Ok mJ9_checkBoundsOffCount 3 := ⟨rfl, q890, q137, ⟨by decide +kernel, by decide +kernel, by decide +kernel⟩, by decide, by decide +kernel⟩
def mJ9_init : am_M := (yJ9_init, cJ9_init, 2, none, [])
theorem okJ9_init : am_Ok mJ9_init 1 := ⟨rfl, q908, q137, ⟨by decide +kernel, by decide +kernel, by decide +kernel⟩, by decide, by decide +kernel⟩
def mJ9_init_2 : am_M := (yJ9_init_2, cJ9_init_2, 5, none, [])
theorem okJ9_init_2 : am_Ok mJ9_init_2 2 := ⟨rfl, q911, q137, ⟨by decide +kernel, by decide +kernel, by decide +kernel⟩, by decide, by decide +kernel⟩
def mJ9_equals : am_M := (yJ9_equals, cJ9_equals, 3, (some .boolean), [])
theorem okJ9_equals : am_Ok mJ9_equals 1 := ⟨rfl, q971, q137, ⟨by decide +kernel, by decide +kernel, by decide +kernel⟩, by decide, by decide +kernel⟩
def RJ10 : String := "java/lang/StringLatin1"
/-! java/lang/StringLatin1 -/
abbrev cJ10_charAt : ByteArray := prog_35_method_2_code
def yJ10_charAt : MethodName := ⟨RJ10, "charAt", "([BI)C"⟩
def dkwJ10_charAt_0 : List UInt8 := [27, 42, 190, 184, 0, 9, 42, 27, 51, 17, 0, 255, 126, 146, 172]
abbrev dktJ10_charAt_0 : List UInt8 := dkwJ10_charAt_0 ++ []
theorem dksJ10_charAt_0 : cJ10_charAt.data.toList.drop 0 = dktJ10_charAt_0 := by decide +kernel
theorem dJ10_charAt_0 : decode cJ10_charAt 0 = .ok (.iload_n 1, 1) := dk_27 (dk_at dksJ10_charAt_0 0 rfl rfl)
theorem dJ10_charAt_1 : decode cJ10_charAt 1 = .ok (.aload_n 0, 1) := dk_42 (dk_at dksJ10_charAt_0 1 rfl rfl)
theorem dJ10_charAt_2 : decode cJ10_charAt 2 = .ok (.arraylength, 1) := dk_190 (dk_at dksJ10_charAt_0 2 rfl rfl)
theorem dJ10_charAt_3 : decode cJ10_charAt 3 = .ok (.invokestatic 9, 3) := dk_184 0 9 (dk_at dksJ10_charAt_0 3 rfl rfl)
theorem dJ10_charAt_6 : decode cJ10_charAt 6 = .ok (.aload_n 0, 1) := dk_42 (dk_at dksJ10_charAt_0 6 rfl rfl)
theorem dJ10_charAt_7 : decode cJ10_charAt 7 = .ok (.iload_n 1, 1) := dk_27 (dk_at dksJ10_charAt_0 7 rfl rfl)
theorem dJ10_charAt_8 : decode cJ10_charAt 8 = .ok (.baload, 1) := dk_51 (dk_at dksJ10_charAt_0 8 rfl rfl)
theorem dJ10_charAt_9 : decode cJ10_charAt 9 = .ok (.sipush 255, 3) := dk_17 0 255 (dk_at dksJ10_charAt_0 9 rfl rfl)
theorem dJ10_charAt_12 : decode cJ10_charAt 12 = .ok (.iand, 1) := dk_126 (dk_at dksJ10_charAt_0 12 rfl rfl)
theorem dJ10_charAt_13 : decode cJ10_charAt 13 = .ok (.i2c, 1) := dk_146 (dk_at dksJ10_charAt_0 13 rfl rfl)
theorem dJ10_charAt_14 : decode cJ10_charAt 14 = .ok (.ireturn, 1) := dk_172 (dk_at dksJ10_charAt_0 14 rfl rfl)
abbrev cJ10_canEncode : ByteArray := prog_35_method_3_code
def yJ10_canEncode : MethodName := ⟨RJ10, "canEncode", "(C)Z"⟩
def dkwJ10_canEncode_0 : List UInt8 := [26, 17, 0, 255, 163, 0, 7, 4, 167, 0, 4, 3, 172]
abbrev dktJ10_canEncode_0 : List UInt8 := dkwJ10_canEncode_0 ++ []
theorem dksJ10_canEncode_0 : cJ10_canEncode.data.toList.drop 0 = dktJ10_canEncode_0 := by decide +kernel
theorem dJ10_canEncode_0 : decode cJ10_canEncode 0 = .ok (.iload_n 0, 1) := dk_26 (dk_at dksJ10_canEncode_0 0 rfl rfl)
theorem dJ10_canEncode_1 : decode cJ10_canEncode 1 = .ok (.sipush 255, 3) := dk_17 0 255 (dk_at dksJ10_canEncode_0 1 rfl rfl)
theorem dJ10_canEncode_4 : decode cJ10_canEncode 4 = .ok (.if_icmp .gt 7, 3) := dk_163 0 7 (dk_at dksJ10_canEncode_0 4 rfl rfl)
theorem dJ10_canEncode_7 : decode cJ10_canEncode 7 = .ok (.iconst 1, 1) := dk_4 (dk_at dksJ10_canEncode_0 7 rfl rfl)
theorem dJ10_canEncode_8 : decode cJ10_canEncode 8 = .ok (.goto 4, 3) := dk_167 0 4 (dk_at dksJ10_canEncode_0 8 rfl rfl)
theorem dJ10_canEncode_11 : decode cJ10_canEncode 11 = .ok (.iconst 0, 1) := dk_3 (dk_at dksJ10_canEncode_0 11 rfl rfl)
theorem dJ10_canEncode_12 : decode cJ10_canEncode 12 = .ok (.ireturn, 1) := dk_172 (dk_at dksJ10_canEncode_0 12 rfl rfl)
abbrev cJ10_inflate : ByteArray := prog_35_method_50_code
def yJ10_inflate : MethodName := ⟨RJ10, "inflate", "([BI[BII)V"⟩
def dkwJ10_inflate_0 : List UInt8 := [42, 27, 44, 29, 21, 4, 184, 0, 240, 177]
abbrev dktJ10_inflate_0 : List UInt8 := dkwJ10_inflate_0 ++ []
theorem dksJ10_inflate_0 : cJ10_inflate.data.toList.drop 0 = dktJ10_inflate_0 := by decide +kernel
theorem dJ10_inflate_0 : decode cJ10_inflate 0 = .ok (.aload_n 0, 1) := dk_42 (dk_at dksJ10_inflate_0 0 rfl rfl)
theorem dJ10_inflate_1 : decode cJ10_inflate 1 = .ok (.iload_n 1, 1) := dk_27 (dk_at dksJ10_inflate_0 1 rfl rfl)
theorem dJ10_inflate_2 : decode cJ10_inflate 2 = .ok (.aload_n 2, 1) := dk_44 (dk_at dksJ10_inflate_0 2 rfl rfl)
theorem dJ10_inflate_3 : decode cJ10_inflate 3 = .ok (.iload_n 3, 1) := dk_29 (dk_at dksJ10_inflate_0 3 rfl rfl)
theorem dJ10_inflate_4 : decode cJ10_inflate 4 = .ok (.iload 4, 2) := dk_21 4 (dk_at dksJ10_inflate_0 4 rfl rfl)
theorem dJ10_inflate_6 : decode cJ10_inflate 6 = .ok (.invokestatic 240, 3) := dk_184 0 240 (dk_at dksJ10_inflate_0 6 rfl rfl)
theorem dJ10_inflate_9 : decode cJ10_inflate 9 = .ok (.return_, 1) := dk_177 (dk_at dksJ10_inflate_0 9 rfl rfl)
abbrev cJ10_equals : ByteArray := prog_35_method_13_code
def yJ10_equals : MethodName := ⟨RJ10, "equals", "([B[B)Z"⟩
def dkwJ10_equals_1 : List UInt8 := [3, 172, 132, 2, 1, 167, 255, 236, 4, 172, 3, 172]
abbrev dktJ10_equals_1 : List UInt8 := dkwJ10_equals_1 ++ []
def dkwJ10_equals_0 : List UInt8 := [42, 190, 43, 190, 160, 0, 30, 3, 61, 28, 42, 190, 162, 0, 20, 42, 28, 51, 43, 28, 51, 159, 0, 5]
abbrev dktJ10_equals_0 : List UInt8 := dkwJ10_equals_0 ++ dktJ10_equals_1
theorem dksJ10_equals_0 : cJ10_equals.data.toList.drop 0 = dktJ10_equals_0 := by decide +kernel
theorem dksJ10_equals_1 : cJ10_equals.data.toList.drop 24 = dktJ10_equals_1 := dk_seg dksJ10_equals_0 24 rfl rfl
theorem dJ10_equals_0 : decode cJ10_equals 0 = .ok (.aload_n 0, 1) := dk_42 (dk_at dksJ10_equals_0 0 rfl rfl)
theorem dJ10_equals_1 : decode cJ10_equals 1 = .ok (.arraylength, 1) := dk_190 (dk_at dksJ10_equals_0 1 rfl rfl)
theorem dJ10_equals_2 : decode cJ10_equals 2 = .ok (.aload_n 1, 1) := dk_43 (dk_at dksJ10_equals_0 2 rfl rfl)
theorem dJ10_equals_3 : decode cJ10_equals 3 = .ok (.arraylength, 1) := dk_190 (dk_at dksJ10_equals_0 3 rfl rfl)
theorem dJ10_equals_4 : decode cJ10_equals 4 = .ok (.if_icmp .ne 30, 3) := dk_160 0 30 (dk_at dksJ10_equals_0 4 rfl rfl)
theorem dJ10_equals_7 : decode cJ10_equals 7 = .ok (.iconst 0, 1) := dk_3 (dk_at dksJ10_equals_0 7 rfl rfl)
theorem dJ10_equals_8 : decode cJ10_equals 8 = .ok (.istore_n 2, 1) := dk_61 (dk_at dksJ10_equals_0 8 rfl rfl)
theorem dJ10_equals_9 : decode cJ10_equals 9 = .ok (.iload_n 2, 1) := dk_28 (dk_at dksJ10_equals_0 9 rfl rfl)
theorem dJ10_equals_10 : decode cJ10_equals 10 = .ok (.aload_n 0, 1) := dk_42 (dk_at dksJ10_equals_0 10 rfl rfl)
theorem dJ10_equals_11 : decode cJ10_equals 11 = .ok (.arraylength, 1) := dk_190 (dk_at dksJ10_equals_0 11 rfl rfl)
theorem dJ10_equals_12 : decode cJ10_equals 12 = .ok (.if_icmp .ge 20, 3) := dk_162 0 20 (dk_at dksJ10_equals_0 12 rfl rfl)
theorem dJ10_equals_15 : decode cJ10_equals 15 = .ok (.aload_n 0, 1) := dk_42 (dk_at dksJ10_equals_0 15 rfl rfl)
theorem dJ10_equals_16 : decode cJ10_equals 16 = .ok (.iload_n 2, 1) := dk_28 (dk_at dksJ10_equals_0 16 rfl rfl)
theorem dJ10_equals_17 : decode cJ10_equals 17 = .ok (.baload, 1) := dk_51 (dk_at dksJ10_equals_0 17 rfl rfl)
theorem dJ10_equals_18 : decode cJ10_equals 18 = .ok (.aload_n 1, 1) := dk_43 (dk_at dksJ10_equals_0 18 rfl rfl)
theorem dJ10_equals_19 : decode cJ10_equals 19 = .ok (.iload_n 2, 1) := dk_28 (dk_at dksJ10_equals_0 19 rfl rfl)
theorem dJ10_equals_20 : decode cJ10_equals 20 = .ok (.baload, 1) := dk_51 (dk_at dksJ10_equals_0 20 rfl rfl)
theorem dJ10_equals_21 : decode cJ10_equals 21 = .ok (.if_icmp .eq 5, 3) := dk_159 0 5 (dk_at dksJ10_equals_0 21 rfl rfl)
theorem dJ10_equals_24 : decode cJ10_equals 24 = .ok (.iconst 0, 1) := dk_3 (dk_at dksJ10_equals_1 0 rfl rfl)
theorem dJ10_equals_25 : decode cJ10_equals 25 = .ok (.ireturn, 1) := dk_172 (dk_at dksJ10_equals_1 1 rfl rfl)
theorem dJ10_equals_26 : decode cJ10_equals 26 = .ok (.iinc 2 1, 3) := dk_132 2 1 (dk_at dksJ10_equals_1 2 rfl rfl)
theorem dJ10_equals_29 : decode cJ10_equals 29 = .ok (.goto (-20), 3) := dk_167 255 236 (dk_at dksJ10_equals_1 5 rfl rfl)
theorem dJ10_equals_32 : decode cJ10_equals 32 = .ok (.iconst 1, 1) := dk_4 (dk_at dksJ10_equals_1 8 rfl rfl)
theorem dJ10_equals_33 : decode cJ10_equals 33 = .ok (.ireturn, 1) := dk_172 (dk_at dksJ10_equals_1 9 rfl rfl)
theorem dJ10_equals_34 : decode cJ10_equals 34 = .ok (.iconst 0, 1) := dk_3 (dk_at dksJ10_equals_1 10 rfl rfl)
theorem dJ10_equals_35 : decode cJ10_equals 35 = .ok (.ireturn, 1) := dk_172 (dk_at dksJ10_equals_1 11 rfl rfl)
def mJ10_charAt : am_M := (yJ10_charAt, cJ10_charAt, 2, (some .char), [])
theorem okJ10_charAt : am_Ok mJ10_charAt 2 := ⟨rfl, q704, q138, ⟨by decide +kernel, by decide +kernel, by decide +kernel⟩, by decide, by decide +kernel⟩
def mJ10_canEncode : am_M := (yJ10_canEncode, cJ10_canEncode, 1, (some .boolean), [])
theorem okJ10_canEncode : am_Ok mJ10_canEncode 1 := ⟨rfl, q874, q138, ⟨by decide +kernel, by decide +kernel, by decide +kernel⟩, by decide, by decide +kernel⟩
def mJ10_inflate : am_M := (yJ10_inflate, cJ10_inflate, 5, none, [])
theorem okJ10_inflate : am_Ok mJ10_inflate 5 := ⟨rfl, q881, q138, ⟨by decide +kernel, by decide +kernel, by decide +kernel⟩, by decide, by decide +kernel⟩
def mJ10_equals : am_M := (yJ10_equals, cJ10_equals, 3, (some .boolean), [])
theorem okJ10_equals : am_Ok mJ10_equals 2 := ⟨rfl, q975, q138, ⟨by decide +kernel, by decide +kernel, by decide +kernel⟩, by decide, by decide +kernel⟩
def RJ11 : String := "java/lang/StringUTF16"
/-! java/lang/StringUTF16 -/
abbrev cJ11_charAt : ByteArray := prog_36_method_83_code
def yJ11_charAt : MethodName := ⟨RJ11, "charAt", "([BI)C"⟩
def dkwJ11_charAt_0 : List UInt8 := [27, 42, 184, 0, 67, 42, 27, 184, 0, 71, 172]
abbrev dktJ11_charAt_0 : List UInt8 := dkwJ11_charAt_0 ++ []
theorem dksJ11_charAt_0 : cJ11_charAt.data.toList.drop 0 = dktJ11_charAt_0 := by decide +kernel
theorem dJ11_charAt_0 : decode cJ11_charAt 0 = .ok (.iload_n 1, 1) := dk_27 (dk_at dksJ11_charAt_0 0 rfl rfl)
theorem dJ11_charAt_1 : decode cJ11_charAt 1 = .ok (.aload_n 0, 1) := dk_42 (dk_at dksJ11_charAt_0 1 rfl rfl)
theorem dJ11_charAt_2 : decode cJ11_charAt 2 = .ok (.invokestatic 67, 3) := dk_184 0 67 (dk_at dksJ11_charAt_0 2 rfl rfl)
theorem dJ11_charAt_5 : decode cJ11_charAt 5 = .ok (.aload_n 0, 1) := dk_42 (dk_at dksJ11_charAt_0 5 rfl rfl)
theorem dJ11_charAt_6 : decode cJ11_charAt 6 = .ok (.iload_n 1, 1) := dk_27 (dk_at dksJ11_charAt_0 6 rfl rfl)
theorem dJ11_charAt_7 : decode cJ11_charAt 7 = .ok (.invokestatic 71, 3) := dk_184 0 71 (dk_at dksJ11_charAt_0 7 rfl rfl)
theorem dJ11_charAt_10 : decode cJ11_charAt 10 = .ok (.ireturn, 1) := dk_172 (dk_at dksJ11_charAt_0 10 rfl rfl)
abbrev cJ11_checkIndex : ByteArray := prog_36_method_91_code
def yJ11_checkIndex : MethodName := ⟨RJ11, "checkIndex", "(I[B)V"⟩
def dkwJ11_checkIndex_0 : List UInt8 := [26, 43, 184, 0, 48, 184, 1, 158, 177]
abbrev dktJ11_checkIndex_0 : List UInt8 := dkwJ11_checkIndex_0 ++ []
theorem dksJ11_checkIndex_0 : cJ11_checkIndex.data.toList.drop 0 = dktJ11_checkIndex_0 := by decide +kernel
theorem dJ11_checkIndex_0 : decode cJ11_checkIndex 0 = .ok (.iload_n 0, 1) := dk_26 (dk_at dksJ11_checkIndex_0 0 rfl rfl)
theorem dJ11_checkIndex_1 : decode cJ11_checkIndex 1 = .ok (.aload_n 1, 1) := dk_43 (dk_at dksJ11_checkIndex_0 1 rfl rfl)
theorem dJ11_checkIndex_2 : decode cJ11_checkIndex 2 = .ok (.invokestatic 48, 3) := dk_184 0 48 (dk_at dksJ11_checkIndex_0 2 rfl rfl)
theorem dJ11_checkIndex_5 : decode cJ11_checkIndex 5 = .ok (.invokestatic 414, 3) := dk_184 1 158 (dk_at dksJ11_checkIndex_0 5 rfl rfl)
theorem dJ11_checkIndex_8 : decode cJ11_checkIndex 8 = .ok (.return_, 1) := dk_177 (dk_at dksJ11_checkIndex_0 8 rfl rfl)
abbrev cJ11_length : ByteArray := prog_36_method_6_code
def yJ11_length : MethodName := ⟨RJ11, "length", "([B)I"⟩
def dkwJ11_length_0 : List UInt8 := [42, 190, 4, 122, 172]
abbrev dktJ11_length_0 : List UInt8 := dkwJ11_length_0 ++ []
theorem dksJ11_length_0 : cJ11_length.data.toList.drop 0 = dktJ11_length_0 := by decide +kernel
theorem dJ11_length_0 : decode cJ11_length 0 = .ok (.aload_n 0, 1) := dk_42 (dk_at dksJ11_length_0 0 rfl rfl)
theorem dJ11_length_1 : decode cJ11_length 1 = .ok (.arraylength, 1) := dk_190 (dk_at dksJ11_length_0 1 rfl rfl)
theorem dJ11_length_2 : decode cJ11_length 2 = .ok (.iconst 1, 1) := dk_4 (dk_at dksJ11_length_0 2 rfl rfl)
theorem dJ11_length_3 : decode cJ11_length 3 = .ok (.ishr, 1) := dk_122 (dk_at dksJ11_length_0 3 rfl rfl)
theorem dJ11_length_4 : decode cJ11_length 4 = .ok (.ireturn, 1) := dk_172 (dk_at dksJ11_length_0 4 rfl rfl)
abbrev cJ11_getChar : ByteArray := prog_36_method_5_code
def yJ11_getChar : MethodName := ⟨RJ11, "getChar", "([BI)C"⟩
def dkwJ11_getChar_2 : List UInt8 := [51, 17, 0, 255, 126, 178, 0, 63, 120, 128, 146, 172]
abbrev dktJ11_getChar_2 : List UInt8 := dkwJ11_getChar_2 ++ []
def dkwJ11_getChar_1 : List UInt8 := [183, 0, 56, 191, 27, 4, 120, 60, 42, 27, 132, 1, 1, 51, 17, 0, 255, 126, 178, 0, 59, 120, 42, 27]
abbrev dktJ11_getChar_1 : List UInt8 := dkwJ11_getChar_1 ++ dktJ11_getChar_2
def dkwJ11_getChar_0 : List UInt8 := [178, 0, 44, 154, 0, 25, 27, 155, 0, 11, 27, 42, 184, 0, 48, 161, 0, 13, 187, 0, 52, 89, 18, 54]
abbrev dktJ11_getChar_0 : List UInt8 := dkwJ11_getChar_0 ++ dktJ11_getChar_1
theorem dksJ11_getChar_0 : cJ11_getChar.data.toList.drop 0 = dktJ11_getChar_0 := by decide +kernel
theorem dksJ11_getChar_1 : cJ11_getChar.data.toList.drop 24 = dktJ11_getChar_1 := dk_seg dksJ11_getChar_0 24 rfl rfl
theorem dksJ11_getChar_2 : cJ11_getChar.data.toList.drop 48 = dktJ11_getChar_2 := dk_seg dksJ11_getChar_1 24 rfl rfl
theorem dJ11_getChar_0 : decode cJ11_getChar 0 = .ok (.getstatic 44, 3) := dk_178 0 44 (dk_at dksJ11_getChar_0 0 rfl rfl)
theorem dJ11_getChar_3 : decode cJ11_getChar 3 = .ok (.ifCond .ne 25, 3) := dk_154 0 25 (dk_at dksJ11_getChar_0 3 rfl rfl)
theorem dJ11_getChar_6 : decode cJ11_getChar 6 = .ok (.iload_n 1, 1) := dk_27 (dk_at dksJ11_getChar_0 6 rfl rfl)
theorem dJ11_getChar_7 : decode cJ11_getChar 7 = .ok (.ifCond .lt 11, 3) := dk_155 0 11 (dk_at dksJ11_getChar_0 7 rfl rfl)
theorem dJ11_getChar_10 : decode cJ11_getChar 10 = .ok (.iload_n 1, 1) := dk_27 (dk_at dksJ11_getChar_0 10 rfl rfl)
theorem dJ11_getChar_11 : decode cJ11_getChar 11 = .ok (.aload_n 0, 1) := dk_42 (dk_at dksJ11_getChar_0 11 rfl rfl)
theorem dJ11_getChar_12 : decode cJ11_getChar 12 = .ok (.invokestatic 48, 3) := dk_184 0 48 (dk_at dksJ11_getChar_0 12 rfl rfl)
theorem dJ11_getChar_15 : decode cJ11_getChar 15 = .ok (.if_icmp .lt 13, 3) := dk_161 0 13 (dk_at dksJ11_getChar_0 15 rfl rfl)
theorem dJ11_getChar_18 : decode cJ11_getChar 18 = .ok (.new 52, 3) := dk_187 0 52 (dk_at dksJ11_getChar_0 18 rfl rfl)
theorem dJ11_getChar_21 : decode cJ11_getChar 21 = .ok (.dup, 1) := dk_89 (dk_at dksJ11_getChar_0 21 rfl rfl)
theorem dJ11_getChar_22 : decode cJ11_getChar 22 = .ok (.ldc 54, 2) := dk_18 54 (dk_at dksJ11_getChar_0 22 rfl rfl)
theorem dJ11_getChar_24 : decode cJ11_getChar 24 = .ok (.invokespecial 56, 3) := dk_183 0 56 (dk_at dksJ11_getChar_1 0 rfl rfl)
theorem dJ11_getChar_27 : decode cJ11_getChar 27 = .ok (.athrow, 1) := dk_191 (dk_at dksJ11_getChar_1 3 rfl rfl)
theorem dJ11_getChar_28 : decode cJ11_getChar 28 = .ok (.iload_n 1, 1) := dk_27 (dk_at dksJ11_getChar_1 4 rfl rfl)
theorem dJ11_getChar_29 : decode cJ11_getChar 29 = .ok (.iconst 1, 1) := dk_4 (dk_at dksJ11_getChar_1 5 rfl rfl)
theorem dJ11_getChar_30 : decode cJ11_getChar 30 = .ok (.ishl, 1) := dk_120 (dk_at dksJ11_getChar_1 6 rfl rfl)
theorem dJ11_getChar_31 : decode cJ11_getChar 31 = .ok (.istore_n 1, 1) := dk_60 (dk_at dksJ11_getChar_1 7 rfl rfl)
theorem dJ11_getChar_32 : decode cJ11_getChar 32 = .ok (.aload_n 0, 1) := dk_42 (dk_at dksJ11_getChar_1 8 rfl rfl)
theorem dJ11_getChar_33 : decode cJ11_getChar 33 = .ok (.iload_n 1, 1) := dk_27 (dk_at dksJ11_getChar_1 9 rfl rfl)
theorem dJ11_getChar_34 : decode cJ11_getChar 34 = .ok (.iinc 1 1, 3) := dk_132 1 1 (dk_at dksJ11_getChar_1 10 rfl rfl)
theorem dJ11_getChar_37 : decode cJ11_getChar 37 = .ok (.baload, 1) := dk_51 (dk_at dksJ11_getChar_1 13 rfl rfl)
theorem dJ11_getChar_38 : decode cJ11_getChar 38 = .ok (.sipush 255, 3) := dk_17 0 255 (dk_at dksJ11_getChar_1 14 rfl rfl)
theorem dJ11_getChar_41 : decode cJ11_getChar 41 = .ok (.iand, 1) := dk_126 (dk_at dksJ11_getChar_1 17 rfl rfl)
theorem dJ11_getChar_42 : decode cJ11_getChar 42 = .ok (.getstatic 59, 3) := dk_178 0 59 (dk_at dksJ11_getChar_1 18 rfl rfl)
theorem dJ11_getChar_45 : decode cJ11_getChar 45 = .ok (.ishl, 1) := dk_120 (dk_at dksJ11_getChar_1 21 rfl rfl)
theorem dJ11_getChar_46 : decode cJ11_getChar 46 = .ok (.aload_n 0, 1) := dk_42 (dk_at dksJ11_getChar_1 22 rfl rfl)
theorem dJ11_getChar_47 : decode cJ11_getChar 47 = .ok (.iload_n 1, 1) := dk_27 (dk_at dksJ11_getChar_1 23 rfl rfl)
theorem dJ11_getChar_48 : decode cJ11_getChar 48 = .ok (.baload, 1) := dk_51 (dk_at dksJ11_getChar_2 0 rfl rfl)
theorem dJ11_getChar_49 : decode cJ11_getChar 49 = .ok (.sipush 255, 3) := dk_17 0 255 (dk_at dksJ11_getChar_2 1 rfl rfl)
theorem dJ11_getChar_52 : decode cJ11_getChar 52 = .ok (.iand, 1) := dk_126 (dk_at dksJ11_getChar_2 4 rfl rfl)
theorem dJ11_getChar_53 : decode cJ11_getChar 53 = .ok (.getstatic 63, 3) := dk_178 0 63 (dk_at dksJ11_getChar_2 5 rfl rfl)
theorem dJ11_getChar_56 : decode cJ11_getChar 56 = .ok (.ishl, 1) := dk_120 (dk_at dksJ11_getChar_2 8 rfl rfl)
theorem dJ11_getChar_57 : decode cJ11_getChar 57 = .ok (.ior, 1) := dk_128 (dk_at dksJ11_getChar_2 9 rfl rfl)
theorem dJ11_getChar_58 : decode cJ11_getChar 58 = .ok (.i2c, 1) := dk_146 (dk_at dksJ11_getChar_2 10 rfl rfl)
theorem dJ11_getChar_59 : decode cJ11_getChar 59 = .ok (.ireturn, 1) := dk_172 (dk_at dksJ11_getChar_2 11 rfl rfl)
abbrev cJ11_newBytesFor : ByteArray := prog_36_method_2_code
def yJ11_newBytesFor : MethodName := ⟨RJ11, "newBytesFor", "(I)[B"⟩
def dkwJ11_newBytesFor_0 : List UInt8 := [26, 184, 0, 11, 188, 8, 176]
abbrev dktJ11_newBytesFor_0 : List UInt8 := dkwJ11_newBytesFor_0 ++ []
theorem dksJ11_newBytesFor_0 : cJ11_newBytesFor.data.toList.drop 0 = dktJ11_newBytesFor_0 := by decide +kernel
theorem dJ11_newBytesFor_0 : decode cJ11_newBytesFor 0 = .ok (.iload_n 0, 1) := dk_26 (dk_at dksJ11_newBytesFor_0 0 rfl rfl)
theorem dJ11_newBytesFor_1 : decode cJ11_newBytesFor 1 = .ok (.invokestatic 11, 3) := dk_184 0 11 (dk_at dksJ11_newBytesFor_0 1 rfl rfl)
theorem dJ11_newBytesFor_4 : decode cJ11_newBytesFor 4 = .ok (.newarray .byte, 2) := dk_188_8 (dk_at dksJ11_newBytesFor_0 4 rfl rfl)
theorem dJ11_newBytesFor_6 : decode cJ11_newBytesFor 6 = .ok (.areturn, 1) := dk_176 (dk_at dksJ11_newBytesFor_0 6 rfl rfl)
abbrev cJ11_newBytesLength : ByteArray := prog_36_method_3_code
def yJ11_newBytesLength : MethodName := ⟨RJ11, "newBytesLength", "(I)I"⟩
def dkwJ11_newBytesLength_2 : List UInt8 := [182, 0, 32, 182, 0, 37, 183, 0, 41, 191, 26, 4, 120, 172]
abbrev dktJ11_newBytesLength_2 : List UInt8 := dkwJ11_newBytesLength_2 ++ []
def dkwJ11_newBytesLength_1 : List UInt8 := [187, 0, 23, 89, 183, 0, 25, 18, 26, 182, 0, 28, 26, 182, 0, 32, 18, 35, 182, 0, 28, 18, 20]
abbrev dktJ11_newBytesLength_1 : List UInt8 := dkwJ11_newBytesLength_1 ++ dktJ11_newBytesLength_2
def dkwJ11_newBytesLength_0 : List UInt8 := [26, 156, 0, 11, 187, 0, 17, 89, 183, 0, 19, 191, 26, 18, 20, 161, 0, 40, 187, 0, 21, 89]
abbrev dktJ11_newBytesLength_0 : List UInt8 := dkwJ11_newBytesLength_0 ++ dktJ11_newBytesLength_1
theorem dksJ11_newBytesLength_0 : cJ11_newBytesLength.data.toList.drop 0 = dktJ11_newBytesLength_0 := by decide +kernel
theorem dksJ11_newBytesLength_1 : cJ11_newBytesLength.data.toList.drop 22 = dktJ11_newBytesLength_1 := dk_seg dksJ11_newBytesLength_0 22 rfl rfl
theorem dksJ11_newBytesLength_2 : cJ11_newBytesLength.data.toList.drop 45 = dktJ11_newBytesLength_2 := dk_seg dksJ11_newBytesLength_1 23 rfl rfl
theorem dJ11_newBytesLength_0 : decode cJ11_newBytesLength 0 = .ok (.iload_n 0, 1) := dk_26 (dk_at dksJ11_newBytesLength_0 0 rfl rfl)
theorem dJ11_newBytesLength_1 : decode cJ11_newBytesLength 1 = .ok (.ifCond .ge 11, 3) := dk_156 0 11 (dk_at dksJ11_newBytesLength_0 1 rfl rfl)
theorem dJ11_newBytesLength_4 : decode cJ11_newBytesLength 4 = .ok (.new 17, 3) := dk_187 0 17 (dk_at dksJ11_newBytesLength_0 4 rfl rfl)
theorem dJ11_newBytesLength_7 : decode cJ11_newBytesLength 7 = .ok (.dup, 1) := dk_89 (dk_at dksJ11_newBytesLength_0 7 rfl rfl)
theorem dJ11_newBytesLength_8 : decode cJ11_newBytesLength 8 = .ok (.invokespecial 19, 3) := dk_183 0 19 (dk_at dksJ11_newBytesLength_0 8 rfl rfl)
theorem dJ11_newBytesLength_11 : decode cJ11_newBytesLength 11 = .ok (.athrow, 1) := dk_191 (dk_at dksJ11_newBytesLength_0 11 rfl rfl)
theorem dJ11_newBytesLength_12 : decode cJ11_newBytesLength 12 = .ok (.iload_n 0, 1) := dk_26 (dk_at dksJ11_newBytesLength_0 12 rfl rfl)
theorem dJ11_newBytesLength_13 : decode cJ11_newBytesLength 13 = .ok (.ldc 20, 2) := dk_18 20 (dk_at dksJ11_newBytesLength_0 13 rfl rfl)
theorem dJ11_newBytesLength_15 : decode cJ11_newBytesLength 15 = .ok (.if_icmp .lt 40, 3) := dk_161 0 40 (dk_at dksJ11_newBytesLength_0 15 rfl rfl)
theorem dJ11_newBytesLength_18 : decode cJ11_newBytesLength 18 = .ok (.new 21, 3) := dk_187 0 21 (dk_at dksJ11_newBytesLength_0 18 rfl rfl)
theorem dJ11_newBytesLength_21 : decode cJ11_newBytesLength 21 = .ok (.dup, 1) := dk_89 (dk_at dksJ11_newBytesLength_0 21 rfl rfl)
theorem dJ11_newBytesLength_22 : decode cJ11_newBytesLength 22 = .ok (.new 23, 3) := dk_187 0 23 (dk_at dksJ11_newBytesLength_1 0 rfl rfl)
theorem dJ11_newBytesLength_25 : decode cJ11_newBytesLength 25 = .ok (.dup, 1) := dk_89 (dk_at dksJ11_newBytesLength_1 3 rfl rfl)
theorem dJ11_newBytesLength_26 : decode cJ11_newBytesLength 26 = .ok (.invokespecial 25, 3) := dk_183 0 25 (dk_at dksJ11_newBytesLength_1 4 rfl rfl)
theorem dJ11_newBytesLength_29 : decode cJ11_newBytesLength 29 = .ok (.ldc 26, 2) := dk_18 26 (dk_at dksJ11_newBytesLength_1 7 rfl rfl)
theorem dJ11_newBytesLength_31 : decode cJ11_newBytesLength 31 = .ok (.invokevirtual 28, 3) := dk_182 0 28 (dk_at dksJ11_newBytesLength_1 9 rfl rfl)
theorem dJ11_newBytesLength_34 : decode cJ11_newBytesLength 34 = .ok (.iload_n 0, 1) := dk_26 (dk_at dksJ11_newBytesLength_1 12 rfl rfl)
theorem dJ11_newBytesLength_35 : decode cJ11_newBytesLength 35 = .ok (.invokevirtual 32, 3) := dk_182 0 32 (dk_at dksJ11_newBytesLength_1 13 rfl rfl)
theorem dJ11_newBytesLength_38 : decode cJ11_newBytesLength 38 = .ok (.ldc 35, 2) := dk_18 35 (dk_at dksJ11_newBytesLength_1 16 rfl rfl)
theorem dJ11_newBytesLength_40 : decode cJ11_newBytesLength 40 = .ok (.invokevirtual 28, 3) := dk_182 0 28 (dk_at dksJ11_newBytesLength_1 18 rfl rfl)
theorem dJ11_newBytesLength_43 : decode cJ11_newBytesLength 43 = .ok (.ldc 20, 2) := dk_18 20 (dk_at dksJ11_newBytesLength_1 21 rfl rfl)
theorem dJ11_newBytesLength_45 : decode cJ11_newBytesLength 45 = .ok (.invokevirtual 32, 3) := dk_182 0 32 (dk_at dksJ11_newBytesLength_2 0 rfl rfl)
theorem dJ11_newBytesLength_48 : decode cJ11_newBytesLength 48 = .ok (.invokevirtual 37, 3) := dk_182 0 37 (dk_at dksJ11_newBytesLength_2 3 rfl rfl)
theorem dJ11_newBytesLength_51 : decode cJ11_newBytesLength 51 = .ok (.invokespecial 41, 3) := dk_183 0 41 (dk_at dksJ11_newBytesLength_2 6 rfl rfl)
theorem dJ11_newBytesLength_54 : decode cJ11_newBytesLength 54 = .ok (.athrow, 1) := dk_191 (dk_at dksJ11_newBytesLength_2 9 rfl rfl)
theorem dJ11_newBytesLength_55 : decode cJ11_newBytesLength 55 = .ok (.iload_n 0, 1) := dk_26 (dk_at dksJ11_newBytesLength_2 10 rfl rfl)
theorem dJ11_newBytesLength_56 : decode cJ11_newBytesLength 56 = .ok (.iconst 1, 1) := dk_4 (dk_at dksJ11_newBytesLength_2 11 rfl rfl)
theorem dJ11_newBytesLength_57 : decode cJ11_newBytesLength 57 = .ok (.ishl, 1) := dk_120 (dk_at dksJ11_newBytesLength_2 12 rfl rfl)
theorem dJ11_newBytesLength_58 : decode cJ11_newBytesLength 58 = .ok (.ireturn, 1) := dk_172 (dk_at dksJ11_newBytesLength_2 13 rfl rfl)
abbrev cJ11_inflate : ByteArray := prog_36_method_86_code
def yJ11_inflate : MethodName := ⟨RJ11, "inflate", "([BI[BII)V"⟩
def dkwJ11_inflate_1 : List UInt8 := [132, 1, 1, 51, 17, 0, 255, 126, 184, 0, 111, 132, 5, 1, 167, 255, 228, 177]
abbrev dktJ11_inflate_1 : List UInt8 := dkwJ11_inflate_1 ++ []
def dkwJ11_inflate_0 : List UInt8 := [29, 21, 4, 44, 184, 0, 173, 3, 54, 5, 21, 5, 21, 4, 162, 0, 27, 44, 29, 132, 3, 1, 42, 27]
abbrev dktJ11_inflate_0 : List UInt8 := dkwJ11_inflate_0 ++ dktJ11_inflate_1
theorem dksJ11_inflate_0 : cJ11_inflate.data.toList.drop 0 = dktJ11_inflate_0 := by decide +kernel
theorem dksJ11_inflate_1 : cJ11_inflate.data.toList.drop 24 = dktJ11_inflate_1 := dk_seg dksJ11_inflate_0 24 rfl rfl
theorem dJ11_inflate_0 : decode cJ11_inflate 0 = .ok (.iload_n 3, 1) := dk_29 (dk_at dksJ11_inflate_0 0 rfl rfl)
theorem dJ11_inflate_1 : decode cJ11_inflate 1 = .ok (.iload 4, 2) := dk_21 4 (dk_at dksJ11_inflate_0 1 rfl rfl)
theorem dJ11_inflate_3 : decode cJ11_inflate 3 = .ok (.aload_n 2, 1) := dk_44 (dk_at dksJ11_inflate_0 3 rfl rfl)
theorem dJ11_inflate_4 : decode cJ11_inflate 4 = .ok (.invokestatic 173, 3) := dk_184 0 173 (dk_at dksJ11_inflate_0 4 rfl rfl)
theorem dJ11_inflate_7 : decode cJ11_inflate 7 = .ok (.iconst 0, 1) := dk_3 (dk_at dksJ11_inflate_0 7 rfl rfl)
theorem dJ11_inflate_8 : decode cJ11_inflate 8 = .ok (.istore 5, 2) := dk_54 5 (dk_at dksJ11_inflate_0 8 rfl rfl)
theorem dJ11_inflate_10 : decode cJ11_inflate 10 = .ok (.iload 5, 2) := dk_21 5 (dk_at dksJ11_inflate_0 10 rfl rfl)
theorem dJ11_inflate_12 : decode cJ11_inflate 12 = .ok (.iload 4, 2) := dk_21 4 (dk_at dksJ11_inflate_0 12 rfl rfl)
theorem dJ11_inflate_14 : decode cJ11_inflate 14 = .ok (.if_icmp .ge 27, 3) := dk_162 0 27 (dk_at dksJ11_inflate_0 14 rfl rfl)
theorem dJ11_inflate_17 : decode cJ11_inflate 17 = .ok (.aload_n 2, 1) := dk_44 (dk_at dksJ11_inflate_0 17 rfl rfl)
theorem dJ11_inflate_18 : decode cJ11_inflate 18 = .ok (.iload_n 3, 1) := dk_29 (dk_at dksJ11_inflate_0 18 rfl rfl)
theorem dJ11_inflate_19 : decode cJ11_inflate 19 = .ok (.iinc 3 1, 3) := dk_132 3 1 (dk_at dksJ11_inflate_0 19 rfl rfl)
theorem dJ11_inflate_22 : decode cJ11_inflate 22 = .ok (.aload_n 0, 1) := dk_42 (dk_at dksJ11_inflate_0 22 rfl rfl)
theorem dJ11_inflate_23 : decode cJ11_inflate 23 = .ok (.iload_n 1, 1) := dk_27 (dk_at dksJ11_inflate_0 23 rfl rfl)
theorem dJ11_inflate_24 : decode cJ11_inflate 24 = .ok (.iinc 1 1, 3) := dk_132 1 1 (dk_at dksJ11_inflate_1 0 rfl rfl)
theorem dJ11_inflate_27 : decode cJ11_inflate 27 = .ok (.baload, 1) := dk_51 (dk_at dksJ11_inflate_1 3 rfl rfl)
theorem dJ11_inflate_28 : decode cJ11_inflate 28 = .ok (.sipush 255, 3) := dk_17 0 255 (dk_at dksJ11_inflate_1 4 rfl rfl)
theorem dJ11_inflate_31 : decode cJ11_inflate 31 = .ok (.iand, 1) := dk_126 (dk_at dksJ11_inflate_1 7 rfl rfl)
theorem dJ11_inflate_32 : decode cJ11_inflate 32 = .ok (.invokestatic 111, 3) := dk_184 0 111 (dk_at dksJ11_inflate_1 8 rfl rfl)
theorem dJ11_inflate_35 : decode cJ11_inflate 35 = .ok (.iinc 5 1, 3) := dk_132 5 1 (dk_at dksJ11_inflate_1 11 rfl rfl)
theorem dJ11_inflate_38 : decode cJ11_inflate 38 = .ok (.goto (-28), 3) := dk_167 255 228 (dk_at dksJ11_inflate_1 14 rfl rfl)
theorem dJ11_inflate_41 : decode cJ11_inflate 41 = .ok (.return_, 1) := dk_177 (dk_at dksJ11_inflate_1 17 rfl rfl)
abbrev cJ11_checkBoundsOffCount : ByteArray := prog_36_method_94_code
def yJ11_checkBoundsOffCount : MethodName := ⟨RJ11, "checkBoundsOffCount", "(II[B)V"⟩
def dkwJ11_checkBoundsOffCount_0 : List UInt8 := [26, 27, 44, 184, 0, 48, 184, 1, 163, 87, 177]
abbrev dktJ11_checkBoundsOffCount_0 : List UInt8 := dkwJ11_checkBoundsOffCount_0 ++ []
theorem dksJ11_checkBoundsOffCount_0 : cJ11_checkBoundsOffCount.data.toList.drop 0 = dktJ11_checkBoundsOffCount_0 := by decide +kernel
theorem dJ11_checkBoundsOffCount_0 : decode cJ11_checkBoundsOffCount 0 = .ok (.iload_n 0, 1) := dk_26 (dk_at dksJ11_checkBoundsOffCount_0 0 rfl rfl)
theorem dJ11_checkBoundsOffCount_1 : decode cJ11_checkBoundsOffCount 1 = .ok (.iload_n 1, 1) := dk_27 (dk_at dksJ11_checkBoundsOffCount_0 1 rfl rfl)
theorem dJ11_checkBoundsOffCount_2 : decode cJ11_checkBoundsOffCount 2 = .ok (.aload_n 2, 1) := dk_44 (dk_at dksJ11_checkBoundsOffCount_0 2 rfl rfl)
theorem dJ11_checkBoundsOffCount_3 : decode cJ11_checkBoundsOffCount 3 = .ok (.invokestatic 48, 3) := dk_184 0 48 (dk_at dksJ11_checkBoundsOffCount_0 3 rfl rfl)
theorem dJ11_checkBoundsOffCount_6 : decode cJ11_checkBoundsOffCount 6 = .ok (.invokestatic 419, 3) := dk_184 1 163 (dk_at dksJ11_checkBoundsOffCount_0 6 rfl rfl)
theorem dJ11_checkBoundsOffCount_9 : decode cJ11_checkBoundsOffCount 9 = .ok (.pop, 1) := dk_87 (dk_at dksJ11_checkBoundsOffCount_0 9 rfl rfl)
theorem dJ11_checkBoundsOffCount_10 : decode cJ11_checkBoundsOffCount 10 = .ok (.return_, 1) := dk_177 (dk_at dksJ11_checkBoundsOffCount_0 10 rfl rfl)
abbrev cJ11_putChar : ByteArray := prog_36_method_4_code
def yJ11_putChar : MethodName := ⟨RJ11, "putChar", "([BII)V"⟩
def dkwJ11_putChar_2 : List UInt8 := [178, 0, 63, 122, 145, 84, 177]
abbrev dktJ11_putChar_2 : List UInt8 := dkwJ11_putChar_2 ++ []
def dkwJ11_putChar_1 : List UInt8 := [183, 0, 56, 191, 27, 4, 120, 60, 42, 27, 132, 1, 1, 28, 178, 0, 59, 122, 145, 84, 42, 27, 28]
abbrev dktJ11_putChar_1 : List UInt8 := dkwJ11_putChar_1 ++ dktJ11_putChar_2
def dkwJ11_putChar_0 : List UInt8 := [178, 0, 44, 154, 0, 25, 27, 155, 0, 11, 27, 42, 184, 0, 48, 161, 0, 13, 187, 0, 52, 89, 18, 54]
abbrev dktJ11_putChar_0 : List UInt8 := dkwJ11_putChar_0 ++ dktJ11_putChar_1
theorem dksJ11_putChar_0 : cJ11_putChar.data.toList.drop 0 = dktJ11_putChar_0 := by decide +kernel
theorem dksJ11_putChar_1 : cJ11_putChar.data.toList.drop 24 = dktJ11_putChar_1 := dk_seg dksJ11_putChar_0 24 rfl rfl
theorem dksJ11_putChar_2 : cJ11_putChar.data.toList.drop 47 = dktJ11_putChar_2 := dk_seg dksJ11_putChar_1 23 rfl rfl
theorem dJ11_putChar_0 : decode cJ11_putChar 0 = .ok (.getstatic 44, 3) := dk_178 0 44 (dk_at dksJ11_putChar_0 0 rfl rfl)
theorem dJ11_putChar_3 : decode cJ11_putChar 3 = .ok (.ifCond .ne 25, 3) := dk_154 0 25 (dk_at dksJ11_putChar_0 3 rfl rfl)
theorem dJ11_putChar_6 : decode cJ11_putChar 6 = .ok (.iload_n 1, 1) := dk_27 (dk_at dksJ11_putChar_0 6 rfl rfl)
theorem dJ11_putChar_7 : decode cJ11_putChar 7 = .ok (.ifCond .lt 11, 3) := dk_155 0 11 (dk_at dksJ11_putChar_0 7 rfl rfl)
theorem dJ11_putChar_10 : decode cJ11_putChar 10 = .ok (.iload_n 1, 1) := dk_27 (dk_at dksJ11_putChar_0 10 rfl rfl)
theorem dJ11_putChar_11 : decode cJ11_putChar 11 = .ok (.aload_n 0, 1) := dk_42 (dk_at dksJ11_putChar_0 11 rfl rfl)
theorem dJ11_putChar_12 : decode cJ11_putChar 12 = .ok (.invokestatic 48, 3) := dk_184 0 48 (dk_at dksJ11_putChar_0 12 rfl rfl)
theorem dJ11_putChar_15 : decode cJ11_putChar 15 = .ok (.if_icmp .lt 13, 3) := dk_161 0 13 (dk_at dksJ11_putChar_0 15 rfl rfl)
theorem dJ11_putChar_18 : decode cJ11_putChar 18 = .ok (.new 52, 3) := dk_187 0 52 (dk_at dksJ11_putChar_0 18 rfl rfl)
theorem dJ11_putChar_21 : decode cJ11_putChar 21 = .ok (.dup, 1) := dk_89 (dk_at dksJ11_putChar_0 21 rfl rfl)
theorem dJ11_putChar_22 : decode cJ11_putChar 22 = .ok (.ldc 54, 2) := dk_18 54 (dk_at dksJ11_putChar_0 22 rfl rfl)
theorem dJ11_putChar_24 : decode cJ11_putChar 24 = .ok (.invokespecial 56, 3) := dk_183 0 56 (dk_at dksJ11_putChar_1 0 rfl rfl)
theorem dJ11_putChar_27 : decode cJ11_putChar 27 = .ok (.athrow, 1) := dk_191 (dk_at dksJ11_putChar_1 3 rfl rfl)
theorem dJ11_putChar_28 : decode cJ11_putChar 28 = .ok (.iload_n 1, 1) := dk_27 (dk_at dksJ11_putChar_1 4 rfl rfl)
theorem dJ11_putChar_29 : decode cJ11_putChar 29 = .ok (.iconst 1, 1) := dk_4 (dk_at dksJ11_putChar_1 5 rfl rfl)
theorem dJ11_putChar_30 : decode cJ11_putChar 30 = .ok (.ishl, 1) := dk_120 (dk_at dksJ11_putChar_1 6 rfl rfl)
theorem dJ11_putChar_31 : decode cJ11_putChar 31 = .ok (.istore_n 1, 1) := dk_60 (dk_at dksJ11_putChar_1 7 rfl rfl)
theorem dJ11_putChar_32 : decode cJ11_putChar 32 = .ok (.aload_n 0, 1) := dk_42 (dk_at dksJ11_putChar_1 8 rfl rfl)
theorem dJ11_putChar_33 : decode cJ11_putChar 33 = .ok (.iload_n 1, 1) := dk_27 (dk_at dksJ11_putChar_1 9 rfl rfl)
theorem dJ11_putChar_34 : decode cJ11_putChar 34 = .ok (.iinc 1 1, 3) := dk_132 1 1 (dk_at dksJ11_putChar_1 10 rfl rfl)
theorem dJ11_putChar_37 : decode cJ11_putChar 37 = .ok (.iload_n 2, 1) := dk_28 (dk_at dksJ11_putChar_1 13 rfl rfl)
theorem dJ11_putChar_38 : decode cJ11_putChar 38 = .ok (.getstatic 59, 3) := dk_178 0 59 (dk_at dksJ11_putChar_1 14 rfl rfl)
theorem dJ11_putChar_41 : decode cJ11_putChar 41 = .ok (.ishr, 1) := dk_122 (dk_at dksJ11_putChar_1 17 rfl rfl)
theorem dJ11_putChar_42 : decode cJ11_putChar 42 = .ok (.i2b, 1) := dk_145 (dk_at dksJ11_putChar_1 18 rfl rfl)
theorem dJ11_putChar_43 : decode cJ11_putChar 43 = .ok (.bastore, 1) := dk_84 (dk_at dksJ11_putChar_1 19 rfl rfl)
theorem dJ11_putChar_44 : decode cJ11_putChar 44 = .ok (.aload_n 0, 1) := dk_42 (dk_at dksJ11_putChar_1 20 rfl rfl)
theorem dJ11_putChar_45 : decode cJ11_putChar 45 = .ok (.iload_n 1, 1) := dk_27 (dk_at dksJ11_putChar_1 21 rfl rfl)
theorem dJ11_putChar_46 : decode cJ11_putChar 46 = .ok (.iload_n 2, 1) := dk_28 (dk_at dksJ11_putChar_1 22 rfl rfl)
theorem dJ11_putChar_47 : decode cJ11_putChar 47 = .ok (.getstatic 63, 3) := dk_178 0 63 (dk_at dksJ11_putChar_2 0 rfl rfl)
theorem dJ11_putChar_50 : decode cJ11_putChar 50 = .ok (.ishr, 1) := dk_122 (dk_at dksJ11_putChar_2 3 rfl rfl)
theorem dJ11_putChar_51 : decode cJ11_putChar 51 = .ok (.i2b, 1) := dk_145 (dk_at dksJ11_putChar_2 4 rfl rfl)
theorem dJ11_putChar_52 : decode cJ11_putChar 52 = .ok (.bastore, 1) := dk_84 (dk_at dksJ11_putChar_2 5 rfl rfl)
theorem dJ11_putChar_53 : decode cJ11_putChar 53 = .ok (.return_, 1) := dk_177 (dk_at dksJ11_putChar_2 6 rfl rfl)
abbrev cJ11_putCharSB : ByteArray := prog_36_method_71_code
def yJ11_putCharSB : MethodName := ⟨RJ11, "putCharSB", "([BII)V"⟩
def dkwJ11_putCharSB_0 : List UInt8 := [27, 42, 184, 0, 67, 42, 27, 28, 184, 0, 111, 177]
abbrev dktJ11_putCharSB_0 : List UInt8 := dkwJ11_putCharSB_0 ++ []
theorem dksJ11_putCharSB_0 : cJ11_putCharSB.data.toList.drop 0 = dktJ11_putCharSB_0 := by decide +kernel
theorem dJ11_putCharSB_0 : decode cJ11_putCharSB 0 = .ok (.iload_n 1, 1) := dk_27 (dk_at dksJ11_putCharSB_0 0 rfl rfl)
theorem dJ11_putCharSB_1 : decode cJ11_putCharSB 1 = .ok (.aload_n 0, 1) := dk_42 (dk_at dksJ11_putCharSB_0 1 rfl rfl)
theorem dJ11_putCharSB_2 : decode cJ11_putCharSB 2 = .ok (.invokestatic 67, 3) := dk_184 0 67 (dk_at dksJ11_putCharSB_0 2 rfl rfl)
theorem dJ11_putCharSB_5 : decode cJ11_putCharSB 5 = .ok (.aload_n 0, 1) := dk_42 (dk_at dksJ11_putCharSB_0 5 rfl rfl)
theorem dJ11_putCharSB_6 : decode cJ11_putCharSB 6 = .ok (.iload_n 1, 1) := dk_27 (dk_at dksJ11_putCharSB_0 6 rfl rfl)
theorem dJ11_putCharSB_7 : decode cJ11_putCharSB 7 = .ok (.iload_n 2, 1) := dk_28 (dk_at dksJ11_putCharSB_0 7 rfl rfl)
theorem dJ11_putCharSB_8 : decode cJ11_putCharSB 8 = .ok (.invokestatic 111, 3) := dk_184 0 111 (dk_at dksJ11_putCharSB_0 8 rfl rfl)
theorem dJ11_putCharSB_11 : decode cJ11_putCharSB 11 = .ok (.return_, 1) := dk_177 (dk_at dksJ11_putCharSB_0 11 rfl rfl)
abbrev cJ11_compress : ByteArray := prog_36_method_17_code
def yJ11_compress : MethodName := ⟨RJ11, "compress", "([BII)[B"⟩
def dkwJ11_compress_2 : List UInt8 := [25, 5, 3, 45, 3, 28, 184, 0, 123, 28, 159, 0, 6, 25, 5, 176, 45, 176]
abbrev dktJ11_compress_2 : List UInt8 := dkwJ11_compress_2 ++ []
def dkwJ11_compress_1 : List UInt8 := [27, 28, 96, 184, 0, 11, 184, 0, 126, 58, 5, 25, 5, 21, 4, 184, 0, 71, 17, 0, 255, 163, 0, 16]
abbrev dktJ11_compress_1 : List UInt8 := dkwJ11_compress_1 ++ dktJ11_compress_2
def dkwJ11_compress_0 : List UInt8 := [28, 188, 8, 78, 42, 27, 45, 3, 28, 184, 0, 123, 54, 4, 21, 4, 28, 159, 0, 47, 42, 27, 4, 120]
abbrev dktJ11_compress_0 : List UInt8 := dkwJ11_compress_0 ++ dktJ11_compress_1
theorem dksJ11_compress_0 : cJ11_compress.data.toList.drop 0 = dktJ11_compress_0 := by decide +kernel
theorem dksJ11_compress_1 : cJ11_compress.data.toList.drop 24 = dktJ11_compress_1 := dk_seg dksJ11_compress_0 24 rfl rfl
theorem dksJ11_compress_2 : cJ11_compress.data.toList.drop 48 = dktJ11_compress_2 := dk_seg dksJ11_compress_1 24 rfl rfl
theorem dJ11_compress_0 : decode cJ11_compress 0 = .ok (.iload_n 2, 1) := dk_28 (dk_at dksJ11_compress_0 0 rfl rfl)
theorem dJ11_compress_1 : decode cJ11_compress 1 = .ok (.newarray .byte, 2) := dk_188_8 (dk_at dksJ11_compress_0 1 rfl rfl)
theorem dJ11_compress_3 : decode cJ11_compress 3 = .ok (.astore_n 3, 1) := dk_78 (dk_at dksJ11_compress_0 3 rfl rfl)
theorem dJ11_compress_4 : decode cJ11_compress 4 = .ok (.aload_n 0, 1) := dk_42 (dk_at dksJ11_compress_0 4 rfl rfl)
theorem dJ11_compress_5 : decode cJ11_compress 5 = .ok (.iload_n 1, 1) := dk_27 (dk_at dksJ11_compress_0 5 rfl rfl)
theorem dJ11_compress_6 : decode cJ11_compress 6 = .ok (.aload_n 3, 1) := dk_45 (dk_at dksJ11_compress_0 6 rfl rfl)
theorem dJ11_compress_7 : decode cJ11_compress 7 = .ok (.iconst 0, 1) := dk_3 (dk_at dksJ11_compress_0 7 rfl rfl)
theorem dJ11_compress_8 : decode cJ11_compress 8 = .ok (.iload_n 2, 1) := dk_28 (dk_at dksJ11_compress_0 8 rfl rfl)
theorem dJ11_compress_9 : decode cJ11_compress 9 = .ok (.invokestatic 123, 3) := dk_184 0 123 (dk_at dksJ11_compress_0 9 rfl rfl)
theorem dJ11_compress_12 : decode cJ11_compress 12 = .ok (.istore 4, 2) := dk_54 4 (dk_at dksJ11_compress_0 12 rfl rfl)
theorem dJ11_compress_14 : decode cJ11_compress 14 = .ok (.iload 4, 2) := dk_21 4 (dk_at dksJ11_compress_0 14 rfl rfl)
theorem dJ11_compress_16 : decode cJ11_compress 16 = .ok (.iload_n 2, 1) := dk_28 (dk_at dksJ11_compress_0 16 rfl rfl)
theorem dJ11_compress_17 : decode cJ11_compress 17 = .ok (.if_icmp .eq 47, 3) := dk_159 0 47 (dk_at dksJ11_compress_0 17 rfl rfl)
theorem dJ11_compress_20 : decode cJ11_compress 20 = .ok (.aload_n 0, 1) := dk_42 (dk_at dksJ11_compress_0 20 rfl rfl)
theorem dJ11_compress_21 : decode cJ11_compress 21 = .ok (.iload_n 1, 1) := dk_27 (dk_at dksJ11_compress_0 21 rfl rfl)
theorem dJ11_compress_22 : decode cJ11_compress 22 = .ok (.iconst 1, 1) := dk_4 (dk_at dksJ11_compress_0 22 rfl rfl)
theorem dJ11_compress_23 : decode cJ11_compress 23 = .ok (.ishl, 1) := dk_120 (dk_at dksJ11_compress_0 23 rfl rfl)
theorem dJ11_compress_24 : decode cJ11_compress 24 = .ok (.iload_n 1, 1) := dk_27 (dk_at dksJ11_compress_1 0 rfl rfl)
theorem dJ11_compress_25 : decode cJ11_compress 25 = .ok (.iload_n 2, 1) := dk_28 (dk_at dksJ11_compress_1 1 rfl rfl)
theorem dJ11_compress_26 : decode cJ11_compress 26 = .ok (.iadd, 1) := dk_96 (dk_at dksJ11_compress_1 2 rfl rfl)
theorem dJ11_compress_27 : decode cJ11_compress 27 = .ok (.invokestatic 11, 3) := dk_184 0 11 (dk_at dksJ11_compress_1 3 rfl rfl)
theorem dJ11_compress_30 : decode cJ11_compress 30 = .ok (.invokestatic 126, 3) := dk_184 0 126 (dk_at dksJ11_compress_1 6 rfl rfl)
theorem dJ11_compress_33 : decode cJ11_compress 33 = .ok (.astore 5, 2) := dk_58 5 (dk_at dksJ11_compress_1 9 rfl rfl)
theorem dJ11_compress_35 : decode cJ11_compress 35 = .ok (.aload 5, 2) := dk_25 5 (dk_at dksJ11_compress_1 11 rfl rfl)
theorem dJ11_compress_37 : decode cJ11_compress 37 = .ok (.iload 4, 2) := dk_21 4 (dk_at dksJ11_compress_1 13 rfl rfl)
theorem dJ11_compress_39 : decode cJ11_compress 39 = .ok (.invokestatic 71, 3) := dk_184 0 71 (dk_at dksJ11_compress_1 15 rfl rfl)
theorem dJ11_compress_42 : decode cJ11_compress 42 = .ok (.sipush 255, 3) := dk_17 0 255 (dk_at dksJ11_compress_1 18 rfl rfl)
theorem dJ11_compress_45 : decode cJ11_compress 45 = .ok (.if_icmp .gt 16, 3) := dk_163 0 16 (dk_at dksJ11_compress_1 21 rfl rfl)
theorem dJ11_compress_48 : decode cJ11_compress 48 = .ok (.aload 5, 2) := dk_25 5 (dk_at dksJ11_compress_2 0 rfl rfl)
theorem dJ11_compress_50 : decode cJ11_compress 50 = .ok (.iconst 0, 1) := dk_3 (dk_at dksJ11_compress_2 2 rfl rfl)
theorem dJ11_compress_51 : decode cJ11_compress 51 = .ok (.aload_n 3, 1) := dk_45 (dk_at dksJ11_compress_2 3 rfl rfl)
theorem dJ11_compress_52 : decode cJ11_compress 52 = .ok (.iconst 0, 1) := dk_3 (dk_at dksJ11_compress_2 4 rfl rfl)
theorem dJ11_compress_53 : decode cJ11_compress 53 = .ok (.iload_n 2, 1) := dk_28 (dk_at dksJ11_compress_2 5 rfl rfl)
theorem dJ11_compress_54 : decode cJ11_compress 54 = .ok (.invokestatic 123, 3) := dk_184 0 123 (dk_at dksJ11_compress_2 6 rfl rfl)
theorem dJ11_compress_57 : decode cJ11_compress 57 = .ok (.iload_n 2, 1) := dk_28 (dk_at dksJ11_compress_2 9 rfl rfl)
theorem dJ11_compress_58 : decode cJ11_compress 58 = .ok (.if_icmp .eq 6, 3) := dk_159 0 6 (dk_at dksJ11_compress_2 10 rfl rfl)
theorem dJ11_compress_61 : decode cJ11_compress 61 = .ok (.aload 5, 2) := dk_25 5 (dk_at dksJ11_compress_2 13 rfl rfl)
theorem dJ11_compress_63 : decode cJ11_compress 63 = .ok (.areturn, 1) := dk_176 (dk_at dksJ11_compress_2 15 rfl rfl)
theorem dJ11_compress_64 : decode cJ11_compress 64 = .ok (.aload_n 3, 1) := dk_45 (dk_at dksJ11_compress_2 16 rfl rfl)
theorem dJ11_compress_65 : decode cJ11_compress 65 = .ok (.areturn, 1) := dk_176 (dk_at dksJ11_compress_2 17 rfl rfl)
abbrev cJ11_compress_2 : ByteArray := prog_36_method_22_code
def yJ11_compress_2 : MethodName := ⟨RJ11, "compress", "([BI[BII)I"⟩
def dkwJ11_compress_2_2 : List UInt8 := [132, 5, 1, 167, 255, 216, 21, 4, 172]
abbrev dktJ11_compress_2_2 : List UInt8 := dkwJ11_compress_2_2 ++ []
def dkwJ11_compress_2_1 : List UInt8 := [21, 6, 17, 0, 255, 164, 0, 6, 21, 5, 172, 44, 29, 21, 6, 145, 84, 132, 1, 1, 132, 3, 1]
abbrev dktJ11_compress_2_1 : List UInt8 := dkwJ11_compress_2_1 ++ dktJ11_compress_2_2
def dkwJ11_compress_2_0 : List UInt8 := [27, 21, 4, 42, 184, 0, 173, 3, 54, 5, 21, 5, 21, 4, 162, 0, 39, 42, 27, 184, 0, 71, 54, 6]
abbrev dktJ11_compress_2_0 : List UInt8 := dkwJ11_compress_2_0 ++ dktJ11_compress_2_1
theorem dksJ11_compress_2_0 : cJ11_compress_2.data.toList.drop 0 = dktJ11_compress_2_0 := by decide +kernel
theorem dksJ11_compress_2_1 : cJ11_compress_2.data.toList.drop 24 = dktJ11_compress_2_1 := dk_seg dksJ11_compress_2_0 24 rfl rfl
theorem dksJ11_compress_2_2 : cJ11_compress_2.data.toList.drop 47 = dktJ11_compress_2_2 := dk_seg dksJ11_compress_2_1 23 rfl rfl
theorem dJ11_compress_2_0 : decode cJ11_compress_2 0 = .ok (.iload_n 1, 1) := dk_27 (dk_at dksJ11_compress_2_0 0 rfl rfl)
theorem dJ11_compress_2_1 : decode cJ11_compress_2 1 = .ok (.iload 4, 2) := dk_21 4 (dk_at dksJ11_compress_2_0 1 rfl rfl)
theorem dJ11_compress_2_3 : decode cJ11_compress_2 3 = .ok (.aload_n 0, 1) := dk_42 (dk_at dksJ11_compress_2_0 3 rfl rfl)
theorem dJ11_compress_2_4 : decode cJ11_compress_2 4 = .ok (.invokestatic 173, 3) := dk_184 0 173 (dk_at dksJ11_compress_2_0 4 rfl rfl)
theorem dJ11_compress_2_7 : decode cJ11_compress_2 7 = .ok (.iconst 0, 1) := dk_3 (dk_at dksJ11_compress_2_0 7 rfl rfl)
theorem dJ11_compress_2_8 : decode cJ11_compress_2 8 = .ok (.istore 5, 2) := dk_54 5 (dk_at dksJ11_compress_2_0 8 rfl rfl)
theorem dJ11_compress_2_10 : decode cJ11_compress_2 10 = .ok (.iload 5, 2) := dk_21 5 (dk_at dksJ11_compress_2_0 10 rfl rfl)
theorem dJ11_compress_2_12 : decode cJ11_compress_2 12 = .ok (.iload 4, 2) := dk_21 4 (dk_at dksJ11_compress_2_0 12 rfl rfl)
theorem dJ11_compress_2_14 : decode cJ11_compress_2 14 = .ok (.if_icmp .ge 39, 3) := dk_162 0 39 (dk_at dksJ11_compress_2_0 14 rfl rfl)
theorem dJ11_compress_2_17 : decode cJ11_compress_2 17 = .ok (.aload_n 0, 1) := dk_42 (dk_at dksJ11_compress_2_0 17 rfl rfl)
theorem dJ11_compress_2_18 : decode cJ11_compress_2 18 = .ok (.iload_n 1, 1) := dk_27 (dk_at dksJ11_compress_2_0 18 rfl rfl)
theorem dJ11_compress_2_19 : decode cJ11_compress_2 19 = .ok (.invokestatic 71, 3) := dk_184 0 71 (dk_at dksJ11_compress_2_0 19 rfl rfl)
theorem dJ11_compress_2_22 : decode cJ11_compress_2 22 = .ok (.istore 6, 2) := dk_54 6 (dk_at dksJ11_compress_2_0 22 rfl rfl)
theorem dJ11_compress_2_24 : decode cJ11_compress_2 24 = .ok (.iload 6, 2) := dk_21 6 (dk_at dksJ11_compress_2_1 0 rfl rfl)
theorem dJ11_compress_2_26 : decode cJ11_compress_2 26 = .ok (.sipush 255, 3) := dk_17 0 255 (dk_at dksJ11_compress_2_1 2 rfl rfl)
theorem dJ11_compress_2_29 : decode cJ11_compress_2 29 = .ok (.if_icmp .le 6, 3) := dk_164 0 6 (dk_at dksJ11_compress_2_1 5 rfl rfl)
theorem dJ11_compress_2_32 : decode cJ11_compress_2 32 = .ok (.iload 5, 2) := dk_21 5 (dk_at dksJ11_compress_2_1 8 rfl rfl)
theorem dJ11_compress_2_34 : decode cJ11_compress_2 34 = .ok (.ireturn, 1) := dk_172 (dk_at dksJ11_compress_2_1 10 rfl rfl)
theorem dJ11_compress_2_35 : decode cJ11_compress_2 35 = .ok (.aload_n 2, 1) := dk_44 (dk_at dksJ11_compress_2_1 11 rfl rfl)
theorem dJ11_compress_2_36 : decode cJ11_compress_2 36 = .ok (.iload_n 3, 1) := dk_29 (dk_at dksJ11_compress_2_1 12 rfl rfl)
theorem dJ11_compress_2_37 : decode cJ11_compress_2 37 = .ok (.iload 6, 2) := dk_21 6 (dk_at dksJ11_compress_2_1 13 rfl rfl)
theorem dJ11_compress_2_39 : decode cJ11_compress_2 39 = .ok (.i2b, 1) := dk_145 (dk_at dksJ11_compress_2_1 15 rfl rfl)
theorem dJ11_compress_2_40 : decode cJ11_compress_2 40 = .ok (.bastore, 1) := dk_84 (dk_at dksJ11_compress_2_1 16 rfl rfl)
theorem dJ11_compress_2_41 : decode cJ11_compress_2 41 = .ok (.iinc 1 1, 3) := dk_132 1 1 (dk_at dksJ11_compress_2_1 17 rfl rfl)
theorem dJ11_compress_2_44 : decode cJ11_compress_2 44 = .ok (.iinc 3 1, 3) := dk_132 3 1 (dk_at dksJ11_compress_2_1 20 rfl rfl)
theorem dJ11_compress_2_47 : decode cJ11_compress_2 47 = .ok (.iinc 5 1, 3) := dk_132 5 1 (dk_at dksJ11_compress_2_2 0 rfl rfl)
theorem dJ11_compress_2_50 : decode cJ11_compress_2 50 = .ok (.goto (-40), 3) := dk_167 255 216 (dk_at dksJ11_compress_2_2 3 rfl rfl)
theorem dJ11_compress_2_53 : decode cJ11_compress_2 53 = .ok (.iload 4, 2) := dk_21 4 (dk_at dksJ11_compress_2_2 6 rfl rfl)
theorem dJ11_compress_2_55 : decode cJ11_compress_2 55 = .ok (.ireturn, 1) := dk_172 (dk_at dksJ11_compress_2_2 8 rfl rfl)
abbrev cJ11_coderFromArrayLen : ByteArray := prog_36_method_15_code
def yJ11_coderFromArrayLen : MethodName := ⟨RJ11, "coderFromArrayLen", "([BI)B"⟩
def dkwJ11_coderFromArrayLen_0 : List UInt8 := [27, 42, 190, 100, 16, 31, 124, 145, 172]
abbrev dktJ11_coderFromArrayLen_0 : List UInt8 := dkwJ11_coderFromArrayLen_0 ++ []
theorem dksJ11_coderFromArrayLen_0 : cJ11_coderFromArrayLen.data.toList.drop 0 = dktJ11_coderFromArrayLen_0 := by decide +kernel
theorem dJ11_coderFromArrayLen_0 : decode cJ11_coderFromArrayLen 0 = .ok (.iload_n 1, 1) := dk_27 (dk_at dksJ11_coderFromArrayLen_0 0 rfl rfl)
theorem dJ11_coderFromArrayLen_1 : decode cJ11_coderFromArrayLen 1 = .ok (.aload_n 0, 1) := dk_42 (dk_at dksJ11_coderFromArrayLen_0 1 rfl rfl)
theorem dJ11_coderFromArrayLen_2 : decode cJ11_coderFromArrayLen 2 = .ok (.arraylength, 1) := dk_190 (dk_at dksJ11_coderFromArrayLen_0 2 rfl rfl)
theorem dJ11_coderFromArrayLen_3 : decode cJ11_coderFromArrayLen 3 = .ok (.isub, 1) := dk_100 (dk_at dksJ11_coderFromArrayLen_0 3 rfl rfl)
theorem dJ11_coderFromArrayLen_4 : decode cJ11_coderFromArrayLen 4 = .ok (.bipush 31, 2) := dk_16 31 (dk_at dksJ11_coderFromArrayLen_0 4 rfl rfl)
theorem dJ11_coderFromArrayLen_6 : decode cJ11_coderFromArrayLen 6 = .ok (.iushr, 1) := dk_124 (dk_at dksJ11_coderFromArrayLen_0 6 rfl rfl)
theorem dJ11_coderFromArrayLen_7 : decode cJ11_coderFromArrayLen 7 = .ok (.i2b, 1) := dk_145 (dk_at dksJ11_coderFromArrayLen_0 7 rfl rfl)
theorem dJ11_coderFromArrayLen_8 : decode cJ11_coderFromArrayLen 8 = .ok (.ireturn, 1) := dk_172 (dk_at dksJ11_coderFromArrayLen_0 8 rfl rfl)
def mJ11_charAt : am_M := (yJ11_charAt, cJ11_charAt, 2, (some .char), [])
theorem okJ11_charAt : am_Ok mJ11_charAt 2 := ⟨rfl, q713, q139, ⟨by decide +kernel, by decide +kernel, by decide +kernel⟩, by decide, by decide +kernel⟩
def mJ11_checkIndex : am_M := (yJ11_checkIndex, cJ11_checkIndex, 2, none, [])
theorem okJ11_checkIndex : am_Ok mJ11_checkIndex 2 := ⟨rfl, q716, q139, ⟨by decide +kernel, by decide +kernel, by decide +kernel⟩, by decide, by decide +kernel⟩
def mJ11_length : am_M := (yJ11_length, cJ11_length, 1, (some .int), [])
theorem okJ11_length : am_Ok mJ11_length 1 := ⟨rfl, q719, q139, ⟨by decide +kernel, by decide +kernel, by decide +kernel⟩, by decide, by decide +kernel⟩
def mJ11_getChar : am_M := (yJ11_getChar, cJ11_getChar, 2, (some .char), [])
theorem okJ11_getChar : am_Ok mJ11_getChar 2 := ⟨rfl, q723, q139, ⟨by decide +kernel, by decide +kernel, by decide +kernel⟩, by decide, by decide +kernel⟩
def mJ11_newBytesFor : am_M := (yJ11_newBytesFor, cJ11_newBytesFor, 1, (some (.array .byte)), [])
theorem okJ11_newBytesFor : am_Ok mJ11_newBytesFor 1 := ⟨rfl, q811, q139, ⟨by decide +kernel, by decide +kernel, by decide +kernel⟩, by decide, by decide +kernel⟩
def mJ11_newBytesLength : am_M := (yJ11_newBytesLength, cJ11_newBytesLength, 1, (some .int), [])
theorem okJ11_newBytesLength : am_Ok mJ11_newBytesLength 1 := ⟨rfl, q814, q139, ⟨by decide +kernel, by decide +kernel, by decide +kernel⟩, by decide, by decide +kernel⟩
def mJ11_inflate : am_M := (yJ11_inflate, cJ11_inflate, 6, none, [])
theorem okJ11_inflate : am_Ok mJ11_inflate 5 := ⟨rfl, q884, q139, ⟨by decide +kernel, by decide +kernel, by decide +kernel⟩, by decide, by decide +kernel⟩
def mJ11_checkBoundsOffCount : am_M := (yJ11_checkBoundsOffCount, cJ11_checkBoundsOffCount, 3, none, [])
theorem okJ11_checkBoundsOffCount : am_Ok mJ11_checkBoundsOffCount 3 := ⟨rfl, q887, q139, ⟨by decide +kernel, by decide +kernel, by decide +kernel⟩, by decide, by decide +kernel⟩
def mJ11_putChar : am_M := (yJ11_putChar, cJ11_putChar, 3, none, [])
theorem okJ11_putChar : am_Ok mJ11_putChar 3 := ⟨rfl, q896, q139, ⟨by decide +kernel, by decide +kernel, by decide +kernel⟩, by decide, by decide +kernel⟩
def mJ11_putCharSB : am_M := (yJ11_putCharSB, cJ11_putCharSB, 3, none, [])
theorem okJ11_putCharSB : am_Ok mJ11_putCharSB 3 := ⟨rfl, q899, q139, ⟨by decide +kernel, by decide +kernel, by decide +kernel⟩, by decide, by decide +kernel⟩
def mJ11_compress : am_M := (yJ11_compress, cJ11_compress, 6, (some (.array .byte)), [])
theorem okJ11_compress : am_Ok mJ11_compress 3 := ⟨rfl, q938, q139, ⟨by decide +kernel, by decide +kernel, by decide +kernel⟩, by decide, by decide +kernel⟩
def mJ11_compress_2 : am_M := (yJ11_compress_2, cJ11_compress_2, 7, (some .int), [])
theorem okJ11_compress_2 : am_Ok mJ11_compress_2 5 := ⟨rfl, q941, q139, ⟨by decide +kernel, by decide +kernel, by decide +kernel⟩, by decide, by decide +kernel⟩
def mJ11_coderFromArrayLen : am_M := (yJ11_coderFromArrayLen, cJ11_coderFromArrayLen, 2, (some .byte), [])
theorem okJ11_coderFromArrayLen : am_Ok mJ11_coderFromArrayLen 2 := ⟨rfl, q945, q139, ⟨by decide +kernel, by decide +kernel, by decide +kernel⟩, by decide, by decide +kernel⟩
def RJ12 : String := "java/lang/AbstractStringBuilder"
/-! java/lang/AbstractStringBuilder -/
abbrev cJ12_init : ByteArray := prog_23_method_2_code
def yJ12_init : MethodName := ⟨RJ12, "<init>", "(I)V"⟩
def dkwJ12_init_1 : List UInt8 := [167, 0, 16, 42, 27, 184, 0, 26, 181, 0, 15, 42, 4, 181, 0, 22, 177]
abbrev dktJ12_init_1 : List UInt8 := dkwJ12_init_1 ++ []
def dkwJ12_init_0 : List UInt8 := [42, 183, 0, 3, 178, 0, 18, 153, 0, 18, 42, 27, 188, 8, 181, 0, 15, 42, 3, 181, 0, 22]
abbrev dktJ12_init_0 : List UInt8 := dkwJ12_init_0 ++ dktJ12_init_1
theorem dksJ12_init_0 : cJ12_init.data.toList.drop 0 = dktJ12_init_0 := by decide +kernel
theorem dksJ12_init_1 : cJ12_init.data.toList.drop 22 = dktJ12_init_1 := dk_seg dksJ12_init_0 22 rfl rfl
theorem dJ12_init_0 : decode cJ12_init 0 = .ok (.aload_n 0, 1) := dk_42 (dk_at dksJ12_init_0 0 rfl rfl)
theorem dJ12_init_1 : decode cJ12_init 1 = .ok (.invokespecial 3, 3) := dk_183 0 3 (dk_at dksJ12_init_0 1 rfl rfl)
theorem dJ12_init_4 : decode cJ12_init 4 = .ok (.getstatic 18, 3) := dk_178 0 18 (dk_at dksJ12_init_0 4 rfl rfl)
theorem dJ12_init_7 : decode cJ12_init 7 = .ok (.ifCond .eq 18, 3) := dk_153 0 18 (dk_at dksJ12_init_0 7 rfl rfl)
theorem dJ12_init_10 : decode cJ12_init 10 = .ok (.aload_n 0, 1) := dk_42 (dk_at dksJ12_init_0 10 rfl rfl)
theorem dJ12_init_11 : decode cJ12_init 11 = .ok (.iload_n 1, 1) := dk_27 (dk_at dksJ12_init_0 11 rfl rfl)
theorem dJ12_init_12 : decode cJ12_init 12 = .ok (.newarray .byte, 2) := dk_188_8 (dk_at dksJ12_init_0 12 rfl rfl)
theorem dJ12_init_14 : decode cJ12_init 14 = .ok (.putfield 15, 3) := dk_181 0 15 (dk_at dksJ12_init_0 14 rfl rfl)
theorem dJ12_init_17 : decode cJ12_init 17 = .ok (.aload_n 0, 1) := dk_42 (dk_at dksJ12_init_0 17 rfl rfl)
theorem dJ12_init_18 : decode cJ12_init 18 = .ok (.iconst 0, 1) := dk_3 (dk_at dksJ12_init_0 18 rfl rfl)
theorem dJ12_init_19 : decode cJ12_init 19 = .ok (.putfield 22, 3) := dk_181 0 22 (dk_at dksJ12_init_0 19 rfl rfl)
theorem dJ12_init_22 : decode cJ12_init 22 = .ok (.goto 16, 3) := dk_167 0 16 (dk_at dksJ12_init_1 0 rfl rfl)
theorem dJ12_init_25 : decode cJ12_init 25 = .ok (.aload_n 0, 1) := dk_42 (dk_at dksJ12_init_1 3 rfl rfl)
theorem dJ12_init_26 : decode cJ12_init 26 = .ok (.iload_n 1, 1) := dk_27 (dk_at dksJ12_init_1 4 rfl rfl)
theorem dJ12_init_27 : decode cJ12_init 27 = .ok (.invokestatic 26, 3) := dk_184 0 26 (dk_at dksJ12_init_1 5 rfl rfl)
theorem dJ12_init_30 : decode cJ12_init 30 = .ok (.putfield 15, 3) := dk_181 0 15 (dk_at dksJ12_init_1 8 rfl rfl)
theorem dJ12_init_33 : decode cJ12_init 33 = .ok (.aload_n 0, 1) := dk_42 (dk_at dksJ12_init_1 11 rfl rfl)
theorem dJ12_init_34 : decode cJ12_init 34 = .ok (.iconst 1, 1) := dk_4 (dk_at dksJ12_init_1 12 rfl rfl)
theorem dJ12_init_35 : decode cJ12_init 35 = .ok (.putfield 22, 3) := dk_181 0 22 (dk_at dksJ12_init_1 13 rfl rfl)
theorem dJ12_init_38 : decode cJ12_init 38 = .ok (.return_, 1) := dk_177 (dk_at dksJ12_init_1 16 rfl rfl)
abbrev cJ12_append : ByteArray := prog_23_method_31_code
def yJ12_append : MethodName := ⟨RJ12, "append", "(C)Ljava/lang/AbstractStringBuilder;"⟩
def dkwJ12_append_3 : List UInt8 := [181, 0, 79, 27, 184, 0, 197, 42, 176]
abbrev dktJ12_append_3 : List UInt8 := dkwJ12_append_3 ++ []
def dkwJ12_append_2 : List UInt8 := [182, 0, 83, 153, 0, 7, 42, 182, 0, 195, 42, 180, 0, 15, 42, 89, 180, 0, 79, 90, 4, 96]
abbrev dktJ12_append_2 : List UInt8 := dkwJ12_append_2 ++ dktJ12_append_3
def dkwJ12_append_1 : List UInt8 := [42, 180, 0, 15, 42, 89, 180, 0, 79, 90, 4, 96, 181, 0, 79, 27, 145, 84, 167, 0, 33, 42]
abbrev dktJ12_append_1 : List UInt8 := dkwJ12_append_1 ++ dktJ12_append_2
def dkwJ12_append_0 : List UInt8 := [42, 42, 180, 0, 79, 4, 96, 182, 0, 100, 42, 182, 0, 83, 153, 0, 31, 27, 184, 0, 191, 153, 0, 24]
abbrev dktJ12_append_0 : List UInt8 := dkwJ12_append_0 ++ dktJ12_append_1
theorem dksJ12_append_0 : cJ12_append.data.toList.drop 0 = dktJ12_append_0 := by decide +kernel
theorem dksJ12_append_1 : cJ12_append.data.toList.drop 24 = dktJ12_append_1 := dk_seg dksJ12_append_0 24 rfl rfl
theorem dksJ12_append_2 : cJ12_append.data.toList.drop 46 = dktJ12_append_2 := dk_seg dksJ12_append_1 22 rfl rfl
theorem dksJ12_append_3 : cJ12_append.data.toList.drop 68 = dktJ12_append_3 := dk_seg dksJ12_append_2 22 rfl rfl
theorem dJ12_append_0 : decode cJ12_append 0 = .ok (.aload_n 0, 1) := dk_42 (dk_at dksJ12_append_0 0 rfl rfl)
theorem dJ12_append_1 : decode cJ12_append 1 = .ok (.aload_n 0, 1) := dk_42 (dk_at dksJ12_append_0 1 rfl rfl)
theorem dJ12_append_2 : decode cJ12_append 2 = .ok (.getfield 79, 3) := dk_180 0 79 (dk_at dksJ12_append_0 2 rfl rfl)
theorem dJ12_append_5 : decode cJ12_append 5 = .ok (.iconst 1, 1) := dk_4 (dk_at dksJ12_append_0 5 rfl rfl)
theorem dJ12_append_6 : decode cJ12_append 6 = .ok (.iadd, 1) := dk_96 (dk_at dksJ12_append_0 6 rfl rfl)
theorem dJ12_append_7 : decode cJ12_append 7 = .ok (.invokevirtual 100, 3) := dk_182 0 100 (dk_at dksJ12_append_0 7 rfl rfl)
theorem dJ12_append_10 : decode cJ12_append 10 = .ok (.aload_n 0, 1) := dk_42 (dk_at dksJ12_append_0 10 rfl rfl)
theorem dJ12_append_11 : decode cJ12_append 11 = .ok (.invokevirtual 83, 3) := dk_182 0 83 (dk_at dksJ12_append_0 11 rfl rfl)
theorem dJ12_append_14 : decode cJ12_append 14 = .ok (.ifCond .eq 31, 3) := dk_153 0 31 (dk_at dksJ12_append_0 14 rfl rfl)
theorem dJ12_append_17 : decode cJ12_append 17 = .ok (.iload_n 1, 1) := dk_27 (dk_at dksJ12_append_0 17 rfl rfl)
theorem dJ12_append_18 : decode cJ12_append 18 = .ok (.invokestatic 191, 3) := dk_184 0 191 (dk_at dksJ12_append_0 18 rfl rfl)
theorem dJ12_append_21 : decode cJ12_append 21 = .ok (.ifCond .eq 24, 3) := dk_153 0 24 (dk_at dksJ12_append_0 21 rfl rfl)
theorem dJ12_append_24 : decode cJ12_append 24 = .ok (.aload_n 0, 1) := dk_42 (dk_at dksJ12_append_1 0 rfl rfl)
theorem dJ12_append_25 : decode cJ12_append 25 = .ok (.getfield 15, 3) := dk_180 0 15 (dk_at dksJ12_append_1 1 rfl rfl)
theorem dJ12_append_28 : decode cJ12_append 28 = .ok (.aload_n 0, 1) := dk_42 (dk_at dksJ12_append_1 4 rfl rfl)
theorem dJ12_append_29 : decode cJ12_append 29 = .ok (.dup, 1) := dk_89 (dk_at dksJ12_append_1 5 rfl rfl)
theorem dJ12_append_30 : decode cJ12_append 30 = .ok (.getfield 79, 3) := dk_180 0 79 (dk_at dksJ12_append_1 6 rfl rfl)
theorem dJ12_append_33 : decode cJ12_append 33 = .ok (.dup_x1, 1) := dk_90 (dk_at dksJ12_append_1 9 rfl rfl)
theorem dJ12_append_34 : decode cJ12_append 34 = .ok (.iconst 1, 1) := dk_4 (dk_at dksJ12_append_1 10 rfl rfl)
theorem dJ12_append_35 : decode cJ12_append 35 = .ok (.iadd, 1) := dk_96 (dk_at dksJ12_append_1 11 rfl rfl)
theorem dJ12_append_36 : decode cJ12_append 36 = .ok (.putfield 79, 3) := dk_181 0 79 (dk_at dksJ12_append_1 12 rfl rfl)
theorem dJ12_append_39 : decode cJ12_append 39 = .ok (.iload_n 1, 1) := dk_27 (dk_at dksJ12_append_1 15 rfl rfl)
theorem dJ12_append_40 : decode cJ12_append 40 = .ok (.i2b, 1) := dk_145 (dk_at dksJ12_append_1 16 rfl rfl)
theorem dJ12_append_41 : decode cJ12_append 41 = .ok (.bastore, 1) := dk_84 (dk_at dksJ12_append_1 17 rfl rfl)
theorem dJ12_append_42 : decode cJ12_append 42 = .ok (.goto 33, 3) := dk_167 0 33 (dk_at dksJ12_append_1 18 rfl rfl)
theorem dJ12_append_45 : decode cJ12_append 45 = .ok (.aload_n 0, 1) := dk_42 (dk_at dksJ12_append_1 21 rfl rfl)
theorem dJ12_append_46 : decode cJ12_append 46 = .ok (.invokevirtual 83, 3) := dk_182 0 83 (dk_at dksJ12_append_2 0 rfl rfl)
theorem dJ12_append_49 : decode cJ12_append 49 = .ok (.ifCond .eq 7, 3) := dk_153 0 7 (dk_at dksJ12_append_2 3 rfl rfl)
theorem dJ12_append_52 : decode cJ12_append 52 = .ok (.aload_n 0, 1) := dk_42 (dk_at dksJ12_append_2 6 rfl rfl)
theorem dJ12_append_53 : decode cJ12_append 53 = .ok (.invokevirtual 195, 3) := dk_182 0 195 (dk_at dksJ12_append_2 7 rfl rfl)
theorem dJ12_append_56 : decode cJ12_append 56 = .ok (.aload_n 0, 1) := dk_42 (dk_at dksJ12_append_2 10 rfl rfl)
theorem dJ12_append_57 : decode cJ12_append 57 = .ok (.getfield 15, 3) := dk_180 0 15 (dk_at dksJ12_append_2 11 rfl rfl)
theorem dJ12_append_60 : decode cJ12_append 60 = .ok (.aload_n 0, 1) := dk_42 (dk_at dksJ12_append_2 14 rfl rfl)
theorem dJ12_append_61 : decode cJ12_append 61 = .ok (.dup, 1) := dk_89 (dk_at dksJ12_append_2 15 rfl rfl)
theorem dJ12_append_62 : decode cJ12_append 62 = .ok (.getfield 79, 3) := dk_180 0 79 (dk_at dksJ12_append_2 16 rfl rfl)
theorem dJ12_append_65 : decode cJ12_append 65 = .ok (.dup_x1, 1) := dk_90 (dk_at dksJ12_append_2 19 rfl rfl)
theorem dJ12_append_66 : decode cJ12_append 66 = .ok (.iconst 1, 1) := dk_4 (dk_at dksJ12_append_2 20 rfl rfl)
theorem dJ12_append_67 : decode cJ12_append 67 = .ok (.iadd, 1) := dk_96 (dk_at dksJ12_append_2 21 rfl rfl)
theorem dJ12_append_68 : decode cJ12_append 68 = .ok (.putfield 79, 3) := dk_181 0 79 (dk_at dksJ12_append_3 0 rfl rfl)
theorem dJ12_append_71 : decode cJ12_append 71 = .ok (.iload_n 1, 1) := dk_27 (dk_at dksJ12_append_3 3 rfl rfl)
theorem dJ12_append_72 : decode cJ12_append 72 = .ok (.invokestatic 197, 3) := dk_184 0 197 (dk_at dksJ12_append_3 4 rfl rfl)
theorem dJ12_append_75 : decode cJ12_append 75 = .ok (.aload_n 0, 1) := dk_42 (dk_at dksJ12_append_3 7 rfl rfl)
theorem dJ12_append_76 : decode cJ12_append 76 = .ok (.areturn, 1) := dk_176 (dk_at dksJ12_append_3 8 rfl rfl)
abbrev cJ12_ensureCapacityInternal : ByteArray := prog_23_method_9_code
def yJ12_ensureCapacityInternal : MethodName := ⟨RJ12, "ensureCapacityInternal", "(I)V"⟩
def dkwJ12_ensureCapacityInternal_1 : List UInt8 := [182, 0, 104, 42, 180, 0, 22, 120, 184, 0, 108, 181, 0, 15, 177]
abbrev dktJ12_ensureCapacityInternal_1 : List UInt8 := dkwJ12_ensureCapacityInternal_1 ++ []
def dkwJ12_ensureCapacityInternal_0 : List UInt8 := [42, 180, 0, 15, 190, 42, 180, 0, 22, 122, 61, 27, 28, 100, 158, 0, 24, 42, 42, 180, 0, 15, 42, 27]
abbrev dktJ12_ensureCapacityInternal_0 : List UInt8 := dkwJ12_ensureCapacityInternal_0 ++ dktJ12_ensureCapacityInternal_1
theorem dksJ12_ensureCapacityInternal_0 : cJ12_ensureCapacityInternal.data.toList.drop 0 = dktJ12_ensureCapacityInternal_0 := by decide +kernel
theorem dksJ12_ensureCapacityInternal_1 : cJ12_ensureCapacityInternal.data.toList.drop 24 = dktJ12_ensureCapacityInternal_1 := dk_seg dksJ12_ensureCapacityInternal_0 24 rfl rfl
theorem dJ12_ensureCapacityInternal_0 : decode cJ12_ensureCapacityInternal 0 = .ok (.aload_n 0, 1) := dk_42 (dk_at dksJ12_ensureCapacityInternal_0 0 rfl rfl)
theorem dJ12_ensureCapacityInternal_1 : decode cJ12_ensureCapacityInternal 1 = .ok (.getfield 15, 3) := dk_180 0 15 (dk_at dksJ12_ensureCapacityInternal_0 1 rfl rfl)
theorem dJ12_ensureCapacityInternal_4 : decode cJ12_ensureCapacityInternal 4 = .ok (.arraylength, 1) := dk_190 (dk_at dksJ12_ensureCapacityInternal_0 4 rfl rfl)
theorem dJ12_ensureCapacityInternal_5 : decode cJ12_ensureCapacityInternal 5 = .ok (.aload_n 0, 1) := dk_42 (dk_at dksJ12_ensureCapacityInternal_0 5 rfl rfl)
theorem dJ12_ensureCapacityInternal_6 : decode cJ12_ensureCapacityInternal 6 = .ok (.getfield 22, 3) := dk_180 0 22 (dk_at dksJ12_ensureCapacityInternal_0 6 rfl rfl)
theorem dJ12_ensureCapacityInternal_9 : decode cJ12_ensureCapacityInternal 9 = .ok (.ishr, 1) := dk_122 (dk_at dksJ12_ensureCapacityInternal_0 9 rfl rfl)
theorem dJ12_ensureCapacityInternal_10 : decode cJ12_ensureCapacityInternal 10 = .ok (.istore_n 2, 1) := dk_61 (dk_at dksJ12_ensureCapacityInternal_0 10 rfl rfl)
theorem dJ12_ensureCapacityInternal_11 : decode cJ12_ensureCapacityInternal 11 = .ok (.iload_n 1, 1) := dk_27 (dk_at dksJ12_ensureCapacityInternal_0 11 rfl rfl)
theorem dJ12_ensureCapacityInternal_12 : decode cJ12_ensureCapacityInternal 12 = .ok (.iload_n 2, 1) := dk_28 (dk_at dksJ12_ensureCapacityInternal_0 12 rfl rfl)
theorem dJ12_ensureCapacityInternal_13 : decode cJ12_ensureCapacityInternal 13 = .ok (.isub, 1) := dk_100 (dk_at dksJ12_ensureCapacityInternal_0 13 rfl rfl)
theorem dJ12_ensureCapacityInternal_14 : decode cJ12_ensureCapacityInternal 14 = .ok (.ifCond .le 24, 3) := dk_158 0 24 (dk_at dksJ12_ensureCapacityInternal_0 14 rfl rfl)
theorem dJ12_ensureCapacityInternal_17 : decode cJ12_ensureCapacityInternal 17 = .ok (.aload_n 0, 1) := dk_42 (dk_at dksJ12_ensureCapacityInternal_0 17 rfl rfl)
theorem dJ12_ensureCapacityInternal_18 : decode cJ12_ensureCapacityInternal 18 = .ok (.aload_n 0, 1) := dk_42 (dk_at dksJ12_ensureCapacityInternal_0 18 rfl rfl)
theorem dJ12_ensureCapacityInternal_19 : decode cJ12_ensureCapacityInternal 19 = .ok (.getfield 15, 3) := dk_180 0 15 (dk_at dksJ12_ensureCapacityInternal_0 19 rfl rfl)
theorem dJ12_ensureCapacityInternal_22 : decode cJ12_ensureCapacityInternal 22 = .ok (.aload_n 0, 1) := dk_42 (dk_at dksJ12_ensureCapacityInternal_0 22 rfl rfl)
theorem dJ12_ensureCapacityInternal_23 : decode cJ12_ensureCapacityInternal 23 = .ok (.iload_n 1, 1) := dk_27 (dk_at dksJ12_ensureCapacityInternal_0 23 rfl rfl)
theorem dJ12_ensureCapacityInternal_24 : decode cJ12_ensureCapacityInternal 24 = .ok (.invokevirtual 104, 3) := dk_182 0 104 (dk_at dksJ12_ensureCapacityInternal_1 0 rfl rfl)
theorem dJ12_ensureCapacityInternal_27 : decode cJ12_ensureCapacityInternal 27 = .ok (.aload_n 0, 1) := dk_42 (dk_at dksJ12_ensureCapacityInternal_1 3 rfl rfl)
theorem dJ12_ensureCapacityInternal_28 : decode cJ12_ensureCapacityInternal 28 = .ok (.getfield 22, 3) := dk_180 0 22 (dk_at dksJ12_ensureCapacityInternal_1 4 rfl rfl)
theorem dJ12_ensureCapacityInternal_31 : decode cJ12_ensureCapacityInternal 31 = .ok (.ishl, 1) := dk_120 (dk_at dksJ12_ensureCapacityInternal_1 7 rfl rfl)
theorem dJ12_ensureCapacityInternal_32 : decode cJ12_ensureCapacityInternal 32 = .ok (.invokestatic 108, 3) := dk_184 0 108 (dk_at dksJ12_ensureCapacityInternal_1 8 rfl rfl)
theorem dJ12_ensureCapacityInternal_35 : decode cJ12_ensureCapacityInternal 35 = .ok (.putfield 15, 3) := dk_181 0 15 (dk_at dksJ12_ensureCapacityInternal_1 11 rfl rfl)
theorem dJ12_ensureCapacityInternal_38 : decode cJ12_ensureCapacityInternal 38 = .ok (.return_, 1) := dk_177 (dk_at dksJ12_ensureCapacityInternal_1 14 rfl rfl)
abbrev cJ12_newCapacity : ByteArray := prog_23_method_10_code
def yJ12_newCapacity : MethodName := ⟨RJ12, "newCapacity", "(I)I"⟩
def dkwJ12_newCapacity_2 : List UInt8 := [183, 0, 124, 191, 21, 5, 42, 180, 0, 22, 122, 172]
abbrev dktJ12_newCapacity_2 : List UInt8 := dkwJ12_newCapacity_2 ++ []
def dkwJ12_newCapacity_1 : List UInt8 := [180, 0, 22, 120, 96, 184, 0, 114, 54, 5, 21, 5, 18, 39, 160, 0, 13, 187, 0, 120, 89, 18, 122]
abbrev dktJ12_newCapacity_1 : List UInt8 := dkwJ12_newCapacity_1 ++ dktJ12_newCapacity_2
def dkwJ12_newCapacity_0 : List UInt8 := [42, 180, 0, 15, 190, 61, 27, 42, 180, 0, 22, 120, 62, 29, 28, 100, 54, 4, 28, 21, 4, 28, 5, 42]
abbrev dktJ12_newCapacity_0 : List UInt8 := dkwJ12_newCapacity_0 ++ dktJ12_newCapacity_1
theorem dksJ12_newCapacity_0 : cJ12_newCapacity.data.toList.drop 0 = dktJ12_newCapacity_0 := by decide +kernel
theorem dksJ12_newCapacity_1 : cJ12_newCapacity.data.toList.drop 24 = dktJ12_newCapacity_1 := dk_seg dksJ12_newCapacity_0 24 rfl rfl
theorem dksJ12_newCapacity_2 : cJ12_newCapacity.data.toList.drop 47 = dktJ12_newCapacity_2 := dk_seg dksJ12_newCapacity_1 23 rfl rfl
theorem dJ12_newCapacity_0 : decode cJ12_newCapacity 0 = .ok (.aload_n 0, 1) := dk_42 (dk_at dksJ12_newCapacity_0 0 rfl rfl)
theorem dJ12_newCapacity_1 : decode cJ12_newCapacity 1 = .ok (.getfield 15, 3) := dk_180 0 15 (dk_at dksJ12_newCapacity_0 1 rfl rfl)
theorem dJ12_newCapacity_4 : decode cJ12_newCapacity 4 = .ok (.arraylength, 1) := dk_190 (dk_at dksJ12_newCapacity_0 4 rfl rfl)
theorem dJ12_newCapacity_5 : decode cJ12_newCapacity 5 = .ok (.istore_n 2, 1) := dk_61 (dk_at dksJ12_newCapacity_0 5 rfl rfl)
theorem dJ12_newCapacity_6 : decode cJ12_newCapacity 6 = .ok (.iload_n 1, 1) := dk_27 (dk_at dksJ12_newCapacity_0 6 rfl rfl)
theorem dJ12_newCapacity_7 : decode cJ12_newCapacity 7 = .ok (.aload_n 0, 1) := dk_42 (dk_at dksJ12_newCapacity_0 7 rfl rfl)
theorem dJ12_newCapacity_8 : decode cJ12_newCapacity 8 = .ok (.getfield 22, 3) := dk_180 0 22 (dk_at dksJ12_newCapacity_0 8 rfl rfl)
theorem dJ12_newCapacity_11 : decode cJ12_newCapacity 11 = .ok (.ishl, 1) := dk_120 (dk_at dksJ12_newCapacity_0 11 rfl rfl)
theorem dJ12_newCapacity_12 : decode cJ12_newCapacity 12 = .ok (.istore_n 3, 1) := dk_62 (dk_at dksJ12_newCapacity_0 12 rfl rfl)
theorem dJ12_newCapacity_13 : decode cJ12_newCapacity 13 = .ok (.iload_n 3, 1) := dk_29 (dk_at dksJ12_newCapacity_0 13 rfl rfl)
theorem dJ12_newCapacity_14 : decode cJ12_newCapacity 14 = .ok (.iload_n 2, 1) := dk_28 (dk_at dksJ12_newCapacity_0 14 rfl rfl)
theorem dJ12_newCapacity_15 : decode cJ12_newCapacity 15 = .ok (.isub, 1) := dk_100 (dk_at dksJ12_newCapacity_0 15 rfl rfl)
theorem dJ12_newCapacity_16 : decode cJ12_newCapacity 16 = .ok (.istore 4, 2) := dk_54 4 (dk_at dksJ12_newCapacity_0 16 rfl rfl)
theorem dJ12_newCapacity_18 : decode cJ12_newCapacity 18 = .ok (.iload_n 2, 1) := dk_28 (dk_at dksJ12_newCapacity_0 18 rfl rfl)
theorem dJ12_newCapacity_19 : decode cJ12_newCapacity 19 = .ok (.iload 4, 2) := dk_21 4 (dk_at dksJ12_newCapacity_0 19 rfl rfl)
theorem dJ12_newCapacity_21 : decode cJ12_newCapacity 21 = .ok (.iload_n 2, 1) := dk_28 (dk_at dksJ12_newCapacity_0 21 rfl rfl)
theorem dJ12_newCapacity_22 : decode cJ12_newCapacity 22 = .ok (.iconst 2, 1) := dk_5 (dk_at dksJ12_newCapacity_0 22 rfl rfl)
theorem dJ12_newCapacity_23 : decode cJ12_newCapacity 23 = .ok (.aload_n 0, 1) := dk_42 (dk_at dksJ12_newCapacity_0 23 rfl rfl)
theorem dJ12_newCapacity_24 : decode cJ12_newCapacity 24 = .ok (.getfield 22, 3) := dk_180 0 22 (dk_at dksJ12_newCapacity_1 0 rfl rfl)
theorem dJ12_newCapacity_27 : decode cJ12_newCapacity 27 = .ok (.ishl, 1) := dk_120 (dk_at dksJ12_newCapacity_1 3 rfl rfl)
theorem dJ12_newCapacity_28 : decode cJ12_newCapacity 28 = .ok (.iadd, 1) := dk_96 (dk_at dksJ12_newCapacity_1 4 rfl rfl)
theorem dJ12_newCapacity_29 : decode cJ12_newCapacity 29 = .ok (.invokestatic 114, 3) := dk_184 0 114 (dk_at dksJ12_newCapacity_1 5 rfl rfl)
theorem dJ12_newCapacity_32 : decode cJ12_newCapacity 32 = .ok (.istore 5, 2) := dk_54 5 (dk_at dksJ12_newCapacity_1 8 rfl rfl)
theorem dJ12_newCapacity_34 : decode cJ12_newCapacity 34 = .ok (.iload 5, 2) := dk_21 5 (dk_at dksJ12_newCapacity_1 10 rfl rfl)
theorem dJ12_newCapacity_36 : decode cJ12_newCapacity 36 = .ok (.ldc 39, 2) := dk_18 39 (dk_at dksJ12_newCapacity_1 12 rfl rfl)
theorem dJ12_newCapacity_38 : decode cJ12_newCapacity 38 = .ok (.if_icmp .ne 13, 3) := dk_160 0 13 (dk_at dksJ12_newCapacity_1 14 rfl rfl)
theorem dJ12_newCapacity_41 : decode cJ12_newCapacity 41 = .ok (.new 120, 3) := dk_187 0 120 (dk_at dksJ12_newCapacity_1 17 rfl rfl)
theorem dJ12_newCapacity_44 : decode cJ12_newCapacity 44 = .ok (.dup, 1) := dk_89 (dk_at dksJ12_newCapacity_1 20 rfl rfl)
theorem dJ12_newCapacity_45 : decode cJ12_newCapacity 45 = .ok (.ldc 122, 2) := dk_18 122 (dk_at dksJ12_newCapacity_1 21 rfl rfl)
theorem dJ12_newCapacity_47 : decode cJ12_newCapacity 47 = .ok (.invokespecial 124, 3) := dk_183 0 124 (dk_at dksJ12_newCapacity_2 0 rfl rfl)
theorem dJ12_newCapacity_50 : decode cJ12_newCapacity 50 = .ok (.athrow, 1) := dk_191 (dk_at dksJ12_newCapacity_2 3 rfl rfl)
theorem dJ12_newCapacity_51 : decode cJ12_newCapacity 51 = .ok (.iload 5, 2) := dk_21 5 (dk_at dksJ12_newCapacity_2 4 rfl rfl)
theorem dJ12_newCapacity_53 : decode cJ12_newCapacity 53 = .ok (.aload_n 0, 1) := dk_42 (dk_at dksJ12_newCapacity_2 6 rfl rfl)
theorem dJ12_newCapacity_54 : decode cJ12_newCapacity 54 = .ok (.getfield 22, 3) := dk_180 0 22 (dk_at dksJ12_newCapacity_2 7 rfl rfl)
theorem dJ12_newCapacity_57 : decode cJ12_newCapacity 57 = .ok (.ishr, 1) := dk_122 (dk_at dksJ12_newCapacity_2 10 rfl rfl)
theorem dJ12_newCapacity_58 : decode cJ12_newCapacity 58 = .ok (.ireturn, 1) := dk_172 (dk_at dksJ12_newCapacity_2 11 rfl rfl)
abbrev cJ12_isLatin1 : ByteArray := prog_23_method_68_code
def yJ12_isLatin1 : MethodName := ⟨RJ12, "isLatin1", "()Z"⟩
def dkwJ12_isLatin1_0 : List UInt8 := [178, 0, 18, 153, 0, 14, 42, 180, 0, 22, 154, 0, 7, 4, 167, 0, 4, 3, 172]
abbrev dktJ12_isLatin1_0 : List UInt8 := dkwJ12_isLatin1_0 ++ []
theorem dksJ12_isLatin1_0 : cJ12_isLatin1.data.toList.drop 0 = dktJ12_isLatin1_0 := by decide +kernel
theorem dJ12_isLatin1_0 : decode cJ12_isLatin1 0 = .ok (.getstatic 18, 3) := dk_178 0 18 (dk_at dksJ12_isLatin1_0 0 rfl rfl)
theorem dJ12_isLatin1_3 : decode cJ12_isLatin1 3 = .ok (.ifCond .eq 14, 3) := dk_153 0 14 (dk_at dksJ12_isLatin1_0 3 rfl rfl)
theorem dJ12_isLatin1_6 : decode cJ12_isLatin1 6 = .ok (.aload_n 0, 1) := dk_42 (dk_at dksJ12_isLatin1_0 6 rfl rfl)
theorem dJ12_isLatin1_7 : decode cJ12_isLatin1 7 = .ok (.getfield 22, 3) := dk_180 0 22 (dk_at dksJ12_isLatin1_0 7 rfl rfl)
theorem dJ12_isLatin1_10 : decode cJ12_isLatin1 10 = .ok (.ifCond .ne 7, 3) := dk_154 0 7 (dk_at dksJ12_isLatin1_0 10 rfl rfl)
theorem dJ12_isLatin1_13 : decode cJ12_isLatin1 13 = .ok (.iconst 1, 1) := dk_4 (dk_at dksJ12_isLatin1_0 13 rfl rfl)
theorem dJ12_isLatin1_14 : decode cJ12_isLatin1 14 = .ok (.goto 4, 3) := dk_167 0 4 (dk_at dksJ12_isLatin1_0 14 rfl rfl)
theorem dJ12_isLatin1_17 : decode cJ12_isLatin1 17 = .ok (.iconst 0, 1) := dk_3 (dk_at dksJ12_isLatin1_0 17 rfl rfl)
theorem dJ12_isLatin1_18 : decode cJ12_isLatin1 18 = .ok (.ireturn, 1) := dk_172 (dk_at dksJ12_isLatin1_0 18 rfl rfl)
abbrev cJ12_inflate : ByteArray := prog_23_method_11_code
def yJ12_inflate : MethodName := ⟨RJ12, "inflate", "()V"⟩
def dkwJ12_inflate_1 : List UInt8 := [42, 180, 0, 79, 184, 0, 125, 42, 43, 181, 0, 15, 42, 4, 181, 0, 22, 177]
abbrev dktJ12_inflate_1 : List UInt8 := dkwJ12_inflate_1 ++ []
def dkwJ12_inflate_0 : List UInt8 := [42, 182, 0, 83, 154, 0, 4, 177, 42, 180, 0, 15, 190, 184, 0, 26, 76, 42, 180, 0, 15, 3, 43, 3]
abbrev dktJ12_inflate_0 : List UInt8 := dkwJ12_inflate_0 ++ dktJ12_inflate_1
theorem dksJ12_inflate_0 : cJ12_inflate.data.toList.drop 0 = dktJ12_inflate_0 := by decide +kernel
theorem dksJ12_inflate_1 : cJ12_inflate.data.toList.drop 24 = dktJ12_inflate_1 := dk_seg dksJ12_inflate_0 24 rfl rfl
theorem dJ12_inflate_0 : decode cJ12_inflate 0 = .ok (.aload_n 0, 1) := dk_42 (dk_at dksJ12_inflate_0 0 rfl rfl)
theorem dJ12_inflate_1 : decode cJ12_inflate 1 = .ok (.invokevirtual 83, 3) := dk_182 0 83 (dk_at dksJ12_inflate_0 1 rfl rfl)
theorem dJ12_inflate_4 : decode cJ12_inflate 4 = .ok (.ifCond .ne 4, 3) := dk_154 0 4 (dk_at dksJ12_inflate_0 4 rfl rfl)
theorem dJ12_inflate_7 : decode cJ12_inflate 7 = .ok (.return_, 1) := dk_177 (dk_at dksJ12_inflate_0 7 rfl rfl)
theorem dJ12_inflate_8 : decode cJ12_inflate 8 = .ok (.aload_n 0, 1) := dk_42 (dk_at dksJ12_inflate_0 8 rfl rfl)
theorem dJ12_inflate_9 : decode cJ12_inflate 9 = .ok (.getfield 15, 3) := dk_180 0 15 (dk_at dksJ12_inflate_0 9 rfl rfl)
theorem dJ12_inflate_12 : decode cJ12_inflate 12 = .ok (.arraylength, 1) := dk_190 (dk_at dksJ12_inflate_0 12 rfl rfl)
theorem dJ12_inflate_13 : decode cJ12_inflate 13 = .ok (.invokestatic 26, 3) := dk_184 0 26 (dk_at dksJ12_inflate_0 13 rfl rfl)
theorem dJ12_inflate_16 : decode cJ12_inflate 16 = .ok (.astore_n 1, 1) := dk_76 (dk_at dksJ12_inflate_0 16 rfl rfl)
theorem dJ12_inflate_17 : decode cJ12_inflate 17 = .ok (.aload_n 0, 1) := dk_42 (dk_at dksJ12_inflate_0 17 rfl rfl)
theorem dJ12_inflate_18 : decode cJ12_inflate 18 = .ok (.getfield 15, 3) := dk_180 0 15 (dk_at dksJ12_inflate_0 18 rfl rfl)
theorem dJ12_inflate_21 : decode cJ12_inflate 21 = .ok (.iconst 0, 1) := dk_3 (dk_at dksJ12_inflate_0 21 rfl rfl)
theorem dJ12_inflate_22 : decode cJ12_inflate 22 = .ok (.aload_n 1, 1) := dk_43 (dk_at dksJ12_inflate_0 22 rfl rfl)
theorem dJ12_inflate_23 : decode cJ12_inflate 23 = .ok (.iconst 0, 1) := dk_3 (dk_at dksJ12_inflate_0 23 rfl rfl)
theorem dJ12_inflate_24 : decode cJ12_inflate 24 = .ok (.aload_n 0, 1) := dk_42 (dk_at dksJ12_inflate_1 0 rfl rfl)
theorem dJ12_inflate_25 : decode cJ12_inflate 25 = .ok (.getfield 79, 3) := dk_180 0 79 (dk_at dksJ12_inflate_1 1 rfl rfl)
theorem dJ12_inflate_28 : decode cJ12_inflate 28 = .ok (.invokestatic 125, 3) := dk_184 0 125 (dk_at dksJ12_inflate_1 4 rfl rfl)
theorem dJ12_inflate_31 : decode cJ12_inflate 31 = .ok (.aload_n 0, 1) := dk_42 (dk_at dksJ12_inflate_1 7 rfl rfl)
theorem dJ12_inflate_32 : decode cJ12_inflate 32 = .ok (.aload_n 1, 1) := dk_43 (dk_at dksJ12_inflate_1 8 rfl rfl)
theorem dJ12_inflate_33 : decode cJ12_inflate 33 = .ok (.putfield 15, 3) := dk_181 0 15 (dk_at dksJ12_inflate_1 9 rfl rfl)
theorem dJ12_inflate_36 : decode cJ12_inflate 36 = .ok (.aload_n 0, 1) := dk_42 (dk_at dksJ12_inflate_1 12 rfl rfl)
theorem dJ12_inflate_37 : decode cJ12_inflate 37 = .ok (.iconst 1, 1) := dk_4 (dk_at dksJ12_inflate_1 13 rfl rfl)
theorem dJ12_inflate_38 : decode cJ12_inflate 38 = .ok (.putfield 22, 3) := dk_181 0 22 (dk_at dksJ12_inflate_1 14 rfl rfl)
theorem dJ12_inflate_41 : decode cJ12_inflate 41 = .ok (.return_, 1) := dk_177 (dk_at dksJ12_inflate_1 17 rfl rfl)
abbrev cJ12_getValue : ByteArray := prog_23_method_64_code
def yJ12_getValue : MethodName := ⟨RJ12, "getValue", "()[B"⟩
theorem dJ12_getValue_0 : decode cJ12_getValue 0 = .ok (.aload_n 0, 1) := by decide +kernel
theorem dJ12_getValue_1 : decode cJ12_getValue 1 = .ok (.getfield 15, 3) := by decide +kernel
theorem dJ12_getValue_4 : decode cJ12_getValue 4 = .ok (.areturn, 1) := by decide +kernel
abbrev cJ12_length : ByteArray := prog_23_method_6_code
def yJ12_length : MethodName := ⟨RJ12, "length", "()I"⟩
theorem dJ12_length_0 : decode cJ12_length 0 = .ok (.aload_n 0, 1) := by decide +kernel
theorem dJ12_length_1 : decode cJ12_length 1 = .ok (.getfield 79, 3) := by decide +kernel
theorem dJ12_length_4 : decode cJ12_length 4 = .ok (.ireturn, 1) := by decide +kernel
def mJ12_init : am_M := (yJ12_init, cJ12_init, 2, none, [])
theorem okJ12_init : am_Ok mJ12_init 1 := ⟨rfl, q806, q141, ⟨by decide +kernel, by decide +kernel, by decide +kernel⟩, by decide, by decide +kernel⟩
def mJ12_append : am_M := (yJ12_append, cJ12_append, 2, (some (.object "java/lang/AbstractStringBuilder")), [])
theorem okJ12_append : am_Ok mJ12_append 1 := ⟨rfl, q835, q141, ⟨by decide +kernel, by decide +kernel, by decide +kernel⟩, by decide, by decide +kernel⟩
def mJ12_ensureCapacityInternal : am_M := (yJ12_ensureCapacityInternal, cJ12_ensureCapacityInternal, 3, none, [])
theorem okJ12_ensureCapacityInternal : am_Ok mJ12_ensureCapacityInternal 1 := ⟨rfl, q839, q141, ⟨by decide +kernel, by decide +kernel, by decide +kernel⟩, by decide, by decide +kernel⟩
def mJ12_newCapacity : am_M := (yJ12_newCapacity, cJ12_newCapacity, 6, (some .int), [])
theorem okJ12_newCapacity : am_Ok mJ12_newCapacity 1 := ⟨rfl, q843, q141, ⟨by decide +kernel, by decide +kernel, by decide +kernel⟩, by decide, by decide +kernel⟩
def mJ12_isLatin1 : am_M := (yJ12_isLatin1, cJ12_isLatin1, 1, (some .boolean), [])
theorem okJ12_isLatin1 : am_Ok mJ12_isLatin1 0 := ⟨rfl, q871, q141, ⟨by decide +kernel, by decide +kernel, by decide +kernel⟩, by decide, by decide +kernel⟩
def mJ12_inflate : am_M := (yJ12_inflate, cJ12_inflate, 2, none, [])
theorem okJ12_inflate : am_Ok mJ12_inflate 0 := ⟨rfl, q878, q141, ⟨by decide +kernel, by decide +kernel, by decide +kernel⟩, by decide, by decide +kernel⟩
def mJ12_getValue : am_M := (yJ12_getValue, cJ12_getValue, 1, (some (.array .byte)), [])
theorem okJ12_getValue : am_Ok mJ12_getValue 0 := ⟨rfl, q917, q141, ⟨by decide +kernel, by decide +kernel, by decide +kernel⟩, by decide, by decide +kernel⟩
def mJ12_length : am_M := (yJ12_length, cJ12_length, 1, (some .int), [])
theorem okJ12_length : am_Ok mJ12_length 0 := ⟨rfl, q925, q141, ⟨by decide +kernel, by decide +kernel, by decide +kernel⟩, by decide, by decide +kernel⟩
/-! java/lang/StringBuilder -/
abbrev cJ13_init : ByteArray := prog_34_method_1_code
def yJ13_init : MethodName := ⟨RJ13, "<init>", "()V"⟩
def dkwJ13_init_0 : List UInt8 := [42, 16, 16, 183, 0, 1, 177]
abbrev dktJ13_init_0 : List UInt8 := dkwJ13_init_0 ++ []
theorem dksJ13_init_0 : cJ13_init.data.toList.drop 0 = dktJ13_init_0 := by decide +kernel
theorem dJ13_init_0 : decode cJ13_init 0 = .ok (.aload_n 0, 1) := dk_42 (dk_at dksJ13_init_0 0 rfl rfl)
theorem dJ13_init_1 : decode cJ13_init 1 = .ok (.bipush 16, 2) := dk_16 16 (dk_at dksJ13_init_0 1 rfl rfl)
theorem dJ13_init_3 : decode cJ13_init 3 = .ok (.invokespecial 1, 3) := dk_183 0 1 (dk_at dksJ13_init_0 3 rfl rfl)
theorem dJ13_init_6 : decode cJ13_init 6 = .ok (.return_, 1) := dk_177 (dk_at dksJ13_init_0 6 rfl rfl)
abbrev cJ13_append : ByteArray := prog_34_method_14_code
def yJ13_append : MethodName := ⟨RJ13, "append", "(C)Ljava/lang/StringBuilder;"⟩
def dkwJ13_append_0 : List UInt8 := [42, 27, 183, 0, 50, 87, 42, 176]
abbrev dktJ13_append_0 : List UInt8 := dkwJ13_append_0 ++ []
theorem dksJ13_append_0 : cJ13_append.data.toList.drop 0 = dktJ13_append_0 := by decide +kernel
theorem dJ13_append_0 : decode cJ13_append 0 = .ok (.aload_n 0, 1) := dk_42 (dk_at dksJ13_append_0 0 rfl rfl)
theorem dJ13_append_1 : decode cJ13_append 1 = .ok (.iload_n 1, 1) := dk_27 (dk_at dksJ13_append_0 1 rfl rfl)
theorem dJ13_append_2 : decode cJ13_append 2 = .ok (.invokespecial 50, 3) := dk_183 0 50 (dk_at dksJ13_append_0 2 rfl rfl)
theorem dJ13_append_5 : decode cJ13_append 5 = .ok (.pop, 1) := dk_87 (dk_at dksJ13_append_0 5 rfl rfl)
theorem dJ13_append_6 : decode cJ13_append 6 = .ok (.aload_n 0, 1) := dk_42 (dk_at dksJ13_append_0 6 rfl rfl)
theorem dJ13_append_7 : decode cJ13_append 7 = .ok (.areturn, 1) := dk_176 (dk_at dksJ13_append_0 7 rfl rfl)
abbrev cJ13_toString : ByteArray := prog_34_method_42_code
def yJ13_toString : MethodName := ⟨RJ13, "toString", "()Ljava/lang/String;"⟩
def dkwJ13_toString_0 : List UInt8 := [187, 0, 18, 89, 42, 183, 0, 137, 176]
abbrev dktJ13_toString_0 : List UInt8 := dkwJ13_toString_0 ++ []
theorem dksJ13_toString_0 : cJ13_toString.data.toList.drop 0 = dktJ13_toString_0 := by decide +kernel
theorem dJ13_toString_0 : decode cJ13_toString 0 = .ok (.new 18, 3) := dk_187 0 18 (dk_at dksJ13_toString_0 0 rfl rfl)
theorem dJ13_toString_3 : decode cJ13_toString 3 = .ok (.dup, 1) := dk_89 (dk_at dksJ13_toString_0 3 rfl rfl)
theorem dJ13_toString_4 : decode cJ13_toString 4 = .ok (.aload_n 0, 1) := dk_42 (dk_at dksJ13_toString_0 4 rfl rfl)
theorem dJ13_toString_5 : decode cJ13_toString 5 = .ok (.invokespecial 137, 3) := dk_183 0 137 (dk_at dksJ13_toString_0 5 rfl rfl)
theorem dJ13_toString_8 : decode cJ13_toString 8 = .ok (.areturn, 1) := dk_176 (dk_at dksJ13_toString_0 8 rfl rfl)
abbrev cJ13_length : ByteArray := prog_34_method_93_code
def yJ13_length : MethodName := ⟨RJ13, "length", "()I"⟩
theorem dJ13_length_0 : decode cJ13_length 0 = .ok (.aload_n 0, 1) := by decide +kernel
theorem dJ13_length_1 : decode cJ13_length 1 = .ok (.invokespecial 343, 3) := by decide +kernel
theorem dJ13_length_4 : decode cJ13_length 4 = .ok (.ireturn, 1) := by decide +kernel
def mJ13_init : am_M := (yJ13_init, cJ13_init, 1, none, [])
theorem okJ13_init : am_Ok mJ13_init 0 := ⟨rfl, q803, q142, ⟨by decide +kernel, by decide +kernel, by decide +kernel⟩, by decide, by decide +kernel⟩
def mJ13_append : am_M := (yJ13_append, cJ13_append, 2, (some (.object "java/lang/StringBuilder")), [])
theorem okJ13_append : am_Ok mJ13_append 1 := ⟨rfl, q832, q142, ⟨by decide +kernel, by decide +kernel, by decide +kernel⟩, by decide, by decide +kernel⟩
def mJ13_toString : am_M := (yJ13_toString, cJ13_toString, 1, (some (.object "java/lang/String")), [])
theorem okJ13_toString : am_Ok mJ13_toString 0 := ⟨rfl, q903, q142, ⟨by decide +kernel, by decide +kernel, by decide +kernel⟩, by decide, by decide +kernel⟩
def mJ13_length : am_M := (yJ13_length, cJ13_length, 1, (some .int), [])
theorem okJ13_length : am_Ok mJ13_length 0 := ⟨rfl, q923, q142, ⟨by decide +kernel, by decide +kernel, by decide +kernel⟩, by decide, by decide +kernel⟩
def RJ14 : String := "jdk/internal/util/ArraysSupport"
/-! jdk/internal/util/ArraysSupport -/
abbrev cJ14_newLength : ByteArray := prog_50_method_27_code
def yJ14_newLength : MethodName := ⟨RJ14, "newLength", "(III)I"⟩
def dkwJ14_newLength_1 : List UInt8 := [184, 0, 201, 172]
abbrev dktJ14_newLength_1 : List UInt8 := dkwJ14_newLength_1 ++ []
def dkwJ14_newLength_0 : List UInt8 := [26, 27, 28, 184, 0, 194, 96, 62, 3, 29, 162, 0, 11, 29, 18, 200, 163, 0, 5, 29, 172, 26, 27]
abbrev dktJ14_newLength_0 : List UInt8 := dkwJ14_newLength_0 ++ dktJ14_newLength_1
theorem dksJ14_newLength_0 : cJ14_newLength.data.toList.drop 0 = dktJ14_newLength_0 := by decide +kernel
theorem dksJ14_newLength_1 : cJ14_newLength.data.toList.drop 23 = dktJ14_newLength_1 := dk_seg dksJ14_newLength_0 23 rfl rfl
theorem dJ14_newLength_0 : decode cJ14_newLength 0 = .ok (.iload_n 0, 1) := dk_26 (dk_at dksJ14_newLength_0 0 rfl rfl)
theorem dJ14_newLength_1 : decode cJ14_newLength 1 = .ok (.iload_n 1, 1) := dk_27 (dk_at dksJ14_newLength_0 1 rfl rfl)
theorem dJ14_newLength_2 : decode cJ14_newLength 2 = .ok (.iload_n 2, 1) := dk_28 (dk_at dksJ14_newLength_0 2 rfl rfl)
theorem dJ14_newLength_3 : decode cJ14_newLength 3 = .ok (.invokestatic 194, 3) := dk_184 0 194 (dk_at dksJ14_newLength_0 3 rfl rfl)
theorem dJ14_newLength_6 : decode cJ14_newLength 6 = .ok (.iadd, 1) := dk_96 (dk_at dksJ14_newLength_0 6 rfl rfl)
theorem dJ14_newLength_7 : decode cJ14_newLength 7 = .ok (.istore_n 3, 1) := dk_62 (dk_at dksJ14_newLength_0 7 rfl rfl)
theorem dJ14_newLength_8 : decode cJ14_newLength 8 = .ok (.iconst 0, 1) := dk_3 (dk_at dksJ14_newLength_0 8 rfl rfl)
theorem dJ14_newLength_9 : decode cJ14_newLength 9 = .ok (.iload_n 3, 1) := dk_29 (dk_at dksJ14_newLength_0 9 rfl rfl)
theorem dJ14_newLength_10 : decode cJ14_newLength 10 = .ok (.if_icmp .ge 11, 3) := dk_162 0 11 (dk_at dksJ14_newLength_0 10 rfl rfl)
theorem dJ14_newLength_13 : decode cJ14_newLength 13 = .ok (.iload_n 3, 1) := dk_29 (dk_at dksJ14_newLength_0 13 rfl rfl)
theorem dJ14_newLength_14 : decode cJ14_newLength 14 = .ok (.ldc 200, 2) := dk_18 200 (dk_at dksJ14_newLength_0 14 rfl rfl)
theorem dJ14_newLength_16 : decode cJ14_newLength 16 = .ok (.if_icmp .gt 5, 3) := dk_163 0 5 (dk_at dksJ14_newLength_0 16 rfl rfl)
theorem dJ14_newLength_19 : decode cJ14_newLength 19 = .ok (.iload_n 3, 1) := dk_29 (dk_at dksJ14_newLength_0 19 rfl rfl)
theorem dJ14_newLength_20 : decode cJ14_newLength 20 = .ok (.ireturn, 1) := dk_172 (dk_at dksJ14_newLength_0 20 rfl rfl)
theorem dJ14_newLength_21 : decode cJ14_newLength 21 = .ok (.iload_n 0, 1) := dk_26 (dk_at dksJ14_newLength_0 21 rfl rfl)
theorem dJ14_newLength_22 : decode cJ14_newLength 22 = .ok (.iload_n 1, 1) := dk_27 (dk_at dksJ14_newLength_0 22 rfl rfl)
theorem dJ14_newLength_23 : decode cJ14_newLength 23 = .ok (.invokestatic 201, 3) := dk_184 0 201 (dk_at dksJ14_newLength_1 0 rfl rfl)
theorem dJ14_newLength_26 : decode cJ14_newLength 26 = .ok (.ireturn, 1) := dk_172 (dk_at dksJ14_newLength_1 3 rfl rfl)
abbrev cJ14_hugeLength : ByteArray := prog_50_method_28_code
def yJ14_hugeLength : MethodName := ⟨RJ14, "hugeLength", "(II)I"⟩
def dkwJ14_hugeLength_2 : List UInt8 := [191, 28, 18, 200, 163, 0, 6, 18, 200, 172, 28, 172]
abbrev dktJ14_hugeLength_2 : List UInt8 := dkwJ14_hugeLength_2 ++ []
def dkwJ14_hugeLength_1 : List UInt8 := [26, 182, 0, 98, 18, 208, 182, 0, 94, 27, 182, 0, 98, 18, 210, 182, 0, 94, 182, 0, 101, 183, 0, 212]
abbrev dktJ14_hugeLength_1 : List UInt8 := dkwJ14_hugeLength_1 ++ dktJ14_hugeLength_2
def dkwJ14_hugeLength_0 : List UInt8 := [26, 27, 96, 61, 28, 156, 0, 44, 187, 0, 204, 89, 187, 0, 89, 89, 183, 0, 91, 18, 206, 182, 0, 94]
abbrev dktJ14_hugeLength_0 : List UInt8 := dkwJ14_hugeLength_0 ++ dktJ14_hugeLength_1
theorem dksJ14_hugeLength_0 : cJ14_hugeLength.data.toList.drop 0 = dktJ14_hugeLength_0 := by decide +kernel
theorem dksJ14_hugeLength_1 : cJ14_hugeLength.data.toList.drop 24 = dktJ14_hugeLength_1 := dk_seg dksJ14_hugeLength_0 24 rfl rfl
theorem dksJ14_hugeLength_2 : cJ14_hugeLength.data.toList.drop 48 = dktJ14_hugeLength_2 := dk_seg dksJ14_hugeLength_1 24 rfl rfl
theorem dJ14_hugeLength_0 : decode cJ14_hugeLength 0 = .ok (.iload_n 0, 1) := dk_26 (dk_at dksJ14_hugeLength_0 0 rfl rfl)
theorem dJ14_hugeLength_1 : decode cJ14_hugeLength 1 = .ok (.iload_n 1, 1) := dk_27 (dk_at dksJ14_hugeLength_0 1 rfl rfl)
theorem dJ14_hugeLength_2 : decode cJ14_hugeLength 2 = .ok (.iadd, 1) := dk_96 (dk_at dksJ14_hugeLength_0 2 rfl rfl)
theorem dJ14_hugeLength_3 : decode cJ14_hugeLength 3 = .ok (.istore_n 2, 1) := dk_61 (dk_at dksJ14_hugeLength_0 3 rfl rfl)
theorem dJ14_hugeLength_4 : decode cJ14_hugeLength 4 = .ok (.iload_n 2, 1) := dk_28 (dk_at dksJ14_hugeLength_0 4 rfl rfl)
theorem dJ14_hugeLength_5 : decode cJ14_hugeLength 5 = .ok (.ifCond .ge 44, 3) := dk_156 0 44 (dk_at dksJ14_hugeLength_0 5 rfl rfl)
theorem dJ14_hugeLength_8 : decode cJ14_hugeLength 8 = .ok (.new 204, 3) := dk_187 0 204 (dk_at dksJ14_hugeLength_0 8 rfl rfl)
theorem dJ14_hugeLength_11 : decode cJ14_hugeLength 11 = .ok (.dup, 1) := dk_89 (dk_at dksJ14_hugeLength_0 11 rfl rfl)
theorem dJ14_hugeLength_12 : decode cJ14_hugeLength 12 = .ok (.new 89, 3) := dk_187 0 89 (dk_at dksJ14_hugeLength_0 12 rfl rfl)
theorem dJ14_hugeLength_15 : decode cJ14_hugeLength 15 = .ok (.dup, 1) := dk_89 (dk_at dksJ14_hugeLength_0 15 rfl rfl)
theorem dJ14_hugeLength_16 : decode cJ14_hugeLength 16 = .ok (.invokespecial 91, 3) := dk_183 0 91 (dk_at dksJ14_hugeLength_0 16 rfl rfl)
theorem dJ14_hugeLength_19 : decode cJ14_hugeLength 19 = .ok (.ldc 206, 2) := dk_18 206 (dk_at dksJ14_hugeLength_0 19 rfl rfl)
theorem dJ14_hugeLength_21 : decode cJ14_hugeLength 21 = .ok (.invokevirtual 94, 3) := dk_182 0 94 (dk_at dksJ14_hugeLength_0 21 rfl rfl)
theorem dJ14_hugeLength_24 : decode cJ14_hugeLength 24 = .ok (.iload_n 0, 1) := dk_26 (dk_at dksJ14_hugeLength_1 0 rfl rfl)
theorem dJ14_hugeLength_25 : decode cJ14_hugeLength 25 = .ok (.invokevirtual 98, 3) := dk_182 0 98 (dk_at dksJ14_hugeLength_1 1 rfl rfl)
theorem dJ14_hugeLength_28 : decode cJ14_hugeLength 28 = .ok (.ldc 208, 2) := dk_18 208 (dk_at dksJ14_hugeLength_1 4 rfl rfl)
theorem dJ14_hugeLength_30 : decode cJ14_hugeLength 30 = .ok (.invokevirtual 94, 3) := dk_182 0 94 (dk_at dksJ14_hugeLength_1 6 rfl rfl)
theorem dJ14_hugeLength_33 : decode cJ14_hugeLength 33 = .ok (.iload_n 1, 1) := dk_27 (dk_at dksJ14_hugeLength_1 9 rfl rfl)
theorem dJ14_hugeLength_34 : decode cJ14_hugeLength 34 = .ok (.invokevirtual 98, 3) := dk_182 0 98 (dk_at dksJ14_hugeLength_1 10 rfl rfl)
theorem dJ14_hugeLength_37 : decode cJ14_hugeLength 37 = .ok (.ldc 210, 2) := dk_18 210 (dk_at dksJ14_hugeLength_1 13 rfl rfl)
theorem dJ14_hugeLength_39 : decode cJ14_hugeLength 39 = .ok (.invokevirtual 94, 3) := dk_182 0 94 (dk_at dksJ14_hugeLength_1 15 rfl rfl)
theorem dJ14_hugeLength_42 : decode cJ14_hugeLength 42 = .ok (.invokevirtual 101, 3) := dk_182 0 101 (dk_at dksJ14_hugeLength_1 18 rfl rfl)
theorem dJ14_hugeLength_45 : decode cJ14_hugeLength 45 = .ok (.invokespecial 212, 3) := dk_183 0 212 (dk_at dksJ14_hugeLength_1 21 rfl rfl)
theorem dJ14_hugeLength_48 : decode cJ14_hugeLength 48 = .ok (.athrow, 1) := dk_191 (dk_at dksJ14_hugeLength_2 0 rfl rfl)
theorem dJ14_hugeLength_49 : decode cJ14_hugeLength 49 = .ok (.iload_n 2, 1) := dk_28 (dk_at dksJ14_hugeLength_2 1 rfl rfl)
theorem dJ14_hugeLength_50 : decode cJ14_hugeLength 50 = .ok (.ldc 200, 2) := dk_18 200 (dk_at dksJ14_hugeLength_2 2 rfl rfl)
theorem dJ14_hugeLength_52 : decode cJ14_hugeLength 52 = .ok (.if_icmp .gt 6, 3) := dk_163 0 6 (dk_at dksJ14_hugeLength_2 4 rfl rfl)
theorem dJ14_hugeLength_55 : decode cJ14_hugeLength 55 = .ok (.ldc 200, 2) := dk_18 200 (dk_at dksJ14_hugeLength_2 7 rfl rfl)
theorem dJ14_hugeLength_57 : decode cJ14_hugeLength 57 = .ok (.ireturn, 1) := dk_172 (dk_at dksJ14_hugeLength_2 9 rfl rfl)
theorem dJ14_hugeLength_58 : decode cJ14_hugeLength 58 = .ok (.iload_n 2, 1) := dk_28 (dk_at dksJ14_hugeLength_2 10 rfl rfl)
theorem dJ14_hugeLength_59 : decode cJ14_hugeLength 59 = .ok (.ireturn, 1) := dk_172 (dk_at dksJ14_hugeLength_2 11 rfl rfl)
def mJ14_newLength : am_M := (yJ14_newLength, cJ14_newLength, 4, (some .int), [])
theorem okJ14_newLength : am_Ok mJ14_newLength 3 := ⟨rfl, q846, q143, ⟨by decide +kernel, by decide +kernel, by decide +kernel⟩, by decide, by decide +kernel⟩
def mJ14_hugeLength : am_M := (yJ14_hugeLength, cJ14_hugeLength, 3, (some .int), [])
theorem okJ14_hugeLength : am_Ok mJ14_hugeLength 2 := ⟨rfl, q851, q143, ⟨by decide +kernel, by decide +kernel, by decide +kernel⟩, by decide, by decide +kernel⟩
def RJ15 : String := "java/util/Arrays"
/-! java/util/Arrays -/
abbrev cJ15_copyOf : ByteArray := prog_44_method_121_code
def yJ15_copyOf : MethodName := ⟨RJ15, "copyOf", "([BI)[B"⟩
def dkwJ15_copyOf_1 : List UInt8 := [27, 184, 1, 48, 184, 0, 150, 44, 176]
abbrev dktJ15_copyOf_1 : List UInt8 := dkwJ15_copyOf_1 ++ []
def dkwJ15_copyOf_0 : List UInt8 := [27, 42, 190, 160, 0, 11, 42, 182, 1, 54, 192, 1, 55, 176, 27, 188, 8, 77, 42, 3, 44, 3, 42, 190]
abbrev dktJ15_copyOf_0 : List UInt8 := dkwJ15_copyOf_0 ++ dktJ15_copyOf_1
theorem dksJ15_copyOf_0 : cJ15_copyOf.data.toList.drop 0 = dktJ15_copyOf_0 := by decide +kernel
theorem dksJ15_copyOf_1 : cJ15_copyOf.data.toList.drop 24 = dktJ15_copyOf_1 := dk_seg dksJ15_copyOf_0 24 rfl rfl
theorem dJ15_copyOf_0 : decode cJ15_copyOf 0 = .ok (.iload_n 1, 1) := dk_27 (dk_at dksJ15_copyOf_0 0 rfl rfl)
theorem dJ15_copyOf_1 : decode cJ15_copyOf 1 = .ok (.aload_n 0, 1) := dk_42 (dk_at dksJ15_copyOf_0 1 rfl rfl)
theorem dJ15_copyOf_2 : decode cJ15_copyOf 2 = .ok (.arraylength, 1) := dk_190 (dk_at dksJ15_copyOf_0 2 rfl rfl)
theorem dJ15_copyOf_3 : decode cJ15_copyOf 3 = .ok (.if_icmp .ne 11, 3) := dk_160 0 11 (dk_at dksJ15_copyOf_0 3 rfl rfl)
theorem dJ15_copyOf_6 : decode cJ15_copyOf 6 = .ok (.aload_n 0, 1) := dk_42 (dk_at dksJ15_copyOf_0 6 rfl rfl)
theorem dJ15_copyOf_7 : decode cJ15_copyOf 7 = .ok (.invokevirtual 310, 3) := dk_182 1 54 (dk_at dksJ15_copyOf_0 7 rfl rfl)
theorem dJ15_copyOf_10 : decode cJ15_copyOf 10 = .ok (.checkcast 311, 3) := dk_192 1 55 (dk_at dksJ15_copyOf_0 10 rfl rfl)
theorem dJ15_copyOf_13 : decode cJ15_copyOf 13 = .ok (.areturn, 1) := dk_176 (dk_at dksJ15_copyOf_0 13 rfl rfl)
theorem dJ15_copyOf_14 : decode cJ15_copyOf 14 = .ok (.iload_n 1, 1) := dk_27 (dk_at dksJ15_copyOf_0 14 rfl rfl)
theorem dJ15_copyOf_15 : decode cJ15_copyOf 15 = .ok (.newarray .byte, 2) := dk_188_8 (dk_at dksJ15_copyOf_0 15 rfl rfl)
theorem dJ15_copyOf_17 : decode cJ15_copyOf 17 = .ok (.astore_n 2, 1) := dk_77 (dk_at dksJ15_copyOf_0 17 rfl rfl)
theorem dJ15_copyOf_18 : decode cJ15_copyOf 18 = .ok (.aload_n 0, 1) := dk_42 (dk_at dksJ15_copyOf_0 18 rfl rfl)
theorem dJ15_copyOf_19 : decode cJ15_copyOf 19 = .ok (.iconst 0, 1) := dk_3 (dk_at dksJ15_copyOf_0 19 rfl rfl)
theorem dJ15_copyOf_20 : decode cJ15_copyOf 20 = .ok (.aload_n 2, 1) := dk_44 (dk_at dksJ15_copyOf_0 20 rfl rfl)
theorem dJ15_copyOf_21 : decode cJ15_copyOf 21 = .ok (.iconst 0, 1) := dk_3 (dk_at dksJ15_copyOf_0 21 rfl rfl)
theorem dJ15_copyOf_22 : decode cJ15_copyOf 22 = .ok (.aload_n 0, 1) := dk_42 (dk_at dksJ15_copyOf_0 22 rfl rfl)
theorem dJ15_copyOf_23 : decode cJ15_copyOf 23 = .ok (.arraylength, 1) := dk_190 (dk_at dksJ15_copyOf_0 23 rfl rfl)
theorem dJ15_copyOf_24 : decode cJ15_copyOf 24 = .ok (.iload_n 1, 1) := dk_27 (dk_at dksJ15_copyOf_1 0 rfl rfl)
theorem dJ15_copyOf_25 : decode cJ15_copyOf 25 = .ok (.invokestatic 304, 3) := dk_184 1 48 (dk_at dksJ15_copyOf_1 1 rfl rfl)
theorem dJ15_copyOf_28 : decode cJ15_copyOf 28 = .ok (.invokestatic 150, 3) := dk_184 0 150 (dk_at dksJ15_copyOf_1 4 rfl rfl)
theorem dJ15_copyOf_31 : decode cJ15_copyOf 31 = .ok (.aload_n 2, 1) := dk_44 (dk_at dksJ15_copyOf_1 7 rfl rfl)
theorem dJ15_copyOf_32 : decode cJ15_copyOf 32 = .ok (.areturn, 1) := dk_176 (dk_at dksJ15_copyOf_1 8 rfl rfl)
abbrev cJ15_copyOfRange : ByteArray := prog_44_method_132_code
def yJ15_copyOfRange : MethodName := ⟨RJ15, "copyOfRange", "([BII)[B"⟩
def dkwJ15_copyOfRange_1 : List UInt8 := [176]
abbrev dktJ15_copyOfRange_1 : List UInt8 := dkwJ15_copyOfRange_1 ++ []
def dkwJ15_copyOfRange_0 : List UInt8 := [27, 154, 0, 9, 28, 42, 190, 159, 0, 10, 42, 27, 28, 184, 1, 83, 176, 42, 182, 1, 54, 192, 1, 55]
abbrev dktJ15_copyOfRange_0 : List UInt8 := dkwJ15_copyOfRange_0 ++ dktJ15_copyOfRange_1
theorem dksJ15_copyOfRange_0 : cJ15_copyOfRange.data.toList.drop 0 = dktJ15_copyOfRange_0 := by decide +kernel
theorem dksJ15_copyOfRange_1 : cJ15_copyOfRange.data.toList.drop 24 = dktJ15_copyOfRange_1 := dk_seg dksJ15_copyOfRange_0 24 rfl rfl
theorem dJ15_copyOfRange_0 : decode cJ15_copyOfRange 0 = .ok (.iload_n 1, 1) := dk_27 (dk_at dksJ15_copyOfRange_0 0 rfl rfl)
theorem dJ15_copyOfRange_1 : decode cJ15_copyOfRange 1 = .ok (.ifCond .ne 9, 3) := dk_154 0 9 (dk_at dksJ15_copyOfRange_0 1 rfl rfl)
theorem dJ15_copyOfRange_4 : decode cJ15_copyOfRange 4 = .ok (.iload_n 2, 1) := dk_28 (dk_at dksJ15_copyOfRange_0 4 rfl rfl)
theorem dJ15_copyOfRange_5 : decode cJ15_copyOfRange 5 = .ok (.aload_n 0, 1) := dk_42 (dk_at dksJ15_copyOfRange_0 5 rfl rfl)
theorem dJ15_copyOfRange_6 : decode cJ15_copyOfRange 6 = .ok (.arraylength, 1) := dk_190 (dk_at dksJ15_copyOfRange_0 6 rfl rfl)
theorem dJ15_copyOfRange_7 : decode cJ15_copyOfRange 7 = .ok (.if_icmp .eq 10, 3) := dk_159 0 10 (dk_at dksJ15_copyOfRange_0 7 rfl rfl)
theorem dJ15_copyOfRange_10 : decode cJ15_copyOfRange 10 = .ok (.aload_n 0, 1) := dk_42 (dk_at dksJ15_copyOfRange_0 10 rfl rfl)
theorem dJ15_copyOfRange_11 : decode cJ15_copyOfRange 11 = .ok (.iload_n 1, 1) := dk_27 (dk_at dksJ15_copyOfRange_0 11 rfl rfl)
theorem dJ15_copyOfRange_12 : decode cJ15_copyOfRange 12 = .ok (.iload_n 2, 1) := dk_28 (dk_at dksJ15_copyOfRange_0 12 rfl rfl)
theorem dJ15_copyOfRange_13 : decode cJ15_copyOfRange 13 = .ok (.invokestatic 339, 3) := dk_184 1 83 (dk_at dksJ15_copyOfRange_0 13 rfl rfl)
theorem dJ15_copyOfRange_16 : decode cJ15_copyOfRange 16 = .ok (.areturn, 1) := dk_176 (dk_at dksJ15_copyOfRange_0 16 rfl rfl)
theorem dJ15_copyOfRange_17 : decode cJ15_copyOfRange 17 = .ok (.aload_n 0, 1) := dk_42 (dk_at dksJ15_copyOfRange_0 17 rfl rfl)
theorem dJ15_copyOfRange_18 : decode cJ15_copyOfRange 18 = .ok (.invokevirtual 310, 3) := dk_182 1 54 (dk_at dksJ15_copyOfRange_0 18 rfl rfl)
theorem dJ15_copyOfRange_21 : decode cJ15_copyOfRange 21 = .ok (.checkcast 311, 3) := dk_192 1 55 (dk_at dksJ15_copyOfRange_0 21 rfl rfl)
theorem dJ15_copyOfRange_24 : decode cJ15_copyOfRange 24 = .ok (.areturn, 1) := dk_176 (dk_at dksJ15_copyOfRange_1 0 rfl rfl)
abbrev cJ15_copyOfRangeByte : ByteArray := prog_44_method_133_code
def yJ15_copyOfRangeByte : MethodName := ⟨RJ15, "copyOfRangeByte", "([BII)[B"⟩
def dkwJ15_copyOfRangeByte_1 : List UInt8 := [184, 1, 48, 184, 0, 150, 25, 4, 176]
abbrev dktJ15_copyOfRangeByte_1 : List UInt8 := dkwJ15_copyOfRangeByte_1 ++ []
def dkwJ15_copyOfRangeByte_0 : List UInt8 := [27, 28, 184, 1, 87, 28, 27, 100, 62, 29, 188, 8, 58, 4, 42, 27, 25, 4, 3, 42, 190, 27, 100, 29]
abbrev dktJ15_copyOfRangeByte_0 : List UInt8 := dkwJ15_copyOfRangeByte_0 ++ dktJ15_copyOfRangeByte_1
theorem dksJ15_copyOfRangeByte_0 : cJ15_copyOfRangeByte.data.toList.drop 0 = dktJ15_copyOfRangeByte_0 := by decide +kernel
theorem dksJ15_copyOfRangeByte_1 : cJ15_copyOfRangeByte.data.toList.drop 24 = dktJ15_copyOfRangeByte_1 := dk_seg dksJ15_copyOfRangeByte_0 24 rfl rfl
theorem dJ15_copyOfRangeByte_0 : decode cJ15_copyOfRangeByte 0 = .ok (.iload_n 1, 1) := dk_27 (dk_at dksJ15_copyOfRangeByte_0 0 rfl rfl)
theorem dJ15_copyOfRangeByte_1 : decode cJ15_copyOfRangeByte 1 = .ok (.iload_n 2, 1) := dk_28 (dk_at dksJ15_copyOfRangeByte_0 1 rfl rfl)
theorem dJ15_copyOfRangeByte_2 : decode cJ15_copyOfRangeByte 2 = .ok (.invokestatic 343, 3) := dk_184 1 87 (dk_at dksJ15_copyOfRangeByte_0 2 rfl rfl)
theorem dJ15_copyOfRangeByte_5 : decode cJ15_copyOfRangeByte 5 = .ok (.iload_n 2, 1) := dk_28 (dk_at dksJ15_copyOfRangeByte_0 5 rfl rfl)
theorem dJ15_copyOfRangeByte_6 : decode cJ15_copyOfRangeByte 6 = .ok (.iload_n 1, 1) := dk_27 (dk_at dksJ15_copyOfRangeByte_0 6 rfl rfl)
theorem dJ15_copyOfRangeByte_7 : decode cJ15_copyOfRangeByte 7 = .ok (.isub, 1) := dk_100 (dk_at dksJ15_copyOfRangeByte_0 7 rfl rfl)
theorem dJ15_copyOfRangeByte_8 : decode cJ15_copyOfRangeByte 8 = .ok (.istore_n 3, 1) := dk_62 (dk_at dksJ15_copyOfRangeByte_0 8 rfl rfl)
theorem dJ15_copyOfRangeByte_9 : decode cJ15_copyOfRangeByte 9 = .ok (.iload_n 3, 1) := dk_29 (dk_at dksJ15_copyOfRangeByte_0 9 rfl rfl)
theorem dJ15_copyOfRangeByte_10 : decode cJ15_copyOfRangeByte 10 = .ok (.newarray .byte, 2) := dk_188_8 (dk_at dksJ15_copyOfRangeByte_0 10 rfl rfl)
theorem dJ15_copyOfRangeByte_12 : decode cJ15_copyOfRangeByte 12 = .ok (.astore 4, 2) := dk_58 4 (dk_at dksJ15_copyOfRangeByte_0 12 rfl rfl)
theorem dJ15_copyOfRangeByte_14 : decode cJ15_copyOfRangeByte 14 = .ok (.aload_n 0, 1) := dk_42 (dk_at dksJ15_copyOfRangeByte_0 14 rfl rfl)
theorem dJ15_copyOfRangeByte_15 : decode cJ15_copyOfRangeByte 15 = .ok (.iload_n 1, 1) := dk_27 (dk_at dksJ15_copyOfRangeByte_0 15 rfl rfl)
theorem dJ15_copyOfRangeByte_16 : decode cJ15_copyOfRangeByte 16 = .ok (.aload 4, 2) := dk_25 4 (dk_at dksJ15_copyOfRangeByte_0 16 rfl rfl)
theorem dJ15_copyOfRangeByte_18 : decode cJ15_copyOfRangeByte 18 = .ok (.iconst 0, 1) := dk_3 (dk_at dksJ15_copyOfRangeByte_0 18 rfl rfl)
theorem dJ15_copyOfRangeByte_19 : decode cJ15_copyOfRangeByte 19 = .ok (.aload_n 0, 1) := dk_42 (dk_at dksJ15_copyOfRangeByte_0 19 rfl rfl)
theorem dJ15_copyOfRangeByte_20 : decode cJ15_copyOfRangeByte 20 = .ok (.arraylength, 1) := dk_190 (dk_at dksJ15_copyOfRangeByte_0 20 rfl rfl)
theorem dJ15_copyOfRangeByte_21 : decode cJ15_copyOfRangeByte 21 = .ok (.iload_n 1, 1) := dk_27 (dk_at dksJ15_copyOfRangeByte_0 21 rfl rfl)
theorem dJ15_copyOfRangeByte_22 : decode cJ15_copyOfRangeByte 22 = .ok (.isub, 1) := dk_100 (dk_at dksJ15_copyOfRangeByte_0 22 rfl rfl)
theorem dJ15_copyOfRangeByte_23 : decode cJ15_copyOfRangeByte 23 = .ok (.iload_n 3, 1) := dk_29 (dk_at dksJ15_copyOfRangeByte_0 23 rfl rfl)
theorem dJ15_copyOfRangeByte_24 : decode cJ15_copyOfRangeByte 24 = .ok (.invokestatic 304, 3) := dk_184 1 48 (dk_at dksJ15_copyOfRangeByte_1 0 rfl rfl)
theorem dJ15_copyOfRangeByte_27 : decode cJ15_copyOfRangeByte 27 = .ok (.invokestatic 150, 3) := dk_184 0 150 (dk_at dksJ15_copyOfRangeByte_1 3 rfl rfl)
theorem dJ15_copyOfRangeByte_30 : decode cJ15_copyOfRangeByte 30 = .ok (.aload 4, 2) := dk_25 4 (dk_at dksJ15_copyOfRangeByte_1 6 rfl rfl)
theorem dJ15_copyOfRangeByte_32 : decode cJ15_copyOfRangeByte 32 = .ok (.areturn, 1) := dk_176 (dk_at dksJ15_copyOfRangeByte_1 8 rfl rfl)
abbrev cJ15_checkLength : ByteArray := prog_44_method_131_code
def yJ15_checkLength : MethodName := ⟨RJ15, "checkLength", "(II)V"⟩
def dkwJ15_checkLength_1 : List UInt8 := [182, 0, 50, 27, 182, 0, 54, 182, 0, 61, 183, 0, 65, 191, 177]
abbrev dktJ15_checkLength_1 : List UInt8 := dkwJ15_checkLength_1 ++ []
def dkwJ15_checkLength_0 : List UInt8 := [27, 26, 162, 0, 35, 187, 0, 43, 89, 187, 0, 45, 89, 183, 0, 47, 26, 182, 0, 54, 19, 1, 81]
abbrev dktJ15_checkLength_0 : List UInt8 := dkwJ15_checkLength_0 ++ dktJ15_checkLength_1
theorem dksJ15_checkLength_0 : cJ15_checkLength.data.toList.drop 0 = dktJ15_checkLength_0 := by decide +kernel
theorem dksJ15_checkLength_1 : cJ15_checkLength.data.toList.drop 23 = dktJ15_checkLength_1 := dk_seg dksJ15_checkLength_0 23 rfl rfl
theorem dJ15_checkLength_0 : decode cJ15_checkLength 0 = .ok (.iload_n 1, 1) := dk_27 (dk_at dksJ15_checkLength_0 0 rfl rfl)
theorem dJ15_checkLength_1 : decode cJ15_checkLength 1 = .ok (.iload_n 0, 1) := dk_26 (dk_at dksJ15_checkLength_0 1 rfl rfl)
theorem dJ15_checkLength_2 : decode cJ15_checkLength 2 = .ok (.if_icmp .ge 35, 3) := dk_162 0 35 (dk_at dksJ15_checkLength_0 2 rfl rfl)
theorem dJ15_checkLength_5 : decode cJ15_checkLength 5 = .ok (.new 43, 3) := dk_187 0 43 (dk_at dksJ15_checkLength_0 5 rfl rfl)
theorem dJ15_checkLength_8 : decode cJ15_checkLength 8 = .ok (.dup, 1) := dk_89 (dk_at dksJ15_checkLength_0 8 rfl rfl)
theorem dJ15_checkLength_9 : decode cJ15_checkLength 9 = .ok (.new 45, 3) := dk_187 0 45 (dk_at dksJ15_checkLength_0 9 rfl rfl)
theorem dJ15_checkLength_12 : decode cJ15_checkLength 12 = .ok (.dup, 1) := dk_89 (dk_at dksJ15_checkLength_0 12 rfl rfl)
theorem dJ15_checkLength_13 : decode cJ15_checkLength 13 = .ok (.invokespecial 47, 3) := dk_183 0 47 (dk_at dksJ15_checkLength_0 13 rfl rfl)
theorem dJ15_checkLength_16 : decode cJ15_checkLength 16 = .ok (.iload_n 0, 1) := dk_26 (dk_at dksJ15_checkLength_0 16 rfl rfl)
theorem dJ15_checkLength_17 : decode cJ15_checkLength 17 = .ok (.invokevirtual 54, 3) := dk_182 0 54 (dk_at dksJ15_checkLength_0 17 rfl rfl)
theorem dJ15_checkLength_20 : decode cJ15_checkLength 20 = .ok (.ldc_w 337, 3) := dk_19 1 81 (dk_at dksJ15_checkLength_0 20 rfl rfl)
theorem dJ15_checkLength_23 : decode cJ15_checkLength 23 = .ok (.invokevirtual 50, 3) := dk_182 0 50 (dk_at dksJ15_checkLength_1 0 rfl rfl)
theorem dJ15_checkLength_26 : decode cJ15_checkLength 26 = .ok (.iload_n 1, 1) := dk_27 (dk_at dksJ15_checkLength_1 3 rfl rfl)
theorem dJ15_checkLength_27 : decode cJ15_checkLength 27 = .ok (.invokevirtual 54, 3) := dk_182 0 54 (dk_at dksJ15_checkLength_1 4 rfl rfl)
theorem dJ15_checkLength_30 : decode cJ15_checkLength 30 = .ok (.invokevirtual 61, 3) := dk_182 0 61 (dk_at dksJ15_checkLength_1 7 rfl rfl)
theorem dJ15_checkLength_33 : decode cJ15_checkLength 33 = .ok (.invokespecial 65, 3) := dk_183 0 65 (dk_at dksJ15_checkLength_1 10 rfl rfl)
theorem dJ15_checkLength_36 : decode cJ15_checkLength 36 = .ok (.athrow, 1) := dk_191 (dk_at dksJ15_checkLength_1 13 rfl rfl)
theorem dJ15_checkLength_37 : decode cJ15_checkLength 37 = .ok (.return_, 1) := dk_177 (dk_at dksJ15_checkLength_1 14 rfl rfl)
abbrev cJ15_copyOf_2 : ByteArray := prog_44_method_119_code
def yJ15_copyOf_2 : MethodName := ⟨RJ15, "copyOf", "([Ljava/lang/Object;I)[Ljava/lang/Object;"⟩
def dkwJ15_copyOf_2_0 : List UInt8 := [42, 27, 42, 182, 0, 86, 184, 1, 44, 176]
abbrev dktJ15_copyOf_2_0 : List UInt8 := dkwJ15_copyOf_2_0 ++ []
theorem dksJ15_copyOf_2_0 : cJ15_copyOf_2.data.toList.drop 0 = dktJ15_copyOf_2_0 := by decide +kernel
theorem dJ15_copyOf_2_0 : decode cJ15_copyOf_2 0 = .ok (.aload_n 0, 1) := dk_42 (dk_at dksJ15_copyOf_2_0 0 rfl rfl)
theorem dJ15_copyOf_2_1 : decode cJ15_copyOf_2 1 = .ok (.iload_n 1, 1) := dk_27 (dk_at dksJ15_copyOf_2_0 1 rfl rfl)
theorem dJ15_copyOf_2_2 : decode cJ15_copyOf_2 2 = .ok (.aload_n 0, 1) := dk_42 (dk_at dksJ15_copyOf_2_0 2 rfl rfl)
theorem dJ15_copyOf_2_3 : decode cJ15_copyOf_2 3 = .ok (.invokevirtual 86, 3) := dk_182 0 86 (dk_at dksJ15_copyOf_2_0 3 rfl rfl)
theorem dJ15_copyOf_2_6 : decode cJ15_copyOf_2 6 = .ok (.invokestatic 300, 3) := dk_184 1 44 (dk_at dksJ15_copyOf_2_0 6 rfl rfl)
theorem dJ15_copyOf_2_9 : decode cJ15_copyOf_2 9 = .ok (.areturn, 1) := dk_176 (dk_at dksJ15_copyOf_2_0 9 rfl rfl)
abbrev cJ15_copyOf_3 : ByteArray := prog_44_method_120_code
def yJ15_copyOf_3 : MethodName := ⟨RJ15, "copyOf", "([Ljava/lang/Object;ILjava/lang/Class;)[Ljava/lang/Object;"⟩
def dkwJ15_copyOf_3_1 : List UInt8 := [78, 42, 3, 45, 3, 42, 190, 27, 184, 1, 48, 184, 0, 150, 45, 176]
abbrev dktJ15_copyOf_3_1 : List UInt8 := dkwJ15_copyOf_3_1 ++ []
def dkwJ15_copyOf_3_0 : List UInt8 := [44, 18, 110, 166, 0, 10, 27, 189, 0, 2, 167, 0, 14, 44, 182, 0, 90, 27, 184, 0, 95, 192, 0, 110]
abbrev dktJ15_copyOf_3_0 : List UInt8 := dkwJ15_copyOf_3_0 ++ dktJ15_copyOf_3_1
theorem dksJ15_copyOf_3_0 : cJ15_copyOf_3.data.toList.drop 0 = dktJ15_copyOf_3_0 := by decide +kernel
theorem dksJ15_copyOf_3_1 : cJ15_copyOf_3.data.toList.drop 24 = dktJ15_copyOf_3_1 := dk_seg dksJ15_copyOf_3_0 24 rfl rfl
theorem dJ15_copyOf_3_0 : decode cJ15_copyOf_3 0 = .ok (.aload_n 2, 1) := dk_44 (dk_at dksJ15_copyOf_3_0 0 rfl rfl)
theorem dJ15_copyOf_3_1 : decode cJ15_copyOf_3 1 = .ok (.ldc 110, 2) := dk_18 110 (dk_at dksJ15_copyOf_3_0 1 rfl rfl)
theorem dJ15_copyOf_3_3 : decode cJ15_copyOf_3 3 = .ok (.if_acmp .ne 10, 3) := dk_166 0 10 (dk_at dksJ15_copyOf_3_0 3 rfl rfl)
theorem dJ15_copyOf_3_6 : decode cJ15_copyOf_3 6 = .ok (.iload_n 1, 1) := dk_27 (dk_at dksJ15_copyOf_3_0 6 rfl rfl)
theorem dJ15_copyOf_3_7 : decode cJ15_copyOf_3 7 = .ok (.anewarray 2, 3) := dk_189 0 2 (dk_at dksJ15_copyOf_3_0 7 rfl rfl)
theorem dJ15_copyOf_3_10 : decode cJ15_copyOf_3 10 = .ok (.goto 14, 3) := dk_167 0 14 (dk_at dksJ15_copyOf_3_0 10 rfl rfl)
theorem dJ15_copyOf_3_13 : decode cJ15_copyOf_3 13 = .ok (.aload_n 2, 1) := dk_44 (dk_at dksJ15_copyOf_3_0 13 rfl rfl)
theorem dJ15_copyOf_3_14 : decode cJ15_copyOf_3 14 = .ok (.invokevirtual 90, 3) := dk_182 0 90 (dk_at dksJ15_copyOf_3_0 14 rfl rfl)
theorem dJ15_copyOf_3_17 : decode cJ15_copyOf_3 17 = .ok (.iload_n 1, 1) := dk_27 (dk_at dksJ15_copyOf_3_0 17 rfl rfl)
theorem dJ15_copyOf_3_18 : decode cJ15_copyOf_3 18 = .ok (.invokestatic 95, 3) := dk_184 0 95 (dk_at dksJ15_copyOf_3_0 18 rfl rfl)
theorem dJ15_copyOf_3_21 : decode cJ15_copyOf_3 21 = .ok (.checkcast 110, 3) := dk_192 0 110 (dk_at dksJ15_copyOf_3_0 21 rfl rfl)
theorem dJ15_copyOf_3_24 : decode cJ15_copyOf_3 24 = .ok (.astore_n 3, 1) := dk_78 (dk_at dksJ15_copyOf_3_1 0 rfl rfl)
theorem dJ15_copyOf_3_25 : decode cJ15_copyOf_3 25 = .ok (.aload_n 0, 1) := dk_42 (dk_at dksJ15_copyOf_3_1 1 rfl rfl)
theorem dJ15_copyOf_3_26 : decode cJ15_copyOf_3 26 = .ok (.iconst 0, 1) := dk_3 (dk_at dksJ15_copyOf_3_1 2 rfl rfl)
theorem dJ15_copyOf_3_27 : decode cJ15_copyOf_3 27 = .ok (.aload_n 3, 1) := dk_45 (dk_at dksJ15_copyOf_3_1 3 rfl rfl)
theorem dJ15_copyOf_3_28 : decode cJ15_copyOf_3 28 = .ok (.iconst 0, 1) := dk_3 (dk_at dksJ15_copyOf_3_1 4 rfl rfl)
theorem dJ15_copyOf_3_29 : decode cJ15_copyOf_3 29 = .ok (.aload_n 0, 1) := dk_42 (dk_at dksJ15_copyOf_3_1 5 rfl rfl)
theorem dJ15_copyOf_3_30 : decode cJ15_copyOf_3 30 = .ok (.arraylength, 1) := dk_190 (dk_at dksJ15_copyOf_3_1 6 rfl rfl)
theorem dJ15_copyOf_3_31 : decode cJ15_copyOf_3 31 = .ok (.iload_n 1, 1) := dk_27 (dk_at dksJ15_copyOf_3_1 7 rfl rfl)
theorem dJ15_copyOf_3_32 : decode cJ15_copyOf_3 32 = .ok (.invokestatic 304, 3) := dk_184 1 48 (dk_at dksJ15_copyOf_3_1 8 rfl rfl)
theorem dJ15_copyOf_3_35 : decode cJ15_copyOf_3 35 = .ok (.invokestatic 150, 3) := dk_184 0 150 (dk_at dksJ15_copyOf_3_1 11 rfl rfl)
theorem dJ15_copyOf_3_38 : decode cJ15_copyOf_3 38 = .ok (.aload_n 3, 1) := dk_45 (dk_at dksJ15_copyOf_3_1 14 rfl rfl)
theorem dJ15_copyOf_3_39 : decode cJ15_copyOf_3 39 = .ok (.areturn, 1) := dk_176 (dk_at dksJ15_copyOf_3_1 15 rfl rfl)
def mJ15_copyOf : am_M := (yJ15_copyOf, cJ15_copyOf, 3, (some (.array .byte)), [])
theorem okJ15_copyOf : am_Ok mJ15_copyOf 2 := ⟨rfl, q855, q144, ⟨by decide +kernel, by decide +kernel, by decide +kernel⟩, by decide, by decide +kernel⟩
def mJ15_copyOfRange : am_M := (yJ15_copyOfRange, cJ15_copyOfRange, 3, (some (.array .byte)), [])
theorem okJ15_copyOfRange : am_Ok mJ15_copyOfRange 3 := ⟨rfl, q929, q144, ⟨by decide +kernel, by decide +kernel, by decide +kernel⟩, by decide, by decide +kernel⟩
def mJ15_copyOfRangeByte : am_M := (yJ15_copyOfRangeByte, cJ15_copyOfRangeByte, 5, (some (.array .byte)), [])
theorem okJ15_copyOfRangeByte : am_Ok mJ15_copyOfRangeByte 3 := ⟨rfl, q932, q144, ⟨by decide +kernel, by decide +kernel, by decide +kernel⟩, by decide, by decide +kernel⟩
def mJ15_checkLength : am_M := (yJ15_checkLength, cJ15_checkLength, 2, none, [])
theorem okJ15_checkLength : am_Ok mJ15_checkLength 2 := ⟨rfl, q935, q144, ⟨by decide +kernel, by decide +kernel, by decide +kernel⟩, by decide, by decide +kernel⟩
def mJ15_copyOf_2 : am_M := (yJ15_copyOf_2, cJ15_copyOf_2, 2, (some (.array (.object "java/lang/Object"))), [])
theorem okJ15_copyOf_2 : am_Ok mJ15_copyOf_2 2 := ⟨rfl, q1040, q144, ⟨by decide +kernel, by decide +kernel, by decide +kernel⟩, by decide, by decide +kernel⟩
def mJ15_copyOf_3 : am_M := (yJ15_copyOf_3, cJ15_copyOf_3, 4, (some (.array (.object "java/lang/Object"))), [])
theorem okJ15_copyOf_3 : am_Ok mJ15_copyOf_3 3 := ⟨rfl, q1068, q144, ⟨by decide +kernel, by decide +kernel, by decide +kernel⟩, by decide, by decide +kernel⟩
def RJ16 : String := "java/lang/Integer"
/-! java/lang/Integer -/
abbrev cJ16_bitCount : ByteArray := prog_29_method_49_code
def yJ16_bitCount : MethodName := ⟨RJ16, "bitCount", "(I)I"⟩
def dkwJ16_bitCount_2 : List UInt8 := [26, 16, 63, 126, 172]
abbrev dktJ16_bitCount_2 : List UInt8 := dkwJ16_bitCount_2 ++ []
def dkwJ16_bitCount_1 : List UInt8 := [26, 26, 7, 124, 96, 19, 1, 11, 126, 59, 26, 26, 16, 8, 124, 96, 59, 26, 26, 16, 16, 124, 96, 59]
abbrev dktJ16_bitCount_1 : List UInt8 := dkwJ16_bitCount_1 ++ dktJ16_bitCount_2
def dkwJ16_bitCount_0 : List UInt8 := [26, 26, 4, 124, 19, 1, 9, 126, 100, 59, 26, 19, 1, 10, 126, 26, 5, 124, 19, 1, 10, 126, 96, 59]
abbrev dktJ16_bitCount_0 : List UInt8 := dkwJ16_bitCount_0 ++ dktJ16_bitCount_1
theorem dksJ16_bitCount_0 : cJ16_bitCount.data.toList.drop 0 = dktJ16_bitCount_0 := by decide +kernel
theorem dksJ16_bitCount_1 : cJ16_bitCount.data.toList.drop 24 = dktJ16_bitCount_1 := dk_seg dksJ16_bitCount_0 24 rfl rfl
theorem dksJ16_bitCount_2 : cJ16_bitCount.data.toList.drop 48 = dktJ16_bitCount_2 := dk_seg dksJ16_bitCount_1 24 rfl rfl
theorem dJ16_bitCount_0 : decode cJ16_bitCount 0 = .ok (.iload_n 0, 1) := dk_26 (dk_at dksJ16_bitCount_0 0 rfl rfl)
theorem dJ16_bitCount_1 : decode cJ16_bitCount 1 = .ok (.iload_n 0, 1) := dk_26 (dk_at dksJ16_bitCount_0 1 rfl rfl)
theorem dJ16_bitCount_2 : decode cJ16_bitCount 2 = .ok (.iconst 1, 1) := dk_4 (dk_at dksJ16_bitCount_0 2 rfl rfl)
theorem dJ16_bitCount_3 : decode cJ16_bitCount 3 = .ok (.iushr, 1) := dk_124 (dk_at dksJ16_bitCount_0 3 rfl rfl)
theorem dJ16_bitCount_4 : decode cJ16_bitCount 4 = .ok (.ldc_w 265, 3) := dk_19 1 9 (dk_at dksJ16_bitCount_0 4 rfl rfl)
theorem dJ16_bitCount_7 : decode cJ16_bitCount 7 = .ok (.iand, 1) := dk_126 (dk_at dksJ16_bitCount_0 7 rfl rfl)
theorem dJ16_bitCount_8 : decode cJ16_bitCount 8 = .ok (.isub, 1) := dk_100 (dk_at dksJ16_bitCount_0 8 rfl rfl)
theorem dJ16_bitCount_9 : decode cJ16_bitCount 9 = .ok (.istore_n 0, 1) := dk_59 (dk_at dksJ16_bitCount_0 9 rfl rfl)
theorem dJ16_bitCount_10 : decode cJ16_bitCount 10 = .ok (.iload_n 0, 1) := dk_26 (dk_at dksJ16_bitCount_0 10 rfl rfl)
theorem dJ16_bitCount_11 : decode cJ16_bitCount 11 = .ok (.ldc_w 266, 3) := dk_19 1 10 (dk_at dksJ16_bitCount_0 11 rfl rfl)
theorem dJ16_bitCount_14 : decode cJ16_bitCount 14 = .ok (.iand, 1) := dk_126 (dk_at dksJ16_bitCount_0 14 rfl rfl)
theorem dJ16_bitCount_15 : decode cJ16_bitCount 15 = .ok (.iload_n 0, 1) := dk_26 (dk_at dksJ16_bitCount_0 15 rfl rfl)
theorem dJ16_bitCount_16 : decode cJ16_bitCount 16 = .ok (.iconst 2, 1) := dk_5 (dk_at dksJ16_bitCount_0 16 rfl rfl)
theorem dJ16_bitCount_17 : decode cJ16_bitCount 17 = .ok (.iushr, 1) := dk_124 (dk_at dksJ16_bitCount_0 17 rfl rfl)
theorem dJ16_bitCount_18 : decode cJ16_bitCount 18 = .ok (.ldc_w 266, 3) := dk_19 1 10 (dk_at dksJ16_bitCount_0 18 rfl rfl)
theorem dJ16_bitCount_21 : decode cJ16_bitCount 21 = .ok (.iand, 1) := dk_126 (dk_at dksJ16_bitCount_0 21 rfl rfl)
theorem dJ16_bitCount_22 : decode cJ16_bitCount 22 = .ok (.iadd, 1) := dk_96 (dk_at dksJ16_bitCount_0 22 rfl rfl)
theorem dJ16_bitCount_23 : decode cJ16_bitCount 23 = .ok (.istore_n 0, 1) := dk_59 (dk_at dksJ16_bitCount_0 23 rfl rfl)
theorem dJ16_bitCount_24 : decode cJ16_bitCount 24 = .ok (.iload_n 0, 1) := dk_26 (dk_at dksJ16_bitCount_1 0 rfl rfl)
theorem dJ16_bitCount_25 : decode cJ16_bitCount 25 = .ok (.iload_n 0, 1) := dk_26 (dk_at dksJ16_bitCount_1 1 rfl rfl)
theorem dJ16_bitCount_26 : decode cJ16_bitCount 26 = .ok (.iconst 4, 1) := dk_7 (dk_at dksJ16_bitCount_1 2 rfl rfl)
theorem dJ16_bitCount_27 : decode cJ16_bitCount 27 = .ok (.iushr, 1) := dk_124 (dk_at dksJ16_bitCount_1 3 rfl rfl)
theorem dJ16_bitCount_28 : decode cJ16_bitCount 28 = .ok (.iadd, 1) := dk_96 (dk_at dksJ16_bitCount_1 4 rfl rfl)
theorem dJ16_bitCount_29 : decode cJ16_bitCount 29 = .ok (.ldc_w 267, 3) := dk_19 1 11 (dk_at dksJ16_bitCount_1 5 rfl rfl)
theorem dJ16_bitCount_32 : decode cJ16_bitCount 32 = .ok (.iand, 1) := dk_126 (dk_at dksJ16_bitCount_1 8 rfl rfl)
theorem dJ16_bitCount_33 : decode cJ16_bitCount 33 = .ok (.istore_n 0, 1) := dk_59 (dk_at dksJ16_bitCount_1 9 rfl rfl)
theorem dJ16_bitCount_34 : decode cJ16_bitCount 34 = .ok (.iload_n 0, 1) := dk_26 (dk_at dksJ16_bitCount_1 10 rfl rfl)
theorem dJ16_bitCount_35 : decode cJ16_bitCount 35 = .ok (.iload_n 0, 1) := dk_26 (dk_at dksJ16_bitCount_1 11 rfl rfl)
theorem dJ16_bitCount_36 : decode cJ16_bitCount 36 = .ok (.bipush 8, 2) := dk_16 8 (dk_at dksJ16_bitCount_1 12 rfl rfl)
theorem dJ16_bitCount_38 : decode cJ16_bitCount 38 = .ok (.iushr, 1) := dk_124 (dk_at dksJ16_bitCount_1 14 rfl rfl)
theorem dJ16_bitCount_39 : decode cJ16_bitCount 39 = .ok (.iadd, 1) := dk_96 (dk_at dksJ16_bitCount_1 15 rfl rfl)
theorem dJ16_bitCount_40 : decode cJ16_bitCount 40 = .ok (.istore_n 0, 1) := dk_59 (dk_at dksJ16_bitCount_1 16 rfl rfl)
theorem dJ16_bitCount_41 : decode cJ16_bitCount 41 = .ok (.iload_n 0, 1) := dk_26 (dk_at dksJ16_bitCount_1 17 rfl rfl)
theorem dJ16_bitCount_42 : decode cJ16_bitCount 42 = .ok (.iload_n 0, 1) := dk_26 (dk_at dksJ16_bitCount_1 18 rfl rfl)
theorem dJ16_bitCount_43 : decode cJ16_bitCount 43 = .ok (.bipush 16, 2) := dk_16 16 (dk_at dksJ16_bitCount_1 19 rfl rfl)
theorem dJ16_bitCount_45 : decode cJ16_bitCount 45 = .ok (.iushr, 1) := dk_124 (dk_at dksJ16_bitCount_1 21 rfl rfl)
theorem dJ16_bitCount_46 : decode cJ16_bitCount 46 = .ok (.iadd, 1) := dk_96 (dk_at dksJ16_bitCount_1 22 rfl rfl)
theorem dJ16_bitCount_47 : decode cJ16_bitCount 47 = .ok (.istore_n 0, 1) := dk_59 (dk_at dksJ16_bitCount_1 23 rfl rfl)
theorem dJ16_bitCount_48 : decode cJ16_bitCount 48 = .ok (.iload_n 0, 1) := dk_26 (dk_at dksJ16_bitCount_2 0 rfl rfl)
theorem dJ16_bitCount_49 : decode cJ16_bitCount 49 = .ok (.bipush 63, 2) := dk_16 63 (dk_at dksJ16_bitCount_2 1 rfl rfl)
theorem dJ16_bitCount_51 : decode cJ16_bitCount 51 = .ok (.iand, 1) := dk_126 (dk_at dksJ16_bitCount_2 3 rfl rfl)
theorem dJ16_bitCount_52 : decode cJ16_bitCount 52 = .ok (.ireturn, 1) := dk_172 (dk_at dksJ16_bitCount_2 4 rfl rfl)
def mJ16_bitCount : am_M := (yJ16_bitCount, cJ16_bitCount, 1, (some .int), [])
theorem okJ16_bitCount : am_Ok mJ16_bitCount 1 := ⟨rfl, q1342, q151, ⟨by decide +kernel, by decide +kernel, by decide +kernel⟩, by decide, by decide +kernel⟩
def RJ17 : String := "java/lang/Object"
/-! java/lang/Object -/
abbrev cJ17_init : ByteArray := object_method_1_code
def yJ17_init : MethodName := ⟨RJ17, "<init>", "()V"⟩
theorem dJ17_init_0 : decode cJ17_init 0 = .ok (.return_, 1) := by decide +kernel
def mJ17_init : am_M := (yJ17_init, cJ17_init, 1, none, [])
