set_option maxRecDepth 100000
/-! ThreadTownModel -/
abbrev cX13_init : ByteArray := prog_21_method_2_code
def yX13_init : MethodName := ⟨RX13, "<init>", "()V"⟩
def dkwX13_init_34 : List UInt8 := [182, 0, 188, 177]
abbrev dktX13_init_34 : List UInt8 := dkwX13_init_34 ++ []
def dkwX13_init_33 : List UInt8 := [16, 16, 16, 114, 16, 97, 16, 110, 16, 107, 3, 3, 3, 184, 0, 181, 80, 42, 182, 0, 185, 42]
abbrev dktX13_init_33 : List UInt8 := dkwX13_init_33 ++ dktX13_init_34
def dkwX13_init_32 : List UInt8 := [180, 0, 34, 16, 15, 16, 108, 16, 111, 16, 116, 3, 3, 3, 3, 184, 0, 181, 80, 42, 180, 0, 34]
abbrev dktX13_init_32 : List UInt8 := dkwX13_init_32 ++ dktX13_init_33
def dkwX13_init_31 : List UInt8 := [42, 180, 0, 34, 16, 14, 16, 108, 16, 101, 16, 102, 16, 116, 3, 3, 3, 184, 0, 181, 80, 42]
abbrev dktX13_init_31 : List UInt8 := dkwX13_init_31 ++ dktX13_init_32
def dkwX13_init_30 : List UInt8 := [80, 42, 180, 0, 34, 16, 13, 16, 109, 16, 105, 16, 110, 16, 117, 16, 116, 16, 101, 3, 184, 0, 181, 80]
abbrev dktX13_init_30 : List UInt8 := dkwX13_init_30 ++ dktX13_init_31
def dkwX13_init_29 : List UInt8 := [3, 3, 3, 184, 0, 181, 80, 42, 180, 0, 34, 16, 12, 16, 121, 3, 3, 3, 3, 3, 3, 184, 0, 181]
abbrev dktX13_init_29 : List UInt8 := dkwX13_init_29 ++ dktX13_init_30
def dkwX13_init_28 : List UInt8 := [16, 108, 16, 115, 16, 101, 3, 3, 3, 184, 0, 181, 80, 42, 180, 0, 34, 16, 11, 16, 120, 3, 3, 3]
abbrev dktX13_init_28 : List UInt8 := dkwX13_init_28 ++ dktX13_init_29
def dkwX13_init_27 : List UInt8 := [16, 116, 16, 104, 16, 101, 16, 110, 3, 3, 3, 184, 0, 181, 80, 42, 180, 0, 34, 16, 10, 16, 101]
abbrev dktX13_init_27 : List UInt8 := dkwX13_init_27 ++ dktX13_init_28
def dkwX13_init_26 : List UInt8 := [180, 0, 34, 16, 8, 16, 105, 16, 102, 3, 3, 3, 3, 3, 184, 0, 181, 80, 42, 180, 0, 34, 16, 9]
abbrev dktX13_init_26 : List UInt8 := dkwX13_init_26 ++ dktX13_init_27
def dkwX13_init_25 : List UInt8 := [42, 180, 0, 34, 16, 7, 16, 115, 16, 101, 16, 101, 16, 100, 3, 3, 3, 184, 0, 181, 80, 42]
abbrev dktX13_init_25 : List UInt8 := dkwX13_init_25 ++ dktX13_init_26
def dkwX13_init_24 : List UInt8 := [184, 0, 181, 80, 42, 180, 0, 34, 16, 6, 16, 100, 16, 121, 16, 101, 3, 3, 3, 3, 184, 0, 181, 80]
abbrev dktX13_init_24 : List UInt8 := dkwX13_init_24 ++ dktX13_init_25
def dkwX13_init_23 : List UInt8 := [3, 184, 0, 181, 80, 42, 180, 0, 34, 8, 16, 112, 16, 105, 16, 108, 16, 108, 16, 97, 16, 114, 3]
abbrev dktX13_init_23 : List UInt8 := dkwX13_init_23 ++ dktX13_init_24
def dkwX13_init_22 : List UInt8 := [3, 3, 3, 184, 0, 181, 80, 42, 180, 0, 34, 7, 16, 101, 16, 114, 16, 114, 16, 97, 16, 110, 16, 100]
abbrev dktX13_init_22 : List UInt8 := dkwX13_init_22 ++ dktX13_init_23
def dkwX13_init_21 : List UInt8 := [16, 101, 16, 115, 3, 3, 3, 184, 0, 181, 80, 42, 180, 0, 34, 6, 16, 108, 16, 111, 16, 110, 16, 103]
abbrev dktX13_init_21 : List UInt8 := dkwX13_init_21 ++ dktX13_init_22
def dkwX13_init_20 : List UInt8 := [4, 16, 109, 16, 97, 16, 110, 3, 3, 3, 3, 184, 0, 181, 80, 42, 180, 0, 34, 5, 16, 103, 16, 111]
abbrev dktX13_init_20 : List UInt8 := dkwX13_init_20 ++ dktX13_init_21
def dkwX13_init_19 : List UInt8 := [42, 180, 0, 34, 3, 16, 116, 16, 111, 16, 119, 16, 110, 3, 3, 3, 184, 0, 181, 80, 42, 180, 0, 34]
abbrev dktX13_init_19 : List UInt8 := dkwX13_init_19 ++ dktX13_init_20
def dkwX13_init_18 : List UInt8 := [181, 0, 168, 42, 6, 188, 4, 181, 0, 171, 42, 17, 15, 30, 188, 10, 181, 0, 174, 42, 3, 182, 0, 177]
abbrev dktX13_init_18 : List UInt8 := dkwX13_init_18 ++ dktX13_init_19
def dkwX13_init_17 : List UInt8 := [181, 0, 159, 42, 16, 12, 188, 10, 181, 0, 162, 42, 16, 12, 188, 10, 181, 0, 165, 42, 16, 12, 188, 4]
abbrev dktX13_init_17 : List UInt8 := dkwX13_init_17 ++ dktX13_init_18
def dkwX13_init_16 : List UInt8 := [42, 16, 7, 188, 10, 181, 0, 153, 42, 17, 15, 192, 188, 10, 181, 0, 156, 42, 17, 0, 196, 188, 10]
abbrev dktX13_init_16 : List UInt8 := dkwX13_init_16 ++ dktX13_init_17
def dkwX13_init_15 : List UInt8 := [17, 0, 128, 188, 10, 181, 0, 144, 42, 16, 6, 188, 10, 181, 0, 147, 42, 16, 6, 188, 10, 181, 0, 150]
abbrev dktX13_init_15 : List UInt8 := dkwX13_init_15 ++ dktX13_init_16
def dkwX13_init_14 : List UInt8 := [16, 7, 188, 10, 181, 0, 134, 42, 18, 137, 188, 10, 181, 0, 138, 42, 16, 7, 188, 10, 181, 0, 141, 42]
abbrev dktX13_init_14 : List UInt8 := dkwX13_init_14 ++ dktX13_init_15
def dkwX13_init_13 : List UInt8 := [188, 10, 181, 0, 125, 42, 17, 5, 10, 188, 10, 181, 0, 128, 42, 17, 5, 10, 188, 10, 181, 0, 131, 42]
abbrev dktX13_init_13 : List UInt8 := dkwX13_init_13 ++ dktX13_init_14
def dkwX13_init_12 : List UInt8 := [181, 0, 116, 42, 16, 64, 188, 10, 181, 0, 119, 42, 16, 6, 188, 10, 181, 0, 122, 42, 17, 1, 144]
abbrev dktX13_init_12 : List UInt8 := dkwX13_init_12 ++ dktX13_init_13
def dkwX13_init_11 : List UInt8 := [17, 1, 4, 188, 10, 181, 0, 110, 42, 17, 3, 72, 188, 10, 181, 0, 113, 42, 17, 3, 72, 188, 10]
abbrev dktX13_init_11 : List UInt8 := dkwX13_init_11 ++ dktX13_init_12
def dkwX13_init_10 : List UInt8 := [188, 10, 181, 0, 101, 42, 17, 1, 4, 188, 10, 181, 0, 104, 42, 17, 1, 4, 188, 10, 181, 0, 107, 42]
abbrev dktX13_init_10 : List UInt8 := dkwX13_init_10 ++ dktX13_init_11
def dkwX13_init_9 : List UInt8 := [181, 0, 91, 42, 16, 16, 188, 10, 181, 0, 94, 42, 17, 1, 4, 188, 4, 181, 0, 97, 42, 17, 1, 4]
abbrev dktX13_init_9 : List UInt8 := dkwX13_init_9 ++ dktX13_init_10
def dkwX13_init_8 : List UInt8 := [181, 0, 82, 42, 16, 49, 188, 10, 181, 0, 85, 42, 16, 49, 188, 10, 181, 0, 88, 42, 16, 16, 188, 10]
abbrev dktX13_init_8 : List UInt8 := dkwX13_init_8 ++ dktX13_init_9
def dkwX13_init_7 : List UInt8 := [181, 0, 73, 42, 16, 12, 188, 10, 181, 0, 76, 42, 5, 188, 10, 181, 0, 79, 42, 16, 49, 188, 10]
abbrev dktX13_init_7 : List UInt8 := dkwX13_init_7 ++ dktX13_init_8
def dkwX13_init_6 : List UInt8 := [181, 0, 64, 42, 16, 84, 188, 10, 181, 0, 67, 42, 5, 188, 10, 181, 0, 70, 42, 16, 12, 188, 10]
abbrev dktX13_init_6 : List UInt8 := dkwX13_init_6 ++ dktX13_init_7
def dkwX13_init_5 : List UInt8 := [181, 0, 55, 42, 16, 14, 188, 10, 181, 0, 58, 42, 16, 14, 188, 10, 181, 0, 61, 42, 16, 84, 188, 10]
abbrev dktX13_init_5 : List UInt8 := dkwX13_init_5 ++ dktX13_init_6
def dkwX13_init_4 : List UInt8 := [181, 0, 46, 42, 5, 188, 10, 181, 0, 49, 42, 16, 14, 188, 10, 181, 0, 52, 42, 16, 14, 188, 10]
abbrev dktX13_init_4 : List UInt8 := dkwX13_init_4 ++ dktX13_init_5
def dkwX13_init_3 : List UInt8 := [181, 0, 37, 42, 16, 7, 188, 11, 181, 0, 40, 42, 5, 188, 10, 181, 0, 43, 42, 5, 188, 10]
abbrev dktX13_init_3 : List UInt8 := dkwX13_init_3 ++ dktX13_init_4
def dkwX13_init_2 : List UInt8 := [181, 0, 27, 42, 17, 1, 147, 188, 11, 181, 0, 30, 42, 16, 17, 188, 11, 181, 0, 34, 42, 2]
abbrev dktX13_init_2 : List UInt8 := dkwX13_init_2 ++ dktX13_init_3
def dkwX13_init_1 : List UInt8 := [17, 1, 147, 188, 10, 181, 0, 20, 42, 17, 1, 147, 188, 10, 181, 0, 24, 42, 17, 1, 147, 188, 10]
abbrev dktX13_init_1 : List UInt8 := dkwX13_init_1 ++ dktX13_init_2
def dkwX13_init_0 : List UInt8 := [42, 183, 0, 7, 42, 17, 7, 208, 188, 8, 181, 0, 13, 42, 17, 7, 208, 188, 8, 181, 0, 17, 42]
abbrev dktX13_init_0 : List UInt8 := dkwX13_init_0 ++ dktX13_init_1
theorem dksX13_init_0 : cX13_init.data.toList.drop 0 = dktX13_init_0 := by decide +kernel
theorem dksX13_init_1 : cX13_init.data.toList.drop 23 = dktX13_init_1 := dk_seg dksX13_init_0 23 rfl rfl
theorem dksX13_init_2 : cX13_init.data.toList.drop 46 = dktX13_init_2 := dk_seg dksX13_init_1 23 rfl rfl
theorem dksX13_init_3 : cX13_init.data.toList.drop 68 = dktX13_init_3 := dk_seg dksX13_init_2 22 rfl rfl
theorem dksX13_init_4 : cX13_init.data.toList.drop 90 = dktX13_init_4 := dk_seg dksX13_init_3 22 rfl rfl
theorem dksX13_init_5 : cX13_init.data.toList.drop 113 = dktX13_init_5 := dk_seg dksX13_init_4 23 rfl rfl
theorem dksX13_init_6 : cX13_init.data.toList.drop 137 = dktX13_init_6 := dk_seg dksX13_init_5 24 rfl rfl
theorem dksX13_init_7 : cX13_init.data.toList.drop 160 = dktX13_init_7 := dk_seg dksX13_init_6 23 rfl rfl
theorem dksX13_init_8 : cX13_init.data.toList.drop 183 = dktX13_init_8 := dk_seg dksX13_init_7 23 rfl rfl
theorem dksX13_init_9 : cX13_init.data.toList.drop 207 = dktX13_init_9 := dk_seg dksX13_init_8 24 rfl rfl
theorem dksX13_init_10 : cX13_init.data.toList.drop 231 = dktX13_init_10 := dk_seg dksX13_init_9 24 rfl rfl
theorem dksX13_init_11 : cX13_init.data.toList.drop 255 = dktX13_init_11 := dk_seg dksX13_init_10 24 rfl rfl
theorem dksX13_init_12 : cX13_init.data.toList.drop 278 = dktX13_init_12 := dk_seg dksX13_init_11 23 rfl rfl
theorem dksX13_init_13 : cX13_init.data.toList.drop 301 = dktX13_init_13 := dk_seg dksX13_init_12 23 rfl rfl
theorem dksX13_init_14 : cX13_init.data.toList.drop 325 = dktX13_init_14 := dk_seg dksX13_init_13 24 rfl rfl
theorem dksX13_init_15 : cX13_init.data.toList.drop 349 = dktX13_init_15 := dk_seg dksX13_init_14 24 rfl rfl
theorem dksX13_init_16 : cX13_init.data.toList.drop 373 = dktX13_init_16 := dk_seg dksX13_init_15 24 rfl rfl
theorem dksX13_init_17 : cX13_init.data.toList.drop 396 = dktX13_init_17 := dk_seg dksX13_init_16 23 rfl rfl
theorem dksX13_init_18 : cX13_init.data.toList.drop 420 = dktX13_init_18 := dk_seg dksX13_init_17 24 rfl rfl
theorem dksX13_init_19 : cX13_init.data.toList.drop 444 = dktX13_init_19 := dk_seg dksX13_init_18 24 rfl rfl
theorem dksX13_init_20 : cX13_init.data.toList.drop 468 = dktX13_init_20 := dk_seg dksX13_init_19 24 rfl rfl
theorem dksX13_init_21 : cX13_init.data.toList.drop 492 = dktX13_init_21 := dk_seg dksX13_init_20 24 rfl rfl
theorem dksX13_init_22 : cX13_init.data.toList.drop 516 = dktX13_init_22 := dk_seg dksX13_init_21 24 rfl rfl
theorem dksX13_init_23 : cX13_init.data.toList.drop 540 = dktX13_init_23 := dk_seg dksX13_init_22 24 rfl rfl
theorem dksX13_init_24 : cX13_init.data.toList.drop 563 = dktX13_init_24 := dk_seg dksX13_init_23 23 rfl rfl
theorem dksX13_init_25 : cX13_init.data.toList.drop 587 = dktX13_init_25 := dk_seg dksX13_init_24 24 rfl rfl
theorem dksX13_init_26 : cX13_init.data.toList.drop 609 = dktX13_init_26 := dk_seg dksX13_init_25 22 rfl rfl
theorem dksX13_init_27 : cX13_init.data.toList.drop 633 = dktX13_init_27 := dk_seg dksX13_init_26 24 rfl rfl
theorem dksX13_init_28 : cX13_init.data.toList.drop 656 = dktX13_init_28 := dk_seg dksX13_init_27 23 rfl rfl
theorem dksX13_init_29 : cX13_init.data.toList.drop 680 = dktX13_init_29 := dk_seg dksX13_init_28 24 rfl rfl
theorem dksX13_init_30 : cX13_init.data.toList.drop 704 = dktX13_init_30 := dk_seg dksX13_init_29 24 rfl rfl
theorem dksX13_init_31 : cX13_init.data.toList.drop 728 = dktX13_init_31 := dk_seg dksX13_init_30 24 rfl rfl
theorem dksX13_init_32 : cX13_init.data.toList.drop 750 = dktX13_init_32 := dk_seg dksX13_init_31 22 rfl rfl
theorem dksX13_init_33 : cX13_init.data.toList.drop 773 = dktX13_init_33 := dk_seg dksX13_init_32 23 rfl rfl
theorem dksX13_init_34 : cX13_init.data.toList.drop 795 = dktX13_init_34 := dk_seg dksX13_init_33 22 rfl rfl
theorem dX13_init_0 : decode cX13_init 0 = .ok (.aload_n 0, 1) := dk_42 (dk_at dksX13_init_0 0 rfl rfl)
theorem dX13_init_1 : decode cX13_init 1 = .ok (.invokespecial 7, 3) := dk_183 0 7 (dk_at dksX13_init_0 1 rfl rfl)
theorem dX13_init_4 : decode cX13_init 4 = .ok (.aload_n 0, 1) := dk_42 (dk_at dksX13_init_0 4 rfl rfl)
theorem dX13_init_5 : decode cX13_init 5 = .ok (.sipush 2000, 3) := dk_17 7 208 (dk_at dksX13_init_0 5 rfl rfl)
theorem dX13_init_8 : decode cX13_init 8 = .ok (.newarray .byte, 2) := dk_188_8 (dk_at dksX13_init_0 8 rfl rfl)
theorem dX13_init_10 : decode cX13_init 10 = .ok (.putfield 13, 3) := dk_181 0 13 (dk_at dksX13_init_0 10 rfl rfl)
theorem dX13_init_13 : decode cX13_init 13 = .ok (.aload_n 0, 1) := dk_42 (dk_at dksX13_init_0 13 rfl rfl)
theorem dX13_init_14 : decode cX13_init 14 = .ok (.sipush 2000, 3) := dk_17 7 208 (dk_at dksX13_init_0 14 rfl rfl)
theorem dX13_init_17 : decode cX13_init 17 = .ok (.newarray .byte, 2) := dk_188_8 (dk_at dksX13_init_0 17 rfl rfl)
theorem dX13_init_19 : decode cX13_init 19 = .ok (.putfield 17, 3) := dk_181 0 17 (dk_at dksX13_init_0 19 rfl rfl)
theorem dX13_init_22 : decode cX13_init 22 = .ok (.aload_n 0, 1) := dk_42 (dk_at dksX13_init_0 22 rfl rfl)
theorem dX13_init_23 : decode cX13_init 23 = .ok (.sipush 403, 3) := dk_17 1 147 (dk_at dksX13_init_1 0 rfl rfl)
theorem dX13_init_26 : decode cX13_init 26 = .ok (.newarray .int, 2) := dk_188_10 (dk_at dksX13_init_1 3 rfl rfl)
theorem dX13_init_28 : decode cX13_init 28 = .ok (.putfield 20, 3) := dk_181 0 20 (dk_at dksX13_init_1 5 rfl rfl)
theorem dX13_init_31 : decode cX13_init 31 = .ok (.aload_n 0, 1) := dk_42 (dk_at dksX13_init_1 8 rfl rfl)
theorem dX13_init_32 : decode cX13_init 32 = .ok (.sipush 403, 3) := dk_17 1 147 (dk_at dksX13_init_1 9 rfl rfl)
theorem dX13_init_35 : decode cX13_init 35 = .ok (.newarray .int, 2) := dk_188_10 (dk_at dksX13_init_1 12 rfl rfl)
theorem dX13_init_37 : decode cX13_init 37 = .ok (.putfield 24, 3) := dk_181 0 24 (dk_at dksX13_init_1 14 rfl rfl)
theorem dX13_init_40 : decode cX13_init 40 = .ok (.aload_n 0, 1) := dk_42 (dk_at dksX13_init_1 17 rfl rfl)
theorem dX13_init_41 : decode cX13_init 41 = .ok (.sipush 403, 3) := dk_17 1 147 (dk_at dksX13_init_1 18 rfl rfl)
theorem dX13_init_44 : decode cX13_init 44 = .ok (.newarray .int, 2) := dk_188_10 (dk_at dksX13_init_1 21 rfl rfl)
theorem dX13_init_46 : decode cX13_init 46 = .ok (.putfield 27, 3) := dk_181 0 27 (dk_at dksX13_init_2 0 rfl rfl)
theorem dX13_init_49 : decode cX13_init 49 = .ok (.aload_n 0, 1) := dk_42 (dk_at dksX13_init_2 3 rfl rfl)
theorem dX13_init_50 : decode cX13_init 50 = .ok (.sipush 403, 3) := dk_17 1 147 (dk_at dksX13_init_2 4 rfl rfl)
theorem dX13_init_53 : decode cX13_init 53 = .ok (.newarray .long, 2) := dk_188_11 (dk_at dksX13_init_2 7 rfl rfl)
theorem dX13_init_55 : decode cX13_init 55 = .ok (.putfield 30, 3) := dk_181 0 30 (dk_at dksX13_init_2 9 rfl rfl)
theorem dX13_init_58 : decode cX13_init 58 = .ok (.aload_n 0, 1) := dk_42 (dk_at dksX13_init_2 12 rfl rfl)
theorem dX13_init_59 : decode cX13_init 59 = .ok (.bipush 17, 2) := dk_16 17 (dk_at dksX13_init_2 13 rfl rfl)
theorem dX13_init_61 : decode cX13_init 61 = .ok (.newarray .long, 2) := dk_188_11 (dk_at dksX13_init_2 15 rfl rfl)
theorem dX13_init_63 : decode cX13_init 63 = .ok (.putfield 34, 3) := dk_181 0 34 (dk_at dksX13_init_2 17 rfl rfl)
theorem dX13_init_66 : decode cX13_init 66 = .ok (.aload_n 0, 1) := dk_42 (dk_at dksX13_init_2 20 rfl rfl)
theorem dX13_init_67 : decode cX13_init 67 = .ok (.iconst (-1), 1) := dk_2 (dk_at dksX13_init_2 21 rfl rfl)
theorem dX13_init_68 : decode cX13_init 68 = .ok (.putfield 37, 3) := dk_181 0 37 (dk_at dksX13_init_3 0 rfl rfl)
theorem dX13_init_71 : decode cX13_init 71 = .ok (.aload_n 0, 1) := dk_42 (dk_at dksX13_init_3 3 rfl rfl)
theorem dX13_init_72 : decode cX13_init 72 = .ok (.bipush 7, 2) := dk_16 7 (dk_at dksX13_init_3 4 rfl rfl)
theorem dX13_init_74 : decode cX13_init 74 = .ok (.newarray .long, 2) := dk_188_11 (dk_at dksX13_init_3 6 rfl rfl)
theorem dX13_init_76 : decode cX13_init 76 = .ok (.putfield 40, 3) := dk_181 0 40 (dk_at dksX13_init_3 8 rfl rfl)
theorem dX13_init_79 : decode cX13_init 79 = .ok (.aload_n 0, 1) := dk_42 (dk_at dksX13_init_3 11 rfl rfl)
theorem dX13_init_80 : decode cX13_init 80 = .ok (.iconst 2, 1) := dk_5 (dk_at dksX13_init_3 12 rfl rfl)
theorem dX13_init_81 : decode cX13_init 81 = .ok (.newarray .int, 2) := dk_188_10 (dk_at dksX13_init_3 13 rfl rfl)
theorem dX13_init_83 : decode cX13_init 83 = .ok (.putfield 43, 3) := dk_181 0 43 (dk_at dksX13_init_3 15 rfl rfl)
theorem dX13_init_86 : decode cX13_init 86 = .ok (.aload_n 0, 1) := dk_42 (dk_at dksX13_init_3 18 rfl rfl)
theorem dX13_init_87 : decode cX13_init 87 = .ok (.iconst 2, 1) := dk_5 (dk_at dksX13_init_3 19 rfl rfl)
theorem dX13_init_88 : decode cX13_init 88 = .ok (.newarray .int, 2) := dk_188_10 (dk_at dksX13_init_3 20 rfl rfl)
theorem dX13_init_90 : decode cX13_init 90 = .ok (.putfield 46, 3) := dk_181 0 46 (dk_at dksX13_init_4 0 rfl rfl)
theorem dX13_init_93 : decode cX13_init 93 = .ok (.aload_n 0, 1) := dk_42 (dk_at dksX13_init_4 3 rfl rfl)
theorem dX13_init_94 : decode cX13_init 94 = .ok (.iconst 2, 1) := dk_5 (dk_at dksX13_init_4 4 rfl rfl)
theorem dX13_init_95 : decode cX13_init 95 = .ok (.newarray .int, 2) := dk_188_10 (dk_at dksX13_init_4 5 rfl rfl)
theorem dX13_init_97 : decode cX13_init 97 = .ok (.putfield 49, 3) := dk_181 0 49 (dk_at dksX13_init_4 7 rfl rfl)
theorem dX13_init_100 : decode cX13_init 100 = .ok (.aload_n 0, 1) := dk_42 (dk_at dksX13_init_4 10 rfl rfl)
theorem dX13_init_101 : decode cX13_init 101 = .ok (.bipush 14, 2) := dk_16 14 (dk_at dksX13_init_4 11 rfl rfl)
theorem dX13_init_103 : decode cX13_init 103 = .ok (.newarray .int, 2) := dk_188_10 (dk_at dksX13_init_4 13 rfl rfl)
theorem dX13_init_105 : decode cX13_init 105 = .ok (.putfield 52, 3) := dk_181 0 52 (dk_at dksX13_init_4 15 rfl rfl)
theorem dX13_init_108 : decode cX13_init 108 = .ok (.aload_n 0, 1) := dk_42 (dk_at dksX13_init_4 18 rfl rfl)
theorem dX13_init_109 : decode cX13_init 109 = .ok (.bipush 14, 2) := dk_16 14 (dk_at dksX13_init_4 19 rfl rfl)
theorem dX13_init_111 : decode cX13_init 111 = .ok (.newarray .int, 2) := dk_188_10 (dk_at dksX13_init_4 21 rfl rfl)
theorem dX13_init_113 : decode cX13_init 113 = .ok (.putfield 55, 3) := dk_181 0 55 (dk_at dksX13_init_5 0 rfl rfl)
theorem dX13_init_116 : decode cX13_init 116 = .ok (.aload_n 0, 1) := dk_42 (dk_at dksX13_init_5 3 rfl rfl)
theorem dX13_init_117 : decode cX13_init 117 = .ok (.bipush 14, 2) := dk_16 14 (dk_at dksX13_init_5 4 rfl rfl)
theorem dX13_init_119 : decode cX13_init 119 = .ok (.newarray .int, 2) := dk_188_10 (dk_at dksX13_init_5 6 rfl rfl)
theorem dX13_init_121 : decode cX13_init 121 = .ok (.putfield 58, 3) := dk_181 0 58 (dk_at dksX13_init_5 8 rfl rfl)
theorem dX13_init_124 : decode cX13_init 124 = .ok (.aload_n 0, 1) := dk_42 (dk_at dksX13_init_5 11 rfl rfl)
theorem dX13_init_125 : decode cX13_init 125 = .ok (.bipush 14, 2) := dk_16 14 (dk_at dksX13_init_5 12 rfl rfl)
theorem dX13_init_127 : decode cX13_init 127 = .ok (.newarray .int, 2) := dk_188_10 (dk_at dksX13_init_5 14 rfl rfl)
theorem dX13_init_129 : decode cX13_init 129 = .ok (.putfield 61, 3) := dk_181 0 61 (dk_at dksX13_init_5 16 rfl rfl)
theorem dX13_init_132 : decode cX13_init 132 = .ok (.aload_n 0, 1) := dk_42 (dk_at dksX13_init_5 19 rfl rfl)
theorem dX13_init_133 : decode cX13_init 133 = .ok (.bipush 84, 2) := dk_16 84 (dk_at dksX13_init_5 20 rfl rfl)
theorem dX13_init_135 : decode cX13_init 135 = .ok (.newarray .int, 2) := dk_188_10 (dk_at dksX13_init_5 22 rfl rfl)
theorem dX13_init_137 : decode cX13_init 137 = .ok (.putfield 64, 3) := dk_181 0 64 (dk_at dksX13_init_6 0 rfl rfl)
theorem dX13_init_140 : decode cX13_init 140 = .ok (.aload_n 0, 1) := dk_42 (dk_at dksX13_init_6 3 rfl rfl)
theorem dX13_init_141 : decode cX13_init 141 = .ok (.bipush 84, 2) := dk_16 84 (dk_at dksX13_init_6 4 rfl rfl)
theorem dX13_init_143 : decode cX13_init 143 = .ok (.newarray .int, 2) := dk_188_10 (dk_at dksX13_init_6 6 rfl rfl)
theorem dX13_init_145 : decode cX13_init 145 = .ok (.putfield 67, 3) := dk_181 0 67 (dk_at dksX13_init_6 8 rfl rfl)
theorem dX13_init_148 : decode cX13_init 148 = .ok (.aload_n 0, 1) := dk_42 (dk_at dksX13_init_6 11 rfl rfl)
theorem dX13_init_149 : decode cX13_init 149 = .ok (.iconst 2, 1) := dk_5 (dk_at dksX13_init_6 12 rfl rfl)
theorem dX13_init_150 : decode cX13_init 150 = .ok (.newarray .int, 2) := dk_188_10 (dk_at dksX13_init_6 13 rfl rfl)
theorem dX13_init_152 : decode cX13_init 152 = .ok (.putfield 70, 3) := dk_181 0 70 (dk_at dksX13_init_6 15 rfl rfl)
theorem dX13_init_155 : decode cX13_init 155 = .ok (.aload_n 0, 1) := dk_42 (dk_at dksX13_init_6 18 rfl rfl)
theorem dX13_init_156 : decode cX13_init 156 = .ok (.bipush 12, 2) := dk_16 12 (dk_at dksX13_init_6 19 rfl rfl)
theorem dX13_init_158 : decode cX13_init 158 = .ok (.newarray .int, 2) := dk_188_10 (dk_at dksX13_init_6 21 rfl rfl)
theorem dX13_init_160 : decode cX13_init 160 = .ok (.putfield 73, 3) := dk_181 0 73 (dk_at dksX13_init_7 0 rfl rfl)
theorem dX13_init_163 : decode cX13_init 163 = .ok (.aload_n 0, 1) := dk_42 (dk_at dksX13_init_7 3 rfl rfl)
theorem dX13_init_164 : decode cX13_init 164 = .ok (.bipush 12, 2) := dk_16 12 (dk_at dksX13_init_7 4 rfl rfl)
theorem dX13_init_166 : decode cX13_init 166 = .ok (.newarray .int, 2) := dk_188_10 (dk_at dksX13_init_7 6 rfl rfl)
theorem dX13_init_168 : decode cX13_init 168 = .ok (.putfield 76, 3) := dk_181 0 76 (dk_at dksX13_init_7 8 rfl rfl)
theorem dX13_init_171 : decode cX13_init 171 = .ok (.aload_n 0, 1) := dk_42 (dk_at dksX13_init_7 11 rfl rfl)
theorem dX13_init_172 : decode cX13_init 172 = .ok (.iconst 2, 1) := dk_5 (dk_at dksX13_init_7 12 rfl rfl)
theorem dX13_init_173 : decode cX13_init 173 = .ok (.newarray .int, 2) := dk_188_10 (dk_at dksX13_init_7 13 rfl rfl)
theorem dX13_init_175 : decode cX13_init 175 = .ok (.putfield 79, 3) := dk_181 0 79 (dk_at dksX13_init_7 15 rfl rfl)
theorem dX13_init_178 : decode cX13_init 178 = .ok (.aload_n 0, 1) := dk_42 (dk_at dksX13_init_7 18 rfl rfl)
theorem dX13_init_179 : decode cX13_init 179 = .ok (.bipush 49, 2) := dk_16 49 (dk_at dksX13_init_7 19 rfl rfl)
theorem dX13_init_181 : decode cX13_init 181 = .ok (.newarray .int, 2) := dk_188_10 (dk_at dksX13_init_7 21 rfl rfl)
theorem dX13_init_183 : decode cX13_init 183 = .ok (.putfield 82, 3) := dk_181 0 82 (dk_at dksX13_init_8 0 rfl rfl)
theorem dX13_init_186 : decode cX13_init 186 = .ok (.aload_n 0, 1) := dk_42 (dk_at dksX13_init_8 3 rfl rfl)
theorem dX13_init_187 : decode cX13_init 187 = .ok (.bipush 49, 2) := dk_16 49 (dk_at dksX13_init_8 4 rfl rfl)
theorem dX13_init_189 : decode cX13_init 189 = .ok (.newarray .int, 2) := dk_188_10 (dk_at dksX13_init_8 6 rfl rfl)
theorem dX13_init_191 : decode cX13_init 191 = .ok (.putfield 85, 3) := dk_181 0 85 (dk_at dksX13_init_8 8 rfl rfl)
theorem dX13_init_194 : decode cX13_init 194 = .ok (.aload_n 0, 1) := dk_42 (dk_at dksX13_init_8 11 rfl rfl)
theorem dX13_init_195 : decode cX13_init 195 = .ok (.bipush 49, 2) := dk_16 49 (dk_at dksX13_init_8 12 rfl rfl)
theorem dX13_init_197 : decode cX13_init 197 = .ok (.newarray .int, 2) := dk_188_10 (dk_at dksX13_init_8 14 rfl rfl)
theorem dX13_init_199 : decode cX13_init 199 = .ok (.putfield 88, 3) := dk_181 0 88 (dk_at dksX13_init_8 16 rfl rfl)
theorem dX13_init_202 : decode cX13_init 202 = .ok (.aload_n 0, 1) := dk_42 (dk_at dksX13_init_8 19 rfl rfl)
theorem dX13_init_203 : decode cX13_init 203 = .ok (.bipush 16, 2) := dk_16 16 (dk_at dksX13_init_8 20 rfl rfl)
theorem dX13_init_205 : decode cX13_init 205 = .ok (.newarray .int, 2) := dk_188_10 (dk_at dksX13_init_8 22 rfl rfl)
theorem dX13_init_207 : decode cX13_init 207 = .ok (.putfield 91, 3) := dk_181 0 91 (dk_at dksX13_init_9 0 rfl rfl)
theorem dX13_init_210 : decode cX13_init 210 = .ok (.aload_n 0, 1) := dk_42 (dk_at dksX13_init_9 3 rfl rfl)
theorem dX13_init_211 : decode cX13_init 211 = .ok (.bipush 16, 2) := dk_16 16 (dk_at dksX13_init_9 4 rfl rfl)
theorem dX13_init_213 : decode cX13_init 213 = .ok (.newarray .int, 2) := dk_188_10 (dk_at dksX13_init_9 6 rfl rfl)
theorem dX13_init_215 : decode cX13_init 215 = .ok (.putfield 94, 3) := dk_181 0 94 (dk_at dksX13_init_9 8 rfl rfl)
theorem dX13_init_218 : decode cX13_init 218 = .ok (.aload_n 0, 1) := dk_42 (dk_at dksX13_init_9 11 rfl rfl)
theorem dX13_init_219 : decode cX13_init 219 = .ok (.sipush 260, 3) := dk_17 1 4 (dk_at dksX13_init_9 12 rfl rfl)
theorem dX13_init_222 : decode cX13_init 222 = .ok (.newarray .boolean, 2) := dk_188_4 (dk_at dksX13_init_9 15 rfl rfl)
theorem dX13_init_224 : decode cX13_init 224 = .ok (.putfield 97, 3) := dk_181 0 97 (dk_at dksX13_init_9 17 rfl rfl)
theorem dX13_init_227 : decode cX13_init 227 = .ok (.aload_n 0, 1) := dk_42 (dk_at dksX13_init_9 20 rfl rfl)
theorem dX13_init_228 : decode cX13_init 228 = .ok (.sipush 260, 3) := dk_17 1 4 (dk_at dksX13_init_9 21 rfl rfl)
theorem dX13_init_231 : decode cX13_init 231 = .ok (.newarray .int, 2) := dk_188_10 (dk_at dksX13_init_10 0 rfl rfl)
theorem dX13_init_233 : decode cX13_init 233 = .ok (.putfield 101, 3) := dk_181 0 101 (dk_at dksX13_init_10 2 rfl rfl)
theorem dX13_init_236 : decode cX13_init 236 = .ok (.aload_n 0, 1) := dk_42 (dk_at dksX13_init_10 5 rfl rfl)
theorem dX13_init_237 : decode cX13_init 237 = .ok (.sipush 260, 3) := dk_17 1 4 (dk_at dksX13_init_10 6 rfl rfl)
theorem dX13_init_240 : decode cX13_init 240 = .ok (.newarray .int, 2) := dk_188_10 (dk_at dksX13_init_10 9 rfl rfl)
theorem dX13_init_242 : decode cX13_init 242 = .ok (.putfield 104, 3) := dk_181 0 104 (dk_at dksX13_init_10 11 rfl rfl)
theorem dX13_init_245 : decode cX13_init 245 = .ok (.aload_n 0, 1) := dk_42 (dk_at dksX13_init_10 14 rfl rfl)
theorem dX13_init_246 : decode cX13_init 246 = .ok (.sipush 260, 3) := dk_17 1 4 (dk_at dksX13_init_10 15 rfl rfl)
theorem dX13_init_249 : decode cX13_init 249 = .ok (.newarray .int, 2) := dk_188_10 (dk_at dksX13_init_10 18 rfl rfl)
theorem dX13_init_251 : decode cX13_init 251 = .ok (.putfield 107, 3) := dk_181 0 107 (dk_at dksX13_init_10 20 rfl rfl)
theorem dX13_init_254 : decode cX13_init 254 = .ok (.aload_n 0, 1) := dk_42 (dk_at dksX13_init_10 23 rfl rfl)
theorem dX13_init_255 : decode cX13_init 255 = .ok (.sipush 260, 3) := dk_17 1 4 (dk_at dksX13_init_11 0 rfl rfl)
theorem dX13_init_258 : decode cX13_init 258 = .ok (.newarray .int, 2) := dk_188_10 (dk_at dksX13_init_11 3 rfl rfl)
theorem dX13_init_260 : decode cX13_init 260 = .ok (.putfield 110, 3) := dk_181 0 110 (dk_at dksX13_init_11 5 rfl rfl)
theorem dX13_init_263 : decode cX13_init 263 = .ok (.aload_n 0, 1) := dk_42 (dk_at dksX13_init_11 8 rfl rfl)
theorem dX13_init_264 : decode cX13_init 264 = .ok (.sipush 840, 3) := dk_17 3 72 (dk_at dksX13_init_11 9 rfl rfl)
theorem dX13_init_267 : decode cX13_init 267 = .ok (.newarray .int, 2) := dk_188_10 (dk_at dksX13_init_11 12 rfl rfl)
theorem dX13_init_269 : decode cX13_init 269 = .ok (.putfield 113, 3) := dk_181 0 113 (dk_at dksX13_init_11 14 rfl rfl)
theorem dX13_init_272 : decode cX13_init 272 = .ok (.aload_n 0, 1) := dk_42 (dk_at dksX13_init_11 17 rfl rfl)
theorem dX13_init_273 : decode cX13_init 273 = .ok (.sipush 840, 3) := dk_17 3 72 (dk_at dksX13_init_11 18 rfl rfl)
theorem dX13_init_276 : decode cX13_init 276 = .ok (.newarray .int, 2) := dk_188_10 (dk_at dksX13_init_11 21 rfl rfl)
theorem dX13_init_278 : decode cX13_init 278 = .ok (.putfield 116, 3) := dk_181 0 116 (dk_at dksX13_init_12 0 rfl rfl)
theorem dX13_init_281 : decode cX13_init 281 = .ok (.aload_n 0, 1) := dk_42 (dk_at dksX13_init_12 3 rfl rfl)
theorem dX13_init_282 : decode cX13_init 282 = .ok (.bipush 64, 2) := dk_16 64 (dk_at dksX13_init_12 4 rfl rfl)
theorem dX13_init_284 : decode cX13_init 284 = .ok (.newarray .int, 2) := dk_188_10 (dk_at dksX13_init_12 6 rfl rfl)
theorem dX13_init_286 : decode cX13_init 286 = .ok (.putfield 119, 3) := dk_181 0 119 (dk_at dksX13_init_12 8 rfl rfl)
theorem dX13_init_289 : decode cX13_init 289 = .ok (.aload_n 0, 1) := dk_42 (dk_at dksX13_init_12 11 rfl rfl)
theorem dX13_init_290 : decode cX13_init 290 = .ok (.bipush 6, 2) := dk_16 6 (dk_at dksX13_init_12 12 rfl rfl)
theorem dX13_init_292 : decode cX13_init 292 = .ok (.newarray .int, 2) := dk_188_10 (dk_at dksX13_init_12 14 rfl rfl)
theorem dX13_init_294 : decode cX13_init 294 = .ok (.putfield 122, 3) := dk_181 0 122 (dk_at dksX13_init_12 16 rfl rfl)
theorem dX13_init_297 : decode cX13_init 297 = .ok (.aload_n 0, 1) := dk_42 (dk_at dksX13_init_12 19 rfl rfl)
theorem dX13_init_298 : decode cX13_init 298 = .ok (.sipush 400, 3) := dk_17 1 144 (dk_at dksX13_init_12 20 rfl rfl)
theorem dX13_init_301 : decode cX13_init 301 = .ok (.newarray .int, 2) := dk_188_10 (dk_at dksX13_init_13 0 rfl rfl)
theorem dX13_init_303 : decode cX13_init 303 = .ok (.putfield 125, 3) := dk_181 0 125 (dk_at dksX13_init_13 2 rfl rfl)
theorem dX13_init_306 : decode cX13_init 306 = .ok (.aload_n 0, 1) := dk_42 (dk_at dksX13_init_13 5 rfl rfl)
theorem dX13_init_307 : decode cX13_init 307 = .ok (.sipush 1290, 3) := dk_17 5 10 (dk_at dksX13_init_13 6 rfl rfl)
theorem dX13_init_310 : decode cX13_init 310 = .ok (.newarray .int, 2) := dk_188_10 (dk_at dksX13_init_13 9 rfl rfl)
theorem dX13_init_312 : decode cX13_init 312 = .ok (.putfield 128, 3) := dk_181 0 128 (dk_at dksX13_init_13 11 rfl rfl)
theorem dX13_init_315 : decode cX13_init 315 = .ok (.aload_n 0, 1) := dk_42 (dk_at dksX13_init_13 14 rfl rfl)
theorem dX13_init_316 : decode cX13_init 316 = .ok (.sipush 1290, 3) := dk_17 5 10 (dk_at dksX13_init_13 15 rfl rfl)
theorem dX13_init_319 : decode cX13_init 319 = .ok (.newarray .int, 2) := dk_188_10 (dk_at dksX13_init_13 18 rfl rfl)
theorem dX13_init_321 : decode cX13_init 321 = .ok (.putfield 131, 3) := dk_181 0 131 (dk_at dksX13_init_13 20 rfl rfl)
theorem dX13_init_324 : decode cX13_init 324 = .ok (.aload_n 0, 1) := dk_42 (dk_at dksX13_init_13 23 rfl rfl)
theorem dX13_init_325 : decode cX13_init 325 = .ok (.bipush 7, 2) := dk_16 7 (dk_at dksX13_init_14 0 rfl rfl)
theorem dX13_init_327 : decode cX13_init 327 = .ok (.newarray .int, 2) := dk_188_10 (dk_at dksX13_init_14 2 rfl rfl)
theorem dX13_init_329 : decode cX13_init 329 = .ok (.putfield 134, 3) := dk_181 0 134 (dk_at dksX13_init_14 4 rfl rfl)
theorem dX13_init_332 : decode cX13_init 332 = .ok (.aload_n 0, 1) := dk_42 (dk_at dksX13_init_14 7 rfl rfl)
theorem dX13_init_333 : decode cX13_init 333 = .ok (.ldc 137, 2) := dk_18 137 (dk_at dksX13_init_14 8 rfl rfl)
theorem dX13_init_335 : decode cX13_init 335 = .ok (.newarray .int, 2) := dk_188_10 (dk_at dksX13_init_14 10 rfl rfl)
theorem dX13_init_337 : decode cX13_init 337 = .ok (.putfield 138, 3) := dk_181 0 138 (dk_at dksX13_init_14 12 rfl rfl)
theorem dX13_init_340 : decode cX13_init 340 = .ok (.aload_n 0, 1) := dk_42 (dk_at dksX13_init_14 15 rfl rfl)
theorem dX13_init_341 : decode cX13_init 341 = .ok (.bipush 7, 2) := dk_16 7 (dk_at dksX13_init_14 16 rfl rfl)
theorem dX13_init_343 : decode cX13_init 343 = .ok (.newarray .int, 2) := dk_188_10 (dk_at dksX13_init_14 18 rfl rfl)
theorem dX13_init_345 : decode cX13_init 345 = .ok (.putfield 141, 3) := dk_181 0 141 (dk_at dksX13_init_14 20 rfl rfl)
theorem dX13_init_348 : decode cX13_init 348 = .ok (.aload_n 0, 1) := dk_42 (dk_at dksX13_init_14 23 rfl rfl)
theorem dX13_init_349 : decode cX13_init 349 = .ok (.sipush 128, 3) := dk_17 0 128 (dk_at dksX13_init_15 0 rfl rfl)
theorem dX13_init_352 : decode cX13_init 352 = .ok (.newarray .int, 2) := dk_188_10 (dk_at dksX13_init_15 3 rfl rfl)
theorem dX13_init_354 : decode cX13_init 354 = .ok (.putfield 144, 3) := dk_181 0 144 (dk_at dksX13_init_15 5 rfl rfl)
theorem dX13_init_357 : decode cX13_init 357 = .ok (.aload_n 0, 1) := dk_42 (dk_at dksX13_init_15 8 rfl rfl)
theorem dX13_init_358 : decode cX13_init 358 = .ok (.bipush 6, 2) := dk_16 6 (dk_at dksX13_init_15 9 rfl rfl)
theorem dX13_init_360 : decode cX13_init 360 = .ok (.newarray .int, 2) := dk_188_10 (dk_at dksX13_init_15 11 rfl rfl)
theorem dX13_init_362 : decode cX13_init 362 = .ok (.putfield 147, 3) := dk_181 0 147 (dk_at dksX13_init_15 13 rfl rfl)
theorem dX13_init_365 : decode cX13_init 365 = .ok (.aload_n 0, 1) := dk_42 (dk_at dksX13_init_15 16 rfl rfl)
theorem dX13_init_366 : decode cX13_init 366 = .ok (.bipush 6, 2) := dk_16 6 (dk_at dksX13_init_15 17 rfl rfl)
theorem dX13_init_368 : decode cX13_init 368 = .ok (.newarray .int, 2) := dk_188_10 (dk_at dksX13_init_15 19 rfl rfl)
theorem dX13_init_370 : decode cX13_init 370 = .ok (.putfield 150, 3) := dk_181 0 150 (dk_at dksX13_init_15 21 rfl rfl)
theorem dX13_init_373 : decode cX13_init 373 = .ok (.aload_n 0, 1) := dk_42 (dk_at dksX13_init_16 0 rfl rfl)
theorem dX13_init_374 : decode cX13_init 374 = .ok (.bipush 7, 2) := dk_16 7 (dk_at dksX13_init_16 1 rfl rfl)
theorem dX13_init_376 : decode cX13_init 376 = .ok (.newarray .int, 2) := dk_188_10 (dk_at dksX13_init_16 3 rfl rfl)
theorem dX13_init_378 : decode cX13_init 378 = .ok (.putfield 153, 3) := dk_181 0 153 (dk_at dksX13_init_16 5 rfl rfl)
theorem dX13_init_381 : decode cX13_init 381 = .ok (.aload_n 0, 1) := dk_42 (dk_at dksX13_init_16 8 rfl rfl)
theorem dX13_init_382 : decode cX13_init 382 = .ok (.sipush 4032, 3) := dk_17 15 192 (dk_at dksX13_init_16 9 rfl rfl)
theorem dX13_init_385 : decode cX13_init 385 = .ok (.newarray .int, 2) := dk_188_10 (dk_at dksX13_init_16 12 rfl rfl)
theorem dX13_init_387 : decode cX13_init 387 = .ok (.putfield 156, 3) := dk_181 0 156 (dk_at dksX13_init_16 14 rfl rfl)
theorem dX13_init_390 : decode cX13_init 390 = .ok (.aload_n 0, 1) := dk_42 (dk_at dksX13_init_16 17 rfl rfl)
theorem dX13_init_391 : decode cX13_init 391 = .ok (.sipush 196, 3) := dk_17 0 196 (dk_at dksX13_init_16 18 rfl rfl)
theorem dX13_init_394 : decode cX13_init 394 = .ok (.newarray .int, 2) := dk_188_10 (dk_at dksX13_init_16 21 rfl rfl)
theorem dX13_init_396 : decode cX13_init 396 = .ok (.putfield 159, 3) := dk_181 0 159 (dk_at dksX13_init_17 0 rfl rfl)
theorem dX13_init_399 : decode cX13_init 399 = .ok (.aload_n 0, 1) := dk_42 (dk_at dksX13_init_17 3 rfl rfl)
theorem dX13_init_400 : decode cX13_init 400 = .ok (.bipush 12, 2) := dk_16 12 (dk_at dksX13_init_17 4 rfl rfl)
theorem dX13_init_402 : decode cX13_init 402 = .ok (.newarray .int, 2) := dk_188_10 (dk_at dksX13_init_17 6 rfl rfl)
theorem dX13_init_404 : decode cX13_init 404 = .ok (.putfield 162, 3) := dk_181 0 162 (dk_at dksX13_init_17 8 rfl rfl)
theorem dX13_init_407 : decode cX13_init 407 = .ok (.aload_n 0, 1) := dk_42 (dk_at dksX13_init_17 11 rfl rfl)
theorem dX13_init_408 : decode cX13_init 408 = .ok (.bipush 12, 2) := dk_16 12 (dk_at dksX13_init_17 12 rfl rfl)
theorem dX13_init_410 : decode cX13_init 410 = .ok (.newarray .int, 2) := dk_188_10 (dk_at dksX13_init_17 14 rfl rfl)
theorem dX13_init_412 : decode cX13_init 412 = .ok (.putfield 165, 3) := dk_181 0 165 (dk_at dksX13_init_17 16 rfl rfl)
theorem dX13_init_415 : decode cX13_init 415 = .ok (.aload_n 0, 1) := dk_42 (dk_at dksX13_init_17 19 rfl rfl)
theorem dX13_init_416 : decode cX13_init 416 = .ok (.bipush 12, 2) := dk_16 12 (dk_at dksX13_init_17 20 rfl rfl)
theorem dX13_init_418 : decode cX13_init 418 = .ok (.newarray .boolean, 2) := dk_188_4 (dk_at dksX13_init_17 22 rfl rfl)
theorem dX13_init_420 : decode cX13_init 420 = .ok (.putfield 168, 3) := dk_181 0 168 (dk_at dksX13_init_18 0 rfl rfl)
theorem dX13_init_423 : decode cX13_init 423 = .ok (.aload_n 0, 1) := dk_42 (dk_at dksX13_init_18 3 rfl rfl)
theorem dX13_init_424 : decode cX13_init 424 = .ok (.iconst 3, 1) := dk_6 (dk_at dksX13_init_18 4 rfl rfl)
theorem dX13_init_425 : decode cX13_init 425 = .ok (.newarray .boolean, 2) := dk_188_4 (dk_at dksX13_init_18 5 rfl rfl)
theorem dX13_init_427 : decode cX13_init 427 = .ok (.putfield 171, 3) := dk_181 0 171 (dk_at dksX13_init_18 7 rfl rfl)
theorem dX13_init_430 : decode cX13_init 430 = .ok (.aload_n 0, 1) := dk_42 (dk_at dksX13_init_18 10 rfl rfl)
theorem dX13_init_431 : decode cX13_init 431 = .ok (.sipush 3870, 3) := dk_17 15 30 (dk_at dksX13_init_18 11 rfl rfl)
theorem dX13_init_434 : decode cX13_init 434 = .ok (.newarray .int, 2) := dk_188_10 (dk_at dksX13_init_18 14 rfl rfl)
theorem dX13_init_436 : decode cX13_init 436 = .ok (.putfield 174, 3) := dk_181 0 174 (dk_at dksX13_init_18 16 rfl rfl)
theorem dX13_init_439 : decode cX13_init 439 = .ok (.aload_n 0, 1) := dk_42 (dk_at dksX13_init_18 19 rfl rfl)
theorem dX13_init_440 : decode cX13_init 440 = .ok (.iconst 0, 1) := dk_3 (dk_at dksX13_init_18 20 rfl rfl)
theorem dX13_init_441 : decode cX13_init 441 = .ok (.invokevirtual 177, 3) := dk_182 0 177 (dk_at dksX13_init_18 21 rfl rfl)
theorem dX13_init_444 : decode cX13_init 444 = .ok (.aload_n 0, 1) := dk_42 (dk_at dksX13_init_19 0 rfl rfl)
theorem dX13_init_445 : decode cX13_init 445 = .ok (.getfield 34, 3) := dk_180 0 34 (dk_at dksX13_init_19 1 rfl rfl)
theorem dX13_init_448 : decode cX13_init 448 = .ok (.iconst 0, 1) := dk_3 (dk_at dksX13_init_19 4 rfl rfl)
theorem dX13_init_449 : decode cX13_init 449 = .ok (.bipush 116, 2) := dk_16 116 (dk_at dksX13_init_19 5 rfl rfl)
theorem dX13_init_451 : decode cX13_init 451 = .ok (.bipush 111, 2) := dk_16 111 (dk_at dksX13_init_19 7 rfl rfl)
theorem dX13_init_453 : decode cX13_init 453 = .ok (.bipush 119, 2) := dk_16 119 (dk_at dksX13_init_19 9 rfl rfl)
theorem dX13_init_455 : decode cX13_init 455 = .ok (.bipush 110, 2) := dk_16 110 (dk_at dksX13_init_19 11 rfl rfl)
theorem dX13_init_457 : decode cX13_init 457 = .ok (.iconst 0, 1) := dk_3 (dk_at dksX13_init_19 13 rfl rfl)
theorem dX13_init_458 : decode cX13_init 458 = .ok (.iconst 0, 1) := dk_3 (dk_at dksX13_init_19 14 rfl rfl)
theorem dX13_init_459 : decode cX13_init 459 = .ok (.iconst 0, 1) := dk_3 (dk_at dksX13_init_19 15 rfl rfl)
theorem dX13_init_460 : decode cX13_init 460 = .ok (.invokestatic 181, 3) := dk_184 0 181 (dk_at dksX13_init_19 16 rfl rfl)
theorem dX13_init_463 : decode cX13_init 463 = .ok (.lastore, 1) := dk_80 (dk_at dksX13_init_19 19 rfl rfl)
theorem dX13_init_464 : decode cX13_init 464 = .ok (.aload_n 0, 1) := dk_42 (dk_at dksX13_init_19 20 rfl rfl)
theorem dX13_init_465 : decode cX13_init 465 = .ok (.getfield 34, 3) := dk_180 0 34 (dk_at dksX13_init_19 21 rfl rfl)
theorem dX13_init_468 : decode cX13_init 468 = .ok (.iconst 1, 1) := dk_4 (dk_at dksX13_init_20 0 rfl rfl)
theorem dX13_init_469 : decode cX13_init 469 = .ok (.bipush 109, 2) := dk_16 109 (dk_at dksX13_init_20 1 rfl rfl)
theorem dX13_init_471 : decode cX13_init 471 = .ok (.bipush 97, 2) := dk_16 97 (dk_at dksX13_init_20 3 rfl rfl)
theorem dX13_init_473 : decode cX13_init 473 = .ok (.bipush 110, 2) := dk_16 110 (dk_at dksX13_init_20 5 rfl rfl)
theorem dX13_init_475 : decode cX13_init 475 = .ok (.iconst 0, 1) := dk_3 (dk_at dksX13_init_20 7 rfl rfl)
theorem dX13_init_476 : decode cX13_init 476 = .ok (.iconst 0, 1) := dk_3 (dk_at dksX13_init_20 8 rfl rfl)
theorem dX13_init_477 : decode cX13_init 477 = .ok (.iconst 0, 1) := dk_3 (dk_at dksX13_init_20 9 rfl rfl)
theorem dX13_init_478 : decode cX13_init 478 = .ok (.iconst 0, 1) := dk_3 (dk_at dksX13_init_20 10 rfl rfl)
theorem dX13_init_479 : decode cX13_init 479 = .ok (.invokestatic 181, 3) := dk_184 0 181 (dk_at dksX13_init_20 11 rfl rfl)
theorem dX13_init_482 : decode cX13_init 482 = .ok (.lastore, 1) := dk_80 (dk_at dksX13_init_20 14 rfl rfl)
theorem dX13_init_483 : decode cX13_init 483 = .ok (.aload_n 0, 1) := dk_42 (dk_at dksX13_init_20 15 rfl rfl)
theorem dX13_init_484 : decode cX13_init 484 = .ok (.getfield 34, 3) := dk_180 0 34 (dk_at dksX13_init_20 16 rfl rfl)
theorem dX13_init_487 : decode cX13_init 487 = .ok (.iconst 2, 1) := dk_5 (dk_at dksX13_init_20 19 rfl rfl)
theorem dX13_init_488 : decode cX13_init 488 = .ok (.bipush 103, 2) := dk_16 103 (dk_at dksX13_init_20 20 rfl rfl)
theorem dX13_init_490 : decode cX13_init 490 = .ok (.bipush 111, 2) := dk_16 111 (dk_at dksX13_init_20 22 rfl rfl)
theorem dX13_init_492 : decode cX13_init 492 = .ok (.bipush 101, 2) := dk_16 101 (dk_at dksX13_init_21 0 rfl rfl)
theorem dX13_init_494 : decode cX13_init 494 = .ok (.bipush 115, 2) := dk_16 115 (dk_at dksX13_init_21 2 rfl rfl)
theorem dX13_init_496 : decode cX13_init 496 = .ok (.iconst 0, 1) := dk_3 (dk_at dksX13_init_21 4 rfl rfl)
theorem dX13_init_497 : decode cX13_init 497 = .ok (.iconst 0, 1) := dk_3 (dk_at dksX13_init_21 5 rfl rfl)
theorem dX13_init_498 : decode cX13_init 498 = .ok (.iconst 0, 1) := dk_3 (dk_at dksX13_init_21 6 rfl rfl)
theorem dX13_init_499 : decode cX13_init 499 = .ok (.invokestatic 181, 3) := dk_184 0 181 (dk_at dksX13_init_21 7 rfl rfl)
theorem dX13_init_502 : decode cX13_init 502 = .ok (.lastore, 1) := dk_80 (dk_at dksX13_init_21 10 rfl rfl)
theorem dX13_init_503 : decode cX13_init 503 = .ok (.aload_n 0, 1) := dk_42 (dk_at dksX13_init_21 11 rfl rfl)
theorem dX13_init_504 : decode cX13_init 504 = .ok (.getfield 34, 3) := dk_180 0 34 (dk_at dksX13_init_21 12 rfl rfl)
theorem dX13_init_507 : decode cX13_init 507 = .ok (.iconst 3, 1) := dk_6 (dk_at dksX13_init_21 15 rfl rfl)
theorem dX13_init_508 : decode cX13_init 508 = .ok (.bipush 108, 2) := dk_16 108 (dk_at dksX13_init_21 16 rfl rfl)
theorem dX13_init_510 : decode cX13_init 510 = .ok (.bipush 111, 2) := dk_16 111 (dk_at dksX13_init_21 18 rfl rfl)
theorem dX13_init_512 : decode cX13_init 512 = .ok (.bipush 110, 2) := dk_16 110 (dk_at dksX13_init_21 20 rfl rfl)
theorem dX13_init_514 : decode cX13_init 514 = .ok (.bipush 103, 2) := dk_16 103 (dk_at dksX13_init_21 22 rfl rfl)
theorem dX13_init_516 : decode cX13_init 516 = .ok (.iconst 0, 1) := dk_3 (dk_at dksX13_init_22 0 rfl rfl)
theorem dX13_init_517 : decode cX13_init 517 = .ok (.iconst 0, 1) := dk_3 (dk_at dksX13_init_22 1 rfl rfl)
theorem dX13_init_518 : decode cX13_init 518 = .ok (.iconst 0, 1) := dk_3 (dk_at dksX13_init_22 2 rfl rfl)
theorem dX13_init_519 : decode cX13_init 519 = .ok (.invokestatic 181, 3) := dk_184 0 181 (dk_at dksX13_init_22 3 rfl rfl)
theorem dX13_init_522 : decode cX13_init 522 = .ok (.lastore, 1) := dk_80 (dk_at dksX13_init_22 6 rfl rfl)
theorem dX13_init_523 : decode cX13_init 523 = .ok (.aload_n 0, 1) := dk_42 (dk_at dksX13_init_22 7 rfl rfl)
theorem dX13_init_524 : decode cX13_init 524 = .ok (.getfield 34, 3) := dk_180 0 34 (dk_at dksX13_init_22 8 rfl rfl)
theorem dX13_init_527 : decode cX13_init 527 = .ok (.iconst 4, 1) := dk_7 (dk_at dksX13_init_22 11 rfl rfl)
theorem dX13_init_528 : decode cX13_init 528 = .ok (.bipush 101, 2) := dk_16 101 (dk_at dksX13_init_22 12 rfl rfl)
theorem dX13_init_530 : decode cX13_init 530 = .ok (.bipush 114, 2) := dk_16 114 (dk_at dksX13_init_22 14 rfl rfl)
theorem dX13_init_532 : decode cX13_init 532 = .ok (.bipush 114, 2) := dk_16 114 (dk_at dksX13_init_22 16 rfl rfl)
theorem dX13_init_534 : decode cX13_init 534 = .ok (.bipush 97, 2) := dk_16 97 (dk_at dksX13_init_22 18 rfl rfl)
theorem dX13_init_536 : decode cX13_init 536 = .ok (.bipush 110, 2) := dk_16 110 (dk_at dksX13_init_22 20 rfl rfl)
theorem dX13_init_538 : decode cX13_init 538 = .ok (.bipush 100, 2) := dk_16 100 (dk_at dksX13_init_22 22 rfl rfl)
theorem dX13_init_540 : decode cX13_init 540 = .ok (.iconst 0, 1) := dk_3 (dk_at dksX13_init_23 0 rfl rfl)
theorem dX13_init_541 : decode cX13_init 541 = .ok (.invokestatic 181, 3) := dk_184 0 181 (dk_at dksX13_init_23 1 rfl rfl)
theorem dX13_init_544 : decode cX13_init 544 = .ok (.lastore, 1) := dk_80 (dk_at dksX13_init_23 4 rfl rfl)
theorem dX13_init_545 : decode cX13_init 545 = .ok (.aload_n 0, 1) := dk_42 (dk_at dksX13_init_23 5 rfl rfl)
theorem dX13_init_546 : decode cX13_init 546 = .ok (.getfield 34, 3) := dk_180 0 34 (dk_at dksX13_init_23 6 rfl rfl)
theorem dX13_init_549 : decode cX13_init 549 = .ok (.iconst 5, 1) := dk_8 (dk_at dksX13_init_23 9 rfl rfl)
theorem dX13_init_550 : decode cX13_init 550 = .ok (.bipush 112, 2) := dk_16 112 (dk_at dksX13_init_23 10 rfl rfl)
theorem dX13_init_552 : decode cX13_init 552 = .ok (.bipush 105, 2) := dk_16 105 (dk_at dksX13_init_23 12 rfl rfl)
theorem dX13_init_554 : decode cX13_init 554 = .ok (.bipush 108, 2) := dk_16 108 (dk_at dksX13_init_23 14 rfl rfl)
theorem dX13_init_556 : decode cX13_init 556 = .ok (.bipush 108, 2) := dk_16 108 (dk_at dksX13_init_23 16 rfl rfl)
theorem dX13_init_558 : decode cX13_init 558 = .ok (.bipush 97, 2) := dk_16 97 (dk_at dksX13_init_23 18 rfl rfl)
theorem dX13_init_560 : decode cX13_init 560 = .ok (.bipush 114, 2) := dk_16 114 (dk_at dksX13_init_23 20 rfl rfl)
theorem dX13_init_562 : decode cX13_init 562 = .ok (.iconst 0, 1) := dk_3 (dk_at dksX13_init_23 22 rfl rfl)
theorem dX13_init_563 : decode cX13_init 563 = .ok (.invokestatic 181, 3) := dk_184 0 181 (dk_at dksX13_init_24 0 rfl rfl)
theorem dX13_init_566 : decode cX13_init 566 = .ok (.lastore, 1) := dk_80 (dk_at dksX13_init_24 3 rfl rfl)
theorem dX13_init_567 : decode cX13_init 567 = .ok (.aload_n 0, 1) := dk_42 (dk_at dksX13_init_24 4 rfl rfl)
theorem dX13_init_568 : decode cX13_init 568 = .ok (.getfield 34, 3) := dk_180 0 34 (dk_at dksX13_init_24 5 rfl rfl)
theorem dX13_init_571 : decode cX13_init 571 = .ok (.bipush 6, 2) := dk_16 6 (dk_at dksX13_init_24 8 rfl rfl)
theorem dX13_init_573 : decode cX13_init 573 = .ok (.bipush 100, 2) := dk_16 100 (dk_at dksX13_init_24 10 rfl rfl)
theorem dX13_init_575 : decode cX13_init 575 = .ok (.bipush 121, 2) := dk_16 121 (dk_at dksX13_init_24 12 rfl rfl)
theorem dX13_init_577 : decode cX13_init 577 = .ok (.bipush 101, 2) := dk_16 101 (dk_at dksX13_init_24 14 rfl rfl)
theorem dX13_init_579 : decode cX13_init 579 = .ok (.iconst 0, 1) := dk_3 (dk_at dksX13_init_24 16 rfl rfl)
theorem dX13_init_580 : decode cX13_init 580 = .ok (.iconst 0, 1) := dk_3 (dk_at dksX13_init_24 17 rfl rfl)
theorem dX13_init_581 : decode cX13_init 581 = .ok (.iconst 0, 1) := dk_3 (dk_at dksX13_init_24 18 rfl rfl)
theorem dX13_init_582 : decode cX13_init 582 = .ok (.iconst 0, 1) := dk_3 (dk_at dksX13_init_24 19 rfl rfl)
theorem dX13_init_583 : decode cX13_init 583 = .ok (.invokestatic 181, 3) := dk_184 0 181 (dk_at dksX13_init_24 20 rfl rfl)
theorem dX13_init_586 : decode cX13_init 586 = .ok (.lastore, 1) := dk_80 (dk_at dksX13_init_24 23 rfl rfl)
theorem dX13_init_587 : decode cX13_init 587 = .ok (.aload_n 0, 1) := dk_42 (dk_at dksX13_init_25 0 rfl rfl)
theorem dX13_init_588 : decode cX13_init 588 = .ok (.getfield 34, 3) := dk_180 0 34 (dk_at dksX13_init_25 1 rfl rfl)
theorem dX13_init_591 : decode cX13_init 591 = .ok (.bipush 7, 2) := dk_16 7 (dk_at dksX13_init_25 4 rfl rfl)
theorem dX13_init_593 : decode cX13_init 593 = .ok (.bipush 115, 2) := dk_16 115 (dk_at dksX13_init_25 6 rfl rfl)
theorem dX13_init_595 : decode cX13_init 595 = .ok (.bipush 101, 2) := dk_16 101 (dk_at dksX13_init_25 8 rfl rfl)
theorem dX13_init_597 : decode cX13_init 597 = .ok (.bipush 101, 2) := dk_16 101 (dk_at dksX13_init_25 10 rfl rfl)
theorem dX13_init_599 : decode cX13_init 599 = .ok (.bipush 100, 2) := dk_16 100 (dk_at dksX13_init_25 12 rfl rfl)
theorem dX13_init_601 : decode cX13_init 601 = .ok (.iconst 0, 1) := dk_3 (dk_at dksX13_init_25 14 rfl rfl)
theorem dX13_init_602 : decode cX13_init 602 = .ok (.iconst 0, 1) := dk_3 (dk_at dksX13_init_25 15 rfl rfl)
theorem dX13_init_603 : decode cX13_init 603 = .ok (.iconst 0, 1) := dk_3 (dk_at dksX13_init_25 16 rfl rfl)
theorem dX13_init_604 : decode cX13_init 604 = .ok (.invokestatic 181, 3) := dk_184 0 181 (dk_at dksX13_init_25 17 rfl rfl)
theorem dX13_init_607 : decode cX13_init 607 = .ok (.lastore, 1) := dk_80 (dk_at dksX13_init_25 20 rfl rfl)
theorem dX13_init_608 : decode cX13_init 608 = .ok (.aload_n 0, 1) := dk_42 (dk_at dksX13_init_25 21 rfl rfl)
theorem dX13_init_609 : decode cX13_init 609 = .ok (.getfield 34, 3) := dk_180 0 34 (dk_at dksX13_init_26 0 rfl rfl)
theorem dX13_init_612 : decode cX13_init 612 = .ok (.bipush 8, 2) := dk_16 8 (dk_at dksX13_init_26 3 rfl rfl)
theorem dX13_init_614 : decode cX13_init 614 = .ok (.bipush 105, 2) := dk_16 105 (dk_at dksX13_init_26 5 rfl rfl)
theorem dX13_init_616 : decode cX13_init 616 = .ok (.bipush 102, 2) := dk_16 102 (dk_at dksX13_init_26 7 rfl rfl)
theorem dX13_init_618 : decode cX13_init 618 = .ok (.iconst 0, 1) := dk_3 (dk_at dksX13_init_26 9 rfl rfl)
theorem dX13_init_619 : decode cX13_init 619 = .ok (.iconst 0, 1) := dk_3 (dk_at dksX13_init_26 10 rfl rfl)
theorem dX13_init_620 : decode cX13_init 620 = .ok (.iconst 0, 1) := dk_3 (dk_at dksX13_init_26 11 rfl rfl)
theorem dX13_init_621 : decode cX13_init 621 = .ok (.iconst 0, 1) := dk_3 (dk_at dksX13_init_26 12 rfl rfl)
theorem dX13_init_622 : decode cX13_init 622 = .ok (.iconst 0, 1) := dk_3 (dk_at dksX13_init_26 13 rfl rfl)
theorem dX13_init_623 : decode cX13_init 623 = .ok (.invokestatic 181, 3) := dk_184 0 181 (dk_at dksX13_init_26 14 rfl rfl)
theorem dX13_init_626 : decode cX13_init 626 = .ok (.lastore, 1) := dk_80 (dk_at dksX13_init_26 17 rfl rfl)
theorem dX13_init_627 : decode cX13_init 627 = .ok (.aload_n 0, 1) := dk_42 (dk_at dksX13_init_26 18 rfl rfl)
theorem dX13_init_628 : decode cX13_init 628 = .ok (.getfield 34, 3) := dk_180 0 34 (dk_at dksX13_init_26 19 rfl rfl)
theorem dX13_init_631 : decode cX13_init 631 = .ok (.bipush 9, 2) := dk_16 9 (dk_at dksX13_init_26 22 rfl rfl)
theorem dX13_init_633 : decode cX13_init 633 = .ok (.bipush 116, 2) := dk_16 116 (dk_at dksX13_init_27 0 rfl rfl)
theorem dX13_init_635 : decode cX13_init 635 = .ok (.bipush 104, 2) := dk_16 104 (dk_at dksX13_init_27 2 rfl rfl)
theorem dX13_init_637 : decode cX13_init 637 = .ok (.bipush 101, 2) := dk_16 101 (dk_at dksX13_init_27 4 rfl rfl)
theorem dX13_init_639 : decode cX13_init 639 = .ok (.bipush 110, 2) := dk_16 110 (dk_at dksX13_init_27 6 rfl rfl)
theorem dX13_init_641 : decode cX13_init 641 = .ok (.iconst 0, 1) := dk_3 (dk_at dksX13_init_27 8 rfl rfl)
theorem dX13_init_642 : decode cX13_init 642 = .ok (.iconst 0, 1) := dk_3 (dk_at dksX13_init_27 9 rfl rfl)
theorem dX13_init_643 : decode cX13_init 643 = .ok (.iconst 0, 1) := dk_3 (dk_at dksX13_init_27 10 rfl rfl)
theorem dX13_init_644 : decode cX13_init 644 = .ok (.invokestatic 181, 3) := dk_184 0 181 (dk_at dksX13_init_27 11 rfl rfl)
theorem dX13_init_647 : decode cX13_init 647 = .ok (.lastore, 1) := dk_80 (dk_at dksX13_init_27 14 rfl rfl)
theorem dX13_init_648 : decode cX13_init 648 = .ok (.aload_n 0, 1) := dk_42 (dk_at dksX13_init_27 15 rfl rfl)
theorem dX13_init_649 : decode cX13_init 649 = .ok (.getfield 34, 3) := dk_180 0 34 (dk_at dksX13_init_27 16 rfl rfl)
theorem dX13_init_652 : decode cX13_init 652 = .ok (.bipush 10, 2) := dk_16 10 (dk_at dksX13_init_27 19 rfl rfl)
theorem dX13_init_654 : decode cX13_init 654 = .ok (.bipush 101, 2) := dk_16 101 (dk_at dksX13_init_27 21 rfl rfl)
theorem dX13_init_656 : decode cX13_init 656 = .ok (.bipush 108, 2) := dk_16 108 (dk_at dksX13_init_28 0 rfl rfl)
theorem dX13_init_658 : decode cX13_init 658 = .ok (.bipush 115, 2) := dk_16 115 (dk_at dksX13_init_28 2 rfl rfl)
theorem dX13_init_660 : decode cX13_init 660 = .ok (.bipush 101, 2) := dk_16 101 (dk_at dksX13_init_28 4 rfl rfl)
theorem dX13_init_662 : decode cX13_init 662 = .ok (.iconst 0, 1) := dk_3 (dk_at dksX13_init_28 6 rfl rfl)
theorem dX13_init_663 : decode cX13_init 663 = .ok (.iconst 0, 1) := dk_3 (dk_at dksX13_init_28 7 rfl rfl)
theorem dX13_init_664 : decode cX13_init 664 = .ok (.iconst 0, 1) := dk_3 (dk_at dksX13_init_28 8 rfl rfl)
theorem dX13_init_665 : decode cX13_init 665 = .ok (.invokestatic 181, 3) := dk_184 0 181 (dk_at dksX13_init_28 9 rfl rfl)
theorem dX13_init_668 : decode cX13_init 668 = .ok (.lastore, 1) := dk_80 (dk_at dksX13_init_28 12 rfl rfl)
theorem dX13_init_669 : decode cX13_init 669 = .ok (.aload_n 0, 1) := dk_42 (dk_at dksX13_init_28 13 rfl rfl)
theorem dX13_init_670 : decode cX13_init 670 = .ok (.getfield 34, 3) := dk_180 0 34 (dk_at dksX13_init_28 14 rfl rfl)
theorem dX13_init_673 : decode cX13_init 673 = .ok (.bipush 11, 2) := dk_16 11 (dk_at dksX13_init_28 17 rfl rfl)
theorem dX13_init_675 : decode cX13_init 675 = .ok (.bipush 120, 2) := dk_16 120 (dk_at dksX13_init_28 19 rfl rfl)
theorem dX13_init_677 : decode cX13_init 677 = .ok (.iconst 0, 1) := dk_3 (dk_at dksX13_init_28 21 rfl rfl)
theorem dX13_init_678 : decode cX13_init 678 = .ok (.iconst 0, 1) := dk_3 (dk_at dksX13_init_28 22 rfl rfl)
theorem dX13_init_679 : decode cX13_init 679 = .ok (.iconst 0, 1) := dk_3 (dk_at dksX13_init_28 23 rfl rfl)
theorem dX13_init_680 : decode cX13_init 680 = .ok (.iconst 0, 1) := dk_3 (dk_at dksX13_init_29 0 rfl rfl)
theorem dX13_init_681 : decode cX13_init 681 = .ok (.iconst 0, 1) := dk_3 (dk_at dksX13_init_29 1 rfl rfl)
theorem dX13_init_682 : decode cX13_init 682 = .ok (.iconst 0, 1) := dk_3 (dk_at dksX13_init_29 2 rfl rfl)
theorem dX13_init_683 : decode cX13_init 683 = .ok (.invokestatic 181, 3) := dk_184 0 181 (dk_at dksX13_init_29 3 rfl rfl)
theorem dX13_init_686 : decode cX13_init 686 = .ok (.lastore, 1) := dk_80 (dk_at dksX13_init_29 6 rfl rfl)
theorem dX13_init_687 : decode cX13_init 687 = .ok (.aload_n 0, 1) := dk_42 (dk_at dksX13_init_29 7 rfl rfl)
theorem dX13_init_688 : decode cX13_init 688 = .ok (.getfield 34, 3) := dk_180 0 34 (dk_at dksX13_init_29 8 rfl rfl)
theorem dX13_init_691 : decode cX13_init 691 = .ok (.bipush 12, 2) := dk_16 12 (dk_at dksX13_init_29 11 rfl rfl)
theorem dX13_init_693 : decode cX13_init 693 = .ok (.bipush 121, 2) := dk_16 121 (dk_at dksX13_init_29 13 rfl rfl)
theorem dX13_init_695 : decode cX13_init 695 = .ok (.iconst 0, 1) := dk_3 (dk_at dksX13_init_29 15 rfl rfl)
theorem dX13_init_696 : decode cX13_init 696 = .ok (.iconst 0, 1) := dk_3 (dk_at dksX13_init_29 16 rfl rfl)
theorem dX13_init_697 : decode cX13_init 697 = .ok (.iconst 0, 1) := dk_3 (dk_at dksX13_init_29 17 rfl rfl)
theorem dX13_init_698 : decode cX13_init 698 = .ok (.iconst 0, 1) := dk_3 (dk_at dksX13_init_29 18 rfl rfl)
theorem dX13_init_699 : decode cX13_init 699 = .ok (.iconst 0, 1) := dk_3 (dk_at dksX13_init_29 19 rfl rfl)
theorem dX13_init_700 : decode cX13_init 700 = .ok (.iconst 0, 1) := dk_3 (dk_at dksX13_init_29 20 rfl rfl)
theorem dX13_init_701 : decode cX13_init 701 = .ok (.invokestatic 181, 3) := dk_184 0 181 (dk_at dksX13_init_29 21 rfl rfl)
theorem dX13_init_704 : decode cX13_init 704 = .ok (.lastore, 1) := dk_80 (dk_at dksX13_init_30 0 rfl rfl)
theorem dX13_init_705 : decode cX13_init 705 = .ok (.aload_n 0, 1) := dk_42 (dk_at dksX13_init_30 1 rfl rfl)
theorem dX13_init_706 : decode cX13_init 706 = .ok (.getfield 34, 3) := dk_180 0 34 (dk_at dksX13_init_30 2 rfl rfl)
theorem dX13_init_709 : decode cX13_init 709 = .ok (.bipush 13, 2) := dk_16 13 (dk_at dksX13_init_30 5 rfl rfl)
theorem dX13_init_711 : decode cX13_init 711 = .ok (.bipush 109, 2) := dk_16 109 (dk_at dksX13_init_30 7 rfl rfl)
theorem dX13_init_713 : decode cX13_init 713 = .ok (.bipush 105, 2) := dk_16 105 (dk_at dksX13_init_30 9 rfl rfl)
theorem dX13_init_715 : decode cX13_init 715 = .ok (.bipush 110, 2) := dk_16 110 (dk_at dksX13_init_30 11 rfl rfl)
theorem dX13_init_717 : decode cX13_init 717 = .ok (.bipush 117, 2) := dk_16 117 (dk_at dksX13_init_30 13 rfl rfl)
theorem dX13_init_719 : decode cX13_init 719 = .ok (.bipush 116, 2) := dk_16 116 (dk_at dksX13_init_30 15 rfl rfl)
theorem dX13_init_721 : decode cX13_init 721 = .ok (.bipush 101, 2) := dk_16 101 (dk_at dksX13_init_30 17 rfl rfl)
theorem dX13_init_723 : decode cX13_init 723 = .ok (.iconst 0, 1) := dk_3 (dk_at dksX13_init_30 19 rfl rfl)
theorem dX13_init_724 : decode cX13_init 724 = .ok (.invokestatic 181, 3) := dk_184 0 181 (dk_at dksX13_init_30 20 rfl rfl)
theorem dX13_init_727 : decode cX13_init 727 = .ok (.lastore, 1) := dk_80 (dk_at dksX13_init_30 23 rfl rfl)
theorem dX13_init_728 : decode cX13_init 728 = .ok (.aload_n 0, 1) := dk_42 (dk_at dksX13_init_31 0 rfl rfl)
theorem dX13_init_729 : decode cX13_init 729 = .ok (.getfield 34, 3) := dk_180 0 34 (dk_at dksX13_init_31 1 rfl rfl)
theorem dX13_init_732 : decode cX13_init 732 = .ok (.bipush 14, 2) := dk_16 14 (dk_at dksX13_init_31 4 rfl rfl)
theorem dX13_init_734 : decode cX13_init 734 = .ok (.bipush 108, 2) := dk_16 108 (dk_at dksX13_init_31 6 rfl rfl)
theorem dX13_init_736 : decode cX13_init 736 = .ok (.bipush 101, 2) := dk_16 101 (dk_at dksX13_init_31 8 rfl rfl)
theorem dX13_init_738 : decode cX13_init 738 = .ok (.bipush 102, 2) := dk_16 102 (dk_at dksX13_init_31 10 rfl rfl)
theorem dX13_init_740 : decode cX13_init 740 = .ok (.bipush 116, 2) := dk_16 116 (dk_at dksX13_init_31 12 rfl rfl)
theorem dX13_init_742 : decode cX13_init 742 = .ok (.iconst 0, 1) := dk_3 (dk_at dksX13_init_31 14 rfl rfl)
theorem dX13_init_743 : decode cX13_init 743 = .ok (.iconst 0, 1) := dk_3 (dk_at dksX13_init_31 15 rfl rfl)
theorem dX13_init_744 : decode cX13_init 744 = .ok (.iconst 0, 1) := dk_3 (dk_at dksX13_init_31 16 rfl rfl)
theorem dX13_init_745 : decode cX13_init 745 = .ok (.invokestatic 181, 3) := dk_184 0 181 (dk_at dksX13_init_31 17 rfl rfl)
theorem dX13_init_748 : decode cX13_init 748 = .ok (.lastore, 1) := dk_80 (dk_at dksX13_init_31 20 rfl rfl)
theorem dX13_init_749 : decode cX13_init 749 = .ok (.aload_n 0, 1) := dk_42 (dk_at dksX13_init_31 21 rfl rfl)
theorem dX13_init_750 : decode cX13_init 750 = .ok (.getfield 34, 3) := dk_180 0 34 (dk_at dksX13_init_32 0 rfl rfl)
theorem dX13_init_753 : decode cX13_init 753 = .ok (.bipush 15, 2) := dk_16 15 (dk_at dksX13_init_32 3 rfl rfl)
theorem dX13_init_755 : decode cX13_init 755 = .ok (.bipush 108, 2) := dk_16 108 (dk_at dksX13_init_32 5 rfl rfl)
theorem dX13_init_757 : decode cX13_init 757 = .ok (.bipush 111, 2) := dk_16 111 (dk_at dksX13_init_32 7 rfl rfl)
theorem dX13_init_759 : decode cX13_init 759 = .ok (.bipush 116, 2) := dk_16 116 (dk_at dksX13_init_32 9 rfl rfl)
theorem dX13_init_761 : decode cX13_init 761 = .ok (.iconst 0, 1) := dk_3 (dk_at dksX13_init_32 11 rfl rfl)
theorem dX13_init_762 : decode cX13_init 762 = .ok (.iconst 0, 1) := dk_3 (dk_at dksX13_init_32 12 rfl rfl)
theorem dX13_init_763 : decode cX13_init 763 = .ok (.iconst 0, 1) := dk_3 (dk_at dksX13_init_32 13 rfl rfl)
theorem dX13_init_764 : decode cX13_init 764 = .ok (.iconst 0, 1) := dk_3 (dk_at dksX13_init_32 14 rfl rfl)
theorem dX13_init_765 : decode cX13_init 765 = .ok (.invokestatic 181, 3) := dk_184 0 181 (dk_at dksX13_init_32 15 rfl rfl)
theorem dX13_init_768 : decode cX13_init 768 = .ok (.lastore, 1) := dk_80 (dk_at dksX13_init_32 18 rfl rfl)
theorem dX13_init_769 : decode cX13_init 769 = .ok (.aload_n 0, 1) := dk_42 (dk_at dksX13_init_32 19 rfl rfl)
theorem dX13_init_770 : decode cX13_init 770 = .ok (.getfield 34, 3) := dk_180 0 34 (dk_at dksX13_init_32 20 rfl rfl)
theorem dX13_init_773 : decode cX13_init 773 = .ok (.bipush 16, 2) := dk_16 16 (dk_at dksX13_init_33 0 rfl rfl)
theorem dX13_init_775 : decode cX13_init 775 = .ok (.bipush 114, 2) := dk_16 114 (dk_at dksX13_init_33 2 rfl rfl)
theorem dX13_init_777 : decode cX13_init 777 = .ok (.bipush 97, 2) := dk_16 97 (dk_at dksX13_init_33 4 rfl rfl)
theorem dX13_init_779 : decode cX13_init 779 = .ok (.bipush 110, 2) := dk_16 110 (dk_at dksX13_init_33 6 rfl rfl)
theorem dX13_init_781 : decode cX13_init 781 = .ok (.bipush 107, 2) := dk_16 107 (dk_at dksX13_init_33 8 rfl rfl)
theorem dX13_init_783 : decode cX13_init 783 = .ok (.iconst 0, 1) := dk_3 (dk_at dksX13_init_33 10 rfl rfl)
theorem dX13_init_784 : decode cX13_init 784 = .ok (.iconst 0, 1) := dk_3 (dk_at dksX13_init_33 11 rfl rfl)
theorem dX13_init_785 : decode cX13_init 785 = .ok (.iconst 0, 1) := dk_3 (dk_at dksX13_init_33 12 rfl rfl)
theorem dX13_init_786 : decode cX13_init 786 = .ok (.invokestatic 181, 3) := dk_184 0 181 (dk_at dksX13_init_33 13 rfl rfl)
theorem dX13_init_789 : decode cX13_init 789 = .ok (.lastore, 1) := dk_80 (dk_at dksX13_init_33 16 rfl rfl)
theorem dX13_init_790 : decode cX13_init 790 = .ok (.aload_n 0, 1) := dk_42 (dk_at dksX13_init_33 17 rfl rfl)
theorem dX13_init_791 : decode cX13_init 791 = .ok (.invokevirtual 185, 3) := dk_182 0 185 (dk_at dksX13_init_33 18 rfl rfl)
theorem dX13_init_794 : decode cX13_init 794 = .ok (.aload_n 0, 1) := dk_42 (dk_at dksX13_init_33 21 rfl rfl)
theorem dX13_init_795 : decode cX13_init 795 = .ok (.invokevirtual 188, 3) := dk_182 0 188 (dk_at dksX13_init_34 0 rfl rfl)
theorem dX13_init_798 : decode cX13_init 798 = .ok (.return_, 1) := dk_177 (dk_at dksX13_init_34 3 rfl rfl)
abbrev cX13_plain0 : ByteArray := prog_21_method_19_code
def yX13_plain0 : MethodName := ⟨RX13, "plain0", "(I)V"⟩
def dkwX13_plain0_4 : List UInt8 := [3, 79, 42, 180, 0, 61, 16, 7, 27, 104, 28, 96, 3, 79, 132, 2, 1, 167, 255, 223, 177]
abbrev dktX13_plain0_4 : List UInt8 := dkwX13_plain0_4 ++ []
def dkwX13_plain0_3 : List UInt8 := [132, 2, 1, 167, 255, 223, 3, 61, 28, 16, 7, 162, 0, 33, 42, 180, 0, 58, 16, 7, 27, 104, 28, 96]
abbrev dktX13_plain0_3 : List UInt8 := dkwX13_plain0_3 ++ dktX13_plain0_4
def dkwX13_plain0_2 : List UInt8 := [180, 0, 91, 16, 8, 27, 104, 28, 96, 3, 79, 42, 180, 0, 94, 16, 8, 27, 104, 28, 96, 3, 79]
abbrev dktX13_plain0_2 : List UInt8 := dkwX13_plain0_2 ++ dktX13_plain0_3
def dkwX13_plain0_1 : List UInt8 := [180, 0, 70, 27, 3, 79, 42, 180, 0, 79, 27, 3, 79, 3, 61, 28, 16, 8, 162, 0, 33, 42]
abbrev dktX13_plain0_1 : List UInt8 := dkwX13_plain0_1 ++ dktX13_plain0_2
def dkwX13_plain0_0 : List UInt8 := [42, 180, 0, 43, 27, 16, 6, 79, 42, 180, 0, 46, 27, 16, 6, 79, 42, 180, 0, 49, 27, 3, 79, 42]
abbrev dktX13_plain0_0 : List UInt8 := dkwX13_plain0_0 ++ dktX13_plain0_1
theorem dksX13_plain0_0 : cX13_plain0.data.toList.drop 0 = dktX13_plain0_0 := by decide +kernel
theorem dksX13_plain0_1 : cX13_plain0.data.toList.drop 24 = dktX13_plain0_1 := dk_seg dksX13_plain0_0 24 rfl rfl
theorem dksX13_plain0_2 : cX13_plain0.data.toList.drop 46 = dktX13_plain0_2 := dk_seg dksX13_plain0_1 22 rfl rfl
theorem dksX13_plain0_3 : cX13_plain0.data.toList.drop 69 = dktX13_plain0_3 := dk_seg dksX13_plain0_2 23 rfl rfl
theorem dksX13_plain0_4 : cX13_plain0.data.toList.drop 93 = dktX13_plain0_4 := dk_seg dksX13_plain0_3 24 rfl rfl
theorem dX13_plain0_0 : decode cX13_plain0 0 = .ok (.aload_n 0, 1) := dk_42 (dk_at dksX13_plain0_0 0 rfl rfl)
theorem dX13_plain0_1 : decode cX13_plain0 1 = .ok (.getfield 43, 3) := dk_180 0 43 (dk_at dksX13_plain0_0 1 rfl rfl)
theorem dX13_plain0_4 : decode cX13_plain0 4 = .ok (.iload_n 1, 1) := dk_27 (dk_at dksX13_plain0_0 4 rfl rfl)
theorem dX13_plain0_5 : decode cX13_plain0 5 = .ok (.bipush 6, 2) := dk_16 6 (dk_at dksX13_plain0_0 5 rfl rfl)
theorem dX13_plain0_7 : decode cX13_plain0 7 = .ok (.iastore, 1) := dk_79 (dk_at dksX13_plain0_0 7 rfl rfl)
theorem dX13_plain0_8 : decode cX13_plain0 8 = .ok (.aload_n 0, 1) := dk_42 (dk_at dksX13_plain0_0 8 rfl rfl)
theorem dX13_plain0_9 : decode cX13_plain0 9 = .ok (.getfield 46, 3) := dk_180 0 46 (dk_at dksX13_plain0_0 9 rfl rfl)
theorem dX13_plain0_12 : decode cX13_plain0 12 = .ok (.iload_n 1, 1) := dk_27 (dk_at dksX13_plain0_0 12 rfl rfl)
theorem dX13_plain0_13 : decode cX13_plain0 13 = .ok (.bipush 6, 2) := dk_16 6 (dk_at dksX13_plain0_0 13 rfl rfl)
theorem dX13_plain0_15 : decode cX13_plain0 15 = .ok (.iastore, 1) := dk_79 (dk_at dksX13_plain0_0 15 rfl rfl)
theorem dX13_plain0_16 : decode cX13_plain0 16 = .ok (.aload_n 0, 1) := dk_42 (dk_at dksX13_plain0_0 16 rfl rfl)
theorem dX13_plain0_17 : decode cX13_plain0 17 = .ok (.getfield 49, 3) := dk_180 0 49 (dk_at dksX13_plain0_0 17 rfl rfl)
theorem dX13_plain0_20 : decode cX13_plain0 20 = .ok (.iload_n 1, 1) := dk_27 (dk_at dksX13_plain0_0 20 rfl rfl)
theorem dX13_plain0_21 : decode cX13_plain0 21 = .ok (.iconst 0, 1) := dk_3 (dk_at dksX13_plain0_0 21 rfl rfl)
theorem dX13_plain0_22 : decode cX13_plain0 22 = .ok (.iastore, 1) := dk_79 (dk_at dksX13_plain0_0 22 rfl rfl)
theorem dX13_plain0_23 : decode cX13_plain0 23 = .ok (.aload_n 0, 1) := dk_42 (dk_at dksX13_plain0_0 23 rfl rfl)
theorem dX13_plain0_24 : decode cX13_plain0 24 = .ok (.getfield 70, 3) := dk_180 0 70 (dk_at dksX13_plain0_1 0 rfl rfl)
theorem dX13_plain0_27 : decode cX13_plain0 27 = .ok (.iload_n 1, 1) := dk_27 (dk_at dksX13_plain0_1 3 rfl rfl)
theorem dX13_plain0_28 : decode cX13_plain0 28 = .ok (.iconst 0, 1) := dk_3 (dk_at dksX13_plain0_1 4 rfl rfl)
theorem dX13_plain0_29 : decode cX13_plain0 29 = .ok (.iastore, 1) := dk_79 (dk_at dksX13_plain0_1 5 rfl rfl)
theorem dX13_plain0_30 : decode cX13_plain0 30 = .ok (.aload_n 0, 1) := dk_42 (dk_at dksX13_plain0_1 6 rfl rfl)
theorem dX13_plain0_31 : decode cX13_plain0 31 = .ok (.getfield 79, 3) := dk_180 0 79 (dk_at dksX13_plain0_1 7 rfl rfl)
theorem dX13_plain0_34 : decode cX13_plain0 34 = .ok (.iload_n 1, 1) := dk_27 (dk_at dksX13_plain0_1 10 rfl rfl)
theorem dX13_plain0_35 : decode cX13_plain0 35 = .ok (.iconst 0, 1) := dk_3 (dk_at dksX13_plain0_1 11 rfl rfl)
theorem dX13_plain0_36 : decode cX13_plain0 36 = .ok (.iastore, 1) := dk_79 (dk_at dksX13_plain0_1 12 rfl rfl)
theorem dX13_plain0_37 : decode cX13_plain0 37 = .ok (.iconst 0, 1) := dk_3 (dk_at dksX13_plain0_1 13 rfl rfl)
theorem dX13_plain0_38 : decode cX13_plain0 38 = .ok (.istore_n 2, 1) := dk_61 (dk_at dksX13_plain0_1 14 rfl rfl)
theorem dX13_plain0_39 : decode cX13_plain0 39 = .ok (.iload_n 2, 1) := dk_28 (dk_at dksX13_plain0_1 15 rfl rfl)
theorem dX13_plain0_40 : decode cX13_plain0 40 = .ok (.bipush 8, 2) := dk_16 8 (dk_at dksX13_plain0_1 16 rfl rfl)
theorem dX13_plain0_42 : decode cX13_plain0 42 = .ok (.if_icmp .ge 33, 3) := dk_162 0 33 (dk_at dksX13_plain0_1 18 rfl rfl)
theorem dX13_plain0_45 : decode cX13_plain0 45 = .ok (.aload_n 0, 1) := dk_42 (dk_at dksX13_plain0_1 21 rfl rfl)
theorem dX13_plain0_46 : decode cX13_plain0 46 = .ok (.getfield 91, 3) := dk_180 0 91 (dk_at dksX13_plain0_2 0 rfl rfl)
theorem dX13_plain0_49 : decode cX13_plain0 49 = .ok (.bipush 8, 2) := dk_16 8 (dk_at dksX13_plain0_2 3 rfl rfl)
theorem dX13_plain0_51 : decode cX13_plain0 51 = .ok (.iload_n 1, 1) := dk_27 (dk_at dksX13_plain0_2 5 rfl rfl)
theorem dX13_plain0_52 : decode cX13_plain0 52 = .ok (.imul, 1) := dk_104 (dk_at dksX13_plain0_2 6 rfl rfl)
theorem dX13_plain0_53 : decode cX13_plain0 53 = .ok (.iload_n 2, 1) := dk_28 (dk_at dksX13_plain0_2 7 rfl rfl)
theorem dX13_plain0_54 : decode cX13_plain0 54 = .ok (.iadd, 1) := dk_96 (dk_at dksX13_plain0_2 8 rfl rfl)
theorem dX13_plain0_55 : decode cX13_plain0 55 = .ok (.iconst 0, 1) := dk_3 (dk_at dksX13_plain0_2 9 rfl rfl)
theorem dX13_plain0_56 : decode cX13_plain0 56 = .ok (.iastore, 1) := dk_79 (dk_at dksX13_plain0_2 10 rfl rfl)
theorem dX13_plain0_57 : decode cX13_plain0 57 = .ok (.aload_n 0, 1) := dk_42 (dk_at dksX13_plain0_2 11 rfl rfl)
theorem dX13_plain0_58 : decode cX13_plain0 58 = .ok (.getfield 94, 3) := dk_180 0 94 (dk_at dksX13_plain0_2 12 rfl rfl)
theorem dX13_plain0_61 : decode cX13_plain0 61 = .ok (.bipush 8, 2) := dk_16 8 (dk_at dksX13_plain0_2 15 rfl rfl)
theorem dX13_plain0_63 : decode cX13_plain0 63 = .ok (.iload_n 1, 1) := dk_27 (dk_at dksX13_plain0_2 17 rfl rfl)
theorem dX13_plain0_64 : decode cX13_plain0 64 = .ok (.imul, 1) := dk_104 (dk_at dksX13_plain0_2 18 rfl rfl)
theorem dX13_plain0_65 : decode cX13_plain0 65 = .ok (.iload_n 2, 1) := dk_28 (dk_at dksX13_plain0_2 19 rfl rfl)
theorem dX13_plain0_66 : decode cX13_plain0 66 = .ok (.iadd, 1) := dk_96 (dk_at dksX13_plain0_2 20 rfl rfl)
theorem dX13_plain0_67 : decode cX13_plain0 67 = .ok (.iconst 0, 1) := dk_3 (dk_at dksX13_plain0_2 21 rfl rfl)
theorem dX13_plain0_68 : decode cX13_plain0 68 = .ok (.iastore, 1) := dk_79 (dk_at dksX13_plain0_2 22 rfl rfl)
theorem dX13_plain0_69 : decode cX13_plain0 69 = .ok (.iinc 2 1, 3) := dk_132 2 1 (dk_at dksX13_plain0_3 0 rfl rfl)
theorem dX13_plain0_72 : decode cX13_plain0 72 = .ok (.goto (-33), 3) := dk_167 255 223 (dk_at dksX13_plain0_3 3 rfl rfl)
theorem dX13_plain0_75 : decode cX13_plain0 75 = .ok (.iconst 0, 1) := dk_3 (dk_at dksX13_plain0_3 6 rfl rfl)
theorem dX13_plain0_76 : decode cX13_plain0 76 = .ok (.istore_n 2, 1) := dk_61 (dk_at dksX13_plain0_3 7 rfl rfl)
theorem dX13_plain0_77 : decode cX13_plain0 77 = .ok (.iload_n 2, 1) := dk_28 (dk_at dksX13_plain0_3 8 rfl rfl)
theorem dX13_plain0_78 : decode cX13_plain0 78 = .ok (.bipush 7, 2) := dk_16 7 (dk_at dksX13_plain0_3 9 rfl rfl)
theorem dX13_plain0_80 : decode cX13_plain0 80 = .ok (.if_icmp .ge 33, 3) := dk_162 0 33 (dk_at dksX13_plain0_3 11 rfl rfl)
theorem dX13_plain0_83 : decode cX13_plain0 83 = .ok (.aload_n 0, 1) := dk_42 (dk_at dksX13_plain0_3 14 rfl rfl)
theorem dX13_plain0_84 : decode cX13_plain0 84 = .ok (.getfield 58, 3) := dk_180 0 58 (dk_at dksX13_plain0_3 15 rfl rfl)
theorem dX13_plain0_87 : decode cX13_plain0 87 = .ok (.bipush 7, 2) := dk_16 7 (dk_at dksX13_plain0_3 18 rfl rfl)
theorem dX13_plain0_89 : decode cX13_plain0 89 = .ok (.iload_n 1, 1) := dk_27 (dk_at dksX13_plain0_3 20 rfl rfl)
theorem dX13_plain0_90 : decode cX13_plain0 90 = .ok (.imul, 1) := dk_104 (dk_at dksX13_plain0_3 21 rfl rfl)
theorem dX13_plain0_91 : decode cX13_plain0 91 = .ok (.iload_n 2, 1) := dk_28 (dk_at dksX13_plain0_3 22 rfl rfl)
theorem dX13_plain0_92 : decode cX13_plain0 92 = .ok (.iadd, 1) := dk_96 (dk_at dksX13_plain0_3 23 rfl rfl)
theorem dX13_plain0_93 : decode cX13_plain0 93 = .ok (.iconst 0, 1) := dk_3 (dk_at dksX13_plain0_4 0 rfl rfl)
theorem dX13_plain0_94 : decode cX13_plain0 94 = .ok (.iastore, 1) := dk_79 (dk_at dksX13_plain0_4 1 rfl rfl)
theorem dX13_plain0_95 : decode cX13_plain0 95 = .ok (.aload_n 0, 1) := dk_42 (dk_at dksX13_plain0_4 2 rfl rfl)
theorem dX13_plain0_96 : decode cX13_plain0 96 = .ok (.getfield 61, 3) := dk_180 0 61 (dk_at dksX13_plain0_4 3 rfl rfl)
theorem dX13_plain0_99 : decode cX13_plain0 99 = .ok (.bipush 7, 2) := dk_16 7 (dk_at dksX13_plain0_4 6 rfl rfl)
theorem dX13_plain0_101 : decode cX13_plain0 101 = .ok (.iload_n 1, 1) := dk_27 (dk_at dksX13_plain0_4 8 rfl rfl)
theorem dX13_plain0_102 : decode cX13_plain0 102 = .ok (.imul, 1) := dk_104 (dk_at dksX13_plain0_4 9 rfl rfl)
theorem dX13_plain0_103 : decode cX13_plain0 103 = .ok (.iload_n 2, 1) := dk_28 (dk_at dksX13_plain0_4 10 rfl rfl)
theorem dX13_plain0_104 : decode cX13_plain0 104 = .ok (.iadd, 1) := dk_96 (dk_at dksX13_plain0_4 11 rfl rfl)
theorem dX13_plain0_105 : decode cX13_plain0 105 = .ok (.iconst 0, 1) := dk_3 (dk_at dksX13_plain0_4 12 rfl rfl)
theorem dX13_plain0_106 : decode cX13_plain0 106 = .ok (.iastore, 1) := dk_79 (dk_at dksX13_plain0_4 13 rfl rfl)
theorem dX13_plain0_107 : decode cX13_plain0 107 = .ok (.iinc 2 1, 3) := dk_132 2 1 (dk_at dksX13_plain0_4 14 rfl rfl)
theorem dX13_plain0_110 : decode cX13_plain0 110 = .ok (.goto (-33), 3) := dk_167 255 223 (dk_at dksX13_plain0_4 17 rfl rfl)
theorem dX13_plain0_113 : decode cX13_plain0 113 = .ok (.return_, 1) := dk_177 (dk_at dksX13_plain0_4 20 rfl rfl)
abbrev cX13_word : ByteArray := prog_21_method_10_code
def yX13_word : MethodName := ⟨RX13, "word", "(IIIIIII)J"⟩
def dkwX13_word_1 : List UInt8 := [184, 0, 202, 21, 6, 184, 0, 202, 173]
abbrev dktX13_word_1 : List UInt8 := dkwX13_word_1 ++ []
def dkwX13_word_0 : List UInt8 := [9, 26, 184, 0, 202, 27, 184, 0, 202, 28, 184, 0, 202, 29, 184, 0, 202, 21, 4, 184, 0, 202, 21, 5]
abbrev dktX13_word_0 : List UInt8 := dkwX13_word_0 ++ dktX13_word_1
theorem dksX13_word_0 : cX13_word.data.toList.drop 0 = dktX13_word_0 := by decide +kernel
theorem dksX13_word_1 : cX13_word.data.toList.drop 24 = dktX13_word_1 := dk_seg dksX13_word_0 24 rfl rfl
theorem dX13_word_0 : decode cX13_word 0 = .ok (.lconst 0, 1) := dk_9 (dk_at dksX13_word_0 0 rfl rfl)
theorem dX13_word_1 : decode cX13_word 1 = .ok (.iload_n 0, 1) := dk_26 (dk_at dksX13_word_0 1 rfl rfl)
theorem dX13_word_2 : decode cX13_word 2 = .ok (.invokestatic 202, 3) := dk_184 0 202 (dk_at dksX13_word_0 2 rfl rfl)
theorem dX13_word_5 : decode cX13_word 5 = .ok (.iload_n 1, 1) := dk_27 (dk_at dksX13_word_0 5 rfl rfl)
theorem dX13_word_6 : decode cX13_word 6 = .ok (.invokestatic 202, 3) := dk_184 0 202 (dk_at dksX13_word_0 6 rfl rfl)
theorem dX13_word_9 : decode cX13_word 9 = .ok (.iload_n 2, 1) := dk_28 (dk_at dksX13_word_0 9 rfl rfl)
theorem dX13_word_10 : decode cX13_word 10 = .ok (.invokestatic 202, 3) := dk_184 0 202 (dk_at dksX13_word_0 10 rfl rfl)
theorem dX13_word_13 : decode cX13_word 13 = .ok (.iload_n 3, 1) := dk_29 (dk_at dksX13_word_0 13 rfl rfl)
theorem dX13_word_14 : decode cX13_word 14 = .ok (.invokestatic 202, 3) := dk_184 0 202 (dk_at dksX13_word_0 14 rfl rfl)
theorem dX13_word_17 : decode cX13_word 17 = .ok (.iload 4, 2) := dk_21 4 (dk_at dksX13_word_0 17 rfl rfl)
theorem dX13_word_19 : decode cX13_word 19 = .ok (.invokestatic 202, 3) := dk_184 0 202 (dk_at dksX13_word_0 19 rfl rfl)
theorem dX13_word_22 : decode cX13_word 22 = .ok (.iload 5, 2) := dk_21 5 (dk_at dksX13_word_0 22 rfl rfl)
theorem dX13_word_24 : decode cX13_word 24 = .ok (.invokestatic 202, 3) := dk_184 0 202 (dk_at dksX13_word_1 0 rfl rfl)
theorem dX13_word_27 : decode cX13_word 27 = .ok (.iload 6, 2) := dk_21 6 (dk_at dksX13_word_1 3 rfl rfl)
theorem dX13_word_29 : decode cX13_word 29 = .ok (.invokestatic 202, 3) := dk_184 0 202 (dk_at dksX13_word_1 5 rfl rfl)
theorem dX13_word_32 : decode cX13_word 32 = .ok (.lreturn, 1) := dk_173 (dk_at dksX13_word_1 8 rfl rfl)
abbrev cX13_appends : ByteArray := prog_21_method_9_code
def yX13_appends : MethodName := ⟨RX13, "appends", "(JI)J"⟩
def dkwX13_appends_0 : List UInt8 := [28, 154, 0, 7, 30, 167, 0, 16, 20, 0, 200, 30, 105, 28, 16, 97, 100, 4, 96, 133, 97, 173]
abbrev dktX13_appends_0 : List UInt8 := dkwX13_appends_0 ++ []
theorem dksX13_appends_0 : cX13_appends.data.toList.drop 0 = dktX13_appends_0 := by decide +kernel
theorem dX13_appends_0 : decode cX13_appends 0 = .ok (.iload_n 2, 1) := dk_28 (dk_at dksX13_appends_0 0 rfl rfl)
theorem dX13_appends_1 : decode cX13_appends 1 = .ok (.ifCond .ne 7, 3) := dk_154 0 7 (dk_at dksX13_appends_0 1 rfl rfl)
theorem dX13_appends_4 : decode cX13_appends 4 = .ok (.lload_n 0, 1) := dk_30 (dk_at dksX13_appends_0 4 rfl rfl)
theorem dX13_appends_5 : decode cX13_appends 5 = .ok (.goto 16, 3) := dk_167 0 16 (dk_at dksX13_appends_0 5 rfl rfl)
theorem dX13_appends_8 : decode cX13_appends 8 = .ok (.ldc2_w 200, 3) := dk_20 0 200 (dk_at dksX13_appends_0 8 rfl rfl)
theorem dX13_appends_11 : decode cX13_appends 11 = .ok (.lload_n 0, 1) := dk_30 (dk_at dksX13_appends_0 11 rfl rfl)
theorem dX13_appends_12 : decode cX13_appends 12 = .ok (.lmul, 1) := dk_105 (dk_at dksX13_appends_0 12 rfl rfl)
theorem dX13_appends_13 : decode cX13_appends 13 = .ok (.iload_n 2, 1) := dk_28 (dk_at dksX13_appends_0 13 rfl rfl)
theorem dX13_appends_14 : decode cX13_appends 14 = .ok (.bipush 97, 2) := dk_16 97 (dk_at dksX13_appends_0 14 rfl rfl)
theorem dX13_appends_16 : decode cX13_appends 16 = .ok (.isub, 1) := dk_100 (dk_at dksX13_appends_0 16 rfl rfl)
theorem dX13_appends_17 : decode cX13_appends 17 = .ok (.iconst 1, 1) := dk_4 (dk_at dksX13_appends_0 17 rfl rfl)
theorem dX13_appends_18 : decode cX13_appends 18 = .ok (.iadd, 1) := dk_96 (dk_at dksX13_appends_0 18 rfl rfl)
theorem dX13_appends_19 : decode cX13_appends 19 = .ok (.i2l, 1) := dk_133 (dk_at dksX13_appends_0 19 rfl rfl)
theorem dX13_appends_20 : decode cX13_appends 20 = .ok (.ladd, 1) := dk_97 (dk_at dksX13_appends_0 20 rfl rfl)
theorem dX13_appends_21 : decode cX13_appends 21 = .ok (.lreturn, 1) := dk_173 (dk_at dksX13_appends_0 21 rfl rfl)
abbrev cX13_begins : ByteArray := prog_21_method_40_code
def yX13_begins : MethodName := ⟨RX13, "begins", "()V"⟩
def dkwX13_begins_3 : List UInt8 := [42, 180, 0, 134, 27, 3, 79, 132, 1, 1, 167, 255, 197, 177]
abbrev dktX13_begins_3 : List UInt8 := dkwX13_begins_3 ++ []
def dkwX13_begins_2 : List UInt8 := [79, 42, 180, 0, 131, 16, 7, 27, 96, 42, 180, 0, 55, 16, 7, 42, 180, 1, 2, 104, 27, 96, 46, 79]
abbrev dktX13_begins_2 : List UInt8 := dkwX13_begins_2 ++ dktX13_begins_3
def dkwX13_begins_1 : List UInt8 := [16, 7, 162, 0, 59, 42, 180, 0, 131, 27, 42, 180, 0, 52, 16, 7, 42, 180, 1, 2, 104, 27, 96, 46]
abbrev dktX13_begins_1 : List UInt8 := dkwX13_begins_1 ++ dktX13_begins_2
def dkwX13_begins_0 : List UInt8 := [3, 60, 27, 16, 30, 162, 0, 16, 42, 180, 0, 131, 27, 3, 79, 132, 1, 1, 167, 255, 240, 3, 60, 27]
abbrev dktX13_begins_0 : List UInt8 := dkwX13_begins_0 ++ dktX13_begins_1
theorem dksX13_begins_0 : cX13_begins.data.toList.drop 0 = dktX13_begins_0 := by decide +kernel
theorem dksX13_begins_1 : cX13_begins.data.toList.drop 24 = dktX13_begins_1 := dk_seg dksX13_begins_0 24 rfl rfl
theorem dksX13_begins_2 : cX13_begins.data.toList.drop 48 = dktX13_begins_2 := dk_seg dksX13_begins_1 24 rfl rfl
theorem dksX13_begins_3 : cX13_begins.data.toList.drop 72 = dktX13_begins_3 := dk_seg dksX13_begins_2 24 rfl rfl
theorem dX13_begins_0 : decode cX13_begins 0 = .ok (.iconst 0, 1) := dk_3 (dk_at dksX13_begins_0 0 rfl rfl)
theorem dX13_begins_1 : decode cX13_begins 1 = .ok (.istore_n 1, 1) := dk_60 (dk_at dksX13_begins_0 1 rfl rfl)
theorem dX13_begins_2 : decode cX13_begins 2 = .ok (.iload_n 1, 1) := dk_27 (dk_at dksX13_begins_0 2 rfl rfl)
theorem dX13_begins_3 : decode cX13_begins 3 = .ok (.bipush 30, 2) := dk_16 30 (dk_at dksX13_begins_0 3 rfl rfl)
theorem dX13_begins_5 : decode cX13_begins 5 = .ok (.if_icmp .ge 16, 3) := dk_162 0 16 (dk_at dksX13_begins_0 5 rfl rfl)
theorem dX13_begins_8 : decode cX13_begins 8 = .ok (.aload_n 0, 1) := dk_42 (dk_at dksX13_begins_0 8 rfl rfl)
theorem dX13_begins_9 : decode cX13_begins 9 = .ok (.getfield 131, 3) := dk_180 0 131 (dk_at dksX13_begins_0 9 rfl rfl)
theorem dX13_begins_12 : decode cX13_begins 12 = .ok (.iload_n 1, 1) := dk_27 (dk_at dksX13_begins_0 12 rfl rfl)
theorem dX13_begins_13 : decode cX13_begins 13 = .ok (.iconst 0, 1) := dk_3 (dk_at dksX13_begins_0 13 rfl rfl)
theorem dX13_begins_14 : decode cX13_begins 14 = .ok (.iastore, 1) := dk_79 (dk_at dksX13_begins_0 14 rfl rfl)
theorem dX13_begins_15 : decode cX13_begins 15 = .ok (.iinc 1 1, 3) := dk_132 1 1 (dk_at dksX13_begins_0 15 rfl rfl)
theorem dX13_begins_18 : decode cX13_begins 18 = .ok (.goto (-16), 3) := dk_167 255 240 (dk_at dksX13_begins_0 18 rfl rfl)
theorem dX13_begins_21 : decode cX13_begins 21 = .ok (.iconst 0, 1) := dk_3 (dk_at dksX13_begins_0 21 rfl rfl)
theorem dX13_begins_22 : decode cX13_begins 22 = .ok (.istore_n 1, 1) := dk_60 (dk_at dksX13_begins_0 22 rfl rfl)
theorem dX13_begins_23 : decode cX13_begins 23 = .ok (.iload_n 1, 1) := dk_27 (dk_at dksX13_begins_0 23 rfl rfl)
theorem dX13_begins_24 : decode cX13_begins 24 = .ok (.bipush 7, 2) := dk_16 7 (dk_at dksX13_begins_1 0 rfl rfl)
theorem dX13_begins_26 : decode cX13_begins 26 = .ok (.if_icmp .ge 59, 3) := dk_162 0 59 (dk_at dksX13_begins_1 2 rfl rfl)
theorem dX13_begins_29 : decode cX13_begins 29 = .ok (.aload_n 0, 1) := dk_42 (dk_at dksX13_begins_1 5 rfl rfl)
theorem dX13_begins_30 : decode cX13_begins 30 = .ok (.getfield 131, 3) := dk_180 0 131 (dk_at dksX13_begins_1 6 rfl rfl)
theorem dX13_begins_33 : decode cX13_begins 33 = .ok (.iload_n 1, 1) := dk_27 (dk_at dksX13_begins_1 9 rfl rfl)
theorem dX13_begins_34 : decode cX13_begins 34 = .ok (.aload_n 0, 1) := dk_42 (dk_at dksX13_begins_1 10 rfl rfl)
theorem dX13_begins_35 : decode cX13_begins 35 = .ok (.getfield 52, 3) := dk_180 0 52 (dk_at dksX13_begins_1 11 rfl rfl)
theorem dX13_begins_38 : decode cX13_begins 38 = .ok (.bipush 7, 2) := dk_16 7 (dk_at dksX13_begins_1 14 rfl rfl)
theorem dX13_begins_40 : decode cX13_begins 40 = .ok (.aload_n 0, 1) := dk_42 (dk_at dksX13_begins_1 16 rfl rfl)
theorem dX13_begins_41 : decode cX13_begins 41 = .ok (.getfield 258, 3) := dk_180 1 2 (dk_at dksX13_begins_1 17 rfl rfl)
theorem dX13_begins_44 : decode cX13_begins 44 = .ok (.imul, 1) := dk_104 (dk_at dksX13_begins_1 20 rfl rfl)
theorem dX13_begins_45 : decode cX13_begins 45 = .ok (.iload_n 1, 1) := dk_27 (dk_at dksX13_begins_1 21 rfl rfl)
theorem dX13_begins_46 : decode cX13_begins 46 = .ok (.iadd, 1) := dk_96 (dk_at dksX13_begins_1 22 rfl rfl)
theorem dX13_begins_47 : decode cX13_begins 47 = .ok (.iaload, 1) := dk_46 (dk_at dksX13_begins_1 23 rfl rfl)
theorem dX13_begins_48 : decode cX13_begins 48 = .ok (.iastore, 1) := dk_79 (dk_at dksX13_begins_2 0 rfl rfl)
theorem dX13_begins_49 : decode cX13_begins 49 = .ok (.aload_n 0, 1) := dk_42 (dk_at dksX13_begins_2 1 rfl rfl)
theorem dX13_begins_50 : decode cX13_begins 50 = .ok (.getfield 131, 3) := dk_180 0 131 (dk_at dksX13_begins_2 2 rfl rfl)
theorem dX13_begins_53 : decode cX13_begins 53 = .ok (.bipush 7, 2) := dk_16 7 (dk_at dksX13_begins_2 5 rfl rfl)
theorem dX13_begins_55 : decode cX13_begins 55 = .ok (.iload_n 1, 1) := dk_27 (dk_at dksX13_begins_2 7 rfl rfl)
theorem dX13_begins_56 : decode cX13_begins 56 = .ok (.iadd, 1) := dk_96 (dk_at dksX13_begins_2 8 rfl rfl)
theorem dX13_begins_57 : decode cX13_begins 57 = .ok (.aload_n 0, 1) := dk_42 (dk_at dksX13_begins_2 9 rfl rfl)
theorem dX13_begins_58 : decode cX13_begins 58 = .ok (.getfield 55, 3) := dk_180 0 55 (dk_at dksX13_begins_2 10 rfl rfl)
theorem dX13_begins_61 : decode cX13_begins 61 = .ok (.bipush 7, 2) := dk_16 7 (dk_at dksX13_begins_2 13 rfl rfl)
theorem dX13_begins_63 : decode cX13_begins 63 = .ok (.aload_n 0, 1) := dk_42 (dk_at dksX13_begins_2 15 rfl rfl)
theorem dX13_begins_64 : decode cX13_begins 64 = .ok (.getfield 258, 3) := dk_180 1 2 (dk_at dksX13_begins_2 16 rfl rfl)
theorem dX13_begins_67 : decode cX13_begins 67 = .ok (.imul, 1) := dk_104 (dk_at dksX13_begins_2 19 rfl rfl)
theorem dX13_begins_68 : decode cX13_begins 68 = .ok (.iload_n 1, 1) := dk_27 (dk_at dksX13_begins_2 20 rfl rfl)
theorem dX13_begins_69 : decode cX13_begins 69 = .ok (.iadd, 1) := dk_96 (dk_at dksX13_begins_2 21 rfl rfl)
theorem dX13_begins_70 : decode cX13_begins 70 = .ok (.iaload, 1) := dk_46 (dk_at dksX13_begins_2 22 rfl rfl)
theorem dX13_begins_71 : decode cX13_begins 71 = .ok (.iastore, 1) := dk_79 (dk_at dksX13_begins_2 23 rfl rfl)
theorem dX13_begins_72 : decode cX13_begins 72 = .ok (.aload_n 0, 1) := dk_42 (dk_at dksX13_begins_3 0 rfl rfl)
theorem dX13_begins_73 : decode cX13_begins 73 = .ok (.getfield 134, 3) := dk_180 0 134 (dk_at dksX13_begins_3 1 rfl rfl)
theorem dX13_begins_76 : decode cX13_begins 76 = .ok (.iload_n 1, 1) := dk_27 (dk_at dksX13_begins_3 4 rfl rfl)
theorem dX13_begins_77 : decode cX13_begins 77 = .ok (.iconst 0, 1) := dk_3 (dk_at dksX13_begins_3 5 rfl rfl)
theorem dX13_begins_78 : decode cX13_begins 78 = .ok (.iastore, 1) := dk_79 (dk_at dksX13_begins_3 6 rfl rfl)
theorem dX13_begins_79 : decode cX13_begins 79 = .ok (.iinc 1 1, 3) := dk_132 1 1 (dk_at dksX13_begins_3 7 rfl rfl)
theorem dX13_begins_82 : decode cX13_begins 82 = .ok (.goto (-59), 3) := dk_167 255 197 (dk_at dksX13_begins_3 10 rfl rfl)
theorem dX13_begins_85 : decode cX13_begins 85 = .ok (.return_, 1) := dk_177 (dk_at dksX13_begins_3 13 rfl rfl)
abbrev cX13_keepsRow : ByteArray := prog_21_method_41_code
def yX13_keepsRow : MethodName := ⟨RX13, "keepsRow", "()V"⟩
def dkwX13_keepsRow_1 : List UInt8 := [167, 255, 234, 177]
abbrev dktX13_keepsRow_1 : List UInt8 := dkwX13_keepsRow_1 ++ []
def dkwX13_keepsRow_0 : List UInt8 := [3, 60, 27, 17, 5, 10, 162, 0, 21, 42, 180, 0, 128, 27, 42, 180, 0, 131, 27, 46, 79, 132, 1, 1]
abbrev dktX13_keepsRow_0 : List UInt8 := dkwX13_keepsRow_0 ++ dktX13_keepsRow_1
theorem dksX13_keepsRow_0 : cX13_keepsRow.data.toList.drop 0 = dktX13_keepsRow_0 := by decide +kernel
theorem dksX13_keepsRow_1 : cX13_keepsRow.data.toList.drop 24 = dktX13_keepsRow_1 := dk_seg dksX13_keepsRow_0 24 rfl rfl
theorem dX13_keepsRow_0 : decode cX13_keepsRow 0 = .ok (.iconst 0, 1) := dk_3 (dk_at dksX13_keepsRow_0 0 rfl rfl)
theorem dX13_keepsRow_1 : decode cX13_keepsRow 1 = .ok (.istore_n 1, 1) := dk_60 (dk_at dksX13_keepsRow_0 1 rfl rfl)
theorem dX13_keepsRow_2 : decode cX13_keepsRow 2 = .ok (.iload_n 1, 1) := dk_27 (dk_at dksX13_keepsRow_0 2 rfl rfl)
theorem dX13_keepsRow_3 : decode cX13_keepsRow 3 = .ok (.sipush 1290, 3) := dk_17 5 10 (dk_at dksX13_keepsRow_0 3 rfl rfl)
theorem dX13_keepsRow_6 : decode cX13_keepsRow 6 = .ok (.if_icmp .ge 21, 3) := dk_162 0 21 (dk_at dksX13_keepsRow_0 6 rfl rfl)
theorem dX13_keepsRow_9 : decode cX13_keepsRow 9 = .ok (.aload_n 0, 1) := dk_42 (dk_at dksX13_keepsRow_0 9 rfl rfl)
theorem dX13_keepsRow_10 : decode cX13_keepsRow 10 = .ok (.getfield 128, 3) := dk_180 0 128 (dk_at dksX13_keepsRow_0 10 rfl rfl)
theorem dX13_keepsRow_13 : decode cX13_keepsRow 13 = .ok (.iload_n 1, 1) := dk_27 (dk_at dksX13_keepsRow_0 13 rfl rfl)
theorem dX13_keepsRow_14 : decode cX13_keepsRow 14 = .ok (.aload_n 0, 1) := dk_42 (dk_at dksX13_keepsRow_0 14 rfl rfl)
theorem dX13_keepsRow_15 : decode cX13_keepsRow 15 = .ok (.getfield 131, 3) := dk_180 0 131 (dk_at dksX13_keepsRow_0 15 rfl rfl)
theorem dX13_keepsRow_18 : decode cX13_keepsRow 18 = .ok (.iload_n 1, 1) := dk_27 (dk_at dksX13_keepsRow_0 18 rfl rfl)
theorem dX13_keepsRow_19 : decode cX13_keepsRow 19 = .ok (.iaload, 1) := dk_46 (dk_at dksX13_keepsRow_0 19 rfl rfl)
theorem dX13_keepsRow_20 : decode cX13_keepsRow 20 = .ok (.iastore, 1) := dk_79 (dk_at dksX13_keepsRow_0 20 rfl rfl)
theorem dX13_keepsRow_21 : decode cX13_keepsRow 21 = .ok (.iinc 1 1, 3) := dk_132 1 1 (dk_at dksX13_keepsRow_0 21 rfl rfl)
theorem dX13_keepsRow_24 : decode cX13_keepsRow 24 = .ok (.goto (-22), 3) := dk_167 255 234 (dk_at dksX13_keepsRow_1 0 rfl rfl)
theorem dX13_keepsRow_27 : decode cX13_keepsRow 27 = .ok (.return_, 1) := dk_177 (dk_at dksX13_keepsRow_1 3 rfl rfl)
abbrev cX13_feed : ByteArray := prog_21_method_3_code
def yX13_feed : MethodName := ⟨RX13, "feed", "(IIIII)I"⟩
def dkwX13_feed_2 : List UInt8 := [172]
abbrev dktX13_feed_2 : List UInt8 := dkwX13_feed_2 ++ []
def dkwX13_feed_1 : List UInt8 := [182, 0, 194, 42, 29, 182, 0, 194, 42, 21, 4, 182, 0, 194, 42, 21, 5, 182, 0, 194, 42, 180, 0, 191]
abbrev dktX13_feed_1 : List UInt8 := dkwX13_feed_1 ++ dktX13_feed_2
def dkwX13_feed_0 : List UInt8 := [42, 180, 0, 191, 16, 20, 96, 17, 7, 208, 164, 0, 5, 2, 172, 42, 27, 182, 0, 194, 42, 28]
abbrev dktX13_feed_0 : List UInt8 := dkwX13_feed_0 ++ dktX13_feed_1
theorem dksX13_feed_0 : cX13_feed.data.toList.drop 0 = dktX13_feed_0 := by decide +kernel
theorem dksX13_feed_1 : cX13_feed.data.toList.drop 22 = dktX13_feed_1 := dk_seg dksX13_feed_0 22 rfl rfl
theorem dksX13_feed_2 : cX13_feed.data.toList.drop 46 = dktX13_feed_2 := dk_seg dksX13_feed_1 24 rfl rfl
theorem dX13_feed_0 : decode cX13_feed 0 = .ok (.aload_n 0, 1) := dk_42 (dk_at dksX13_feed_0 0 rfl rfl)
theorem dX13_feed_1 : decode cX13_feed 1 = .ok (.getfield 191, 3) := dk_180 0 191 (dk_at dksX13_feed_0 1 rfl rfl)
theorem dX13_feed_4 : decode cX13_feed 4 = .ok (.bipush 20, 2) := dk_16 20 (dk_at dksX13_feed_0 4 rfl rfl)
theorem dX13_feed_6 : decode cX13_feed 6 = .ok (.iadd, 1) := dk_96 (dk_at dksX13_feed_0 6 rfl rfl)
theorem dX13_feed_7 : decode cX13_feed 7 = .ok (.sipush 2000, 3) := dk_17 7 208 (dk_at dksX13_feed_0 7 rfl rfl)
theorem dX13_feed_10 : decode cX13_feed 10 = .ok (.if_icmp .le 5, 3) := dk_164 0 5 (dk_at dksX13_feed_0 10 rfl rfl)
theorem dX13_feed_13 : decode cX13_feed 13 = .ok (.iconst (-1), 1) := dk_2 (dk_at dksX13_feed_0 13 rfl rfl)
theorem dX13_feed_14 : decode cX13_feed 14 = .ok (.ireturn, 1) := dk_172 (dk_at dksX13_feed_0 14 rfl rfl)
theorem dX13_feed_15 : decode cX13_feed 15 = .ok (.aload_n 0, 1) := dk_42 (dk_at dksX13_feed_0 15 rfl rfl)
theorem dX13_feed_16 : decode cX13_feed 16 = .ok (.iload_n 1, 1) := dk_27 (dk_at dksX13_feed_0 16 rfl rfl)
theorem dX13_feed_17 : decode cX13_feed 17 = .ok (.invokevirtual 194, 3) := dk_182 0 194 (dk_at dksX13_feed_0 17 rfl rfl)
theorem dX13_feed_20 : decode cX13_feed 20 = .ok (.aload_n 0, 1) := dk_42 (dk_at dksX13_feed_0 20 rfl rfl)
theorem dX13_feed_21 : decode cX13_feed 21 = .ok (.iload_n 2, 1) := dk_28 (dk_at dksX13_feed_0 21 rfl rfl)
theorem dX13_feed_22 : decode cX13_feed 22 = .ok (.invokevirtual 194, 3) := dk_182 0 194 (dk_at dksX13_feed_1 0 rfl rfl)
theorem dX13_feed_25 : decode cX13_feed 25 = .ok (.aload_n 0, 1) := dk_42 (dk_at dksX13_feed_1 3 rfl rfl)
theorem dX13_feed_26 : decode cX13_feed 26 = .ok (.iload_n 3, 1) := dk_29 (dk_at dksX13_feed_1 4 rfl rfl)
theorem dX13_feed_27 : decode cX13_feed 27 = .ok (.invokevirtual 194, 3) := dk_182 0 194 (dk_at dksX13_feed_1 5 rfl rfl)
theorem dX13_feed_30 : decode cX13_feed 30 = .ok (.aload_n 0, 1) := dk_42 (dk_at dksX13_feed_1 8 rfl rfl)
theorem dX13_feed_31 : decode cX13_feed 31 = .ok (.iload 4, 2) := dk_21 4 (dk_at dksX13_feed_1 9 rfl rfl)
theorem dX13_feed_33 : decode cX13_feed 33 = .ok (.invokevirtual 194, 3) := dk_182 0 194 (dk_at dksX13_feed_1 11 rfl rfl)
theorem dX13_feed_36 : decode cX13_feed 36 = .ok (.aload_n 0, 1) := dk_42 (dk_at dksX13_feed_1 14 rfl rfl)
theorem dX13_feed_37 : decode cX13_feed 37 = .ok (.iload 5, 2) := dk_21 5 (dk_at dksX13_feed_1 15 rfl rfl)
theorem dX13_feed_39 : decode cX13_feed 39 = .ok (.invokevirtual 194, 3) := dk_182 0 194 (dk_at dksX13_feed_1 17 rfl rfl)
theorem dX13_feed_42 : decode cX13_feed 42 = .ok (.aload_n 0, 1) := dk_42 (dk_at dksX13_feed_1 20 rfl rfl)
theorem dX13_feed_43 : decode cX13_feed 43 = .ok (.getfield 191, 3) := dk_180 0 191 (dk_at dksX13_feed_1 21 rfl rfl)
theorem dX13_feed_46 : decode cX13_feed 46 = .ok (.ireturn, 1) := dk_172 (dk_at dksX13_feed_2 0 rfl rfl)
abbrev cX13_put : ByteArray := prog_21_method_4_code
def yX13_put : MethodName := ⟨RX13, "put", "(I)V"⟩
def dkwX13_put_1 : List UInt8 := [180, 0, 191, 4, 96, 181, 0, 191, 132, 2, 248, 167, 255, 226, 177]
abbrev dktX13_put_1 : List UInt8 := dkwX13_put_1 ++ []
def dkwX13_put_0 : List UInt8 := [16, 24, 61, 28, 155, 0, 32, 42, 180, 0, 13, 42, 180, 0, 191, 27, 28, 122, 145, 84, 42, 89]
abbrev dktX13_put_0 : List UInt8 := dkwX13_put_0 ++ dktX13_put_1
theorem dksX13_put_0 : cX13_put.data.toList.drop 0 = dktX13_put_0 := by decide +kernel
theorem dksX13_put_1 : cX13_put.data.toList.drop 22 = dktX13_put_1 := dk_seg dksX13_put_0 22 rfl rfl
theorem dX13_put_0 : decode cX13_put 0 = .ok (.bipush 24, 2) := dk_16 24 (dk_at dksX13_put_0 0 rfl rfl)
theorem dX13_put_2 : decode cX13_put 2 = .ok (.istore_n 2, 1) := dk_61 (dk_at dksX13_put_0 2 rfl rfl)
theorem dX13_put_3 : decode cX13_put 3 = .ok (.iload_n 2, 1) := dk_28 (dk_at dksX13_put_0 3 rfl rfl)
theorem dX13_put_4 : decode cX13_put 4 = .ok (.ifCond .lt 32, 3) := dk_155 0 32 (dk_at dksX13_put_0 4 rfl rfl)
theorem dX13_put_7 : decode cX13_put 7 = .ok (.aload_n 0, 1) := dk_42 (dk_at dksX13_put_0 7 rfl rfl)
theorem dX13_put_8 : decode cX13_put 8 = .ok (.getfield 13, 3) := dk_180 0 13 (dk_at dksX13_put_0 8 rfl rfl)
theorem dX13_put_11 : decode cX13_put 11 = .ok (.aload_n 0, 1) := dk_42 (dk_at dksX13_put_0 11 rfl rfl)
theorem dX13_put_12 : decode cX13_put 12 = .ok (.getfield 191, 3) := dk_180 0 191 (dk_at dksX13_put_0 12 rfl rfl)
theorem dX13_put_15 : decode cX13_put 15 = .ok (.iload_n 1, 1) := dk_27 (dk_at dksX13_put_0 15 rfl rfl)
theorem dX13_put_16 : decode cX13_put 16 = .ok (.iload_n 2, 1) := dk_28 (dk_at dksX13_put_0 16 rfl rfl)
theorem dX13_put_17 : decode cX13_put 17 = .ok (.ishr, 1) := dk_122 (dk_at dksX13_put_0 17 rfl rfl)
theorem dX13_put_18 : decode cX13_put 18 = .ok (.i2b, 1) := dk_145 (dk_at dksX13_put_0 18 rfl rfl)
theorem dX13_put_19 : decode cX13_put 19 = .ok (.bastore, 1) := dk_84 (dk_at dksX13_put_0 19 rfl rfl)
theorem dX13_put_20 : decode cX13_put 20 = .ok (.aload_n 0, 1) := dk_42 (dk_at dksX13_put_0 20 rfl rfl)
theorem dX13_put_21 : decode cX13_put 21 = .ok (.dup, 1) := dk_89 (dk_at dksX13_put_0 21 rfl rfl)
theorem dX13_put_22 : decode cX13_put 22 = .ok (.getfield 191, 3) := dk_180 0 191 (dk_at dksX13_put_1 0 rfl rfl)
theorem dX13_put_25 : decode cX13_put 25 = .ok (.iconst 1, 1) := dk_4 (dk_at dksX13_put_1 3 rfl rfl)
theorem dX13_put_26 : decode cX13_put 26 = .ok (.iadd, 1) := dk_96 (dk_at dksX13_put_1 4 rfl rfl)
theorem dX13_put_27 : decode cX13_put 27 = .ok (.putfield 191, 3) := dk_181 0 191 (dk_at dksX13_put_1 5 rfl rfl)
theorem dX13_put_30 : decode cX13_put 30 = .ok (.iinc 2 (-8), 3) := dk_132 2 248 (dk_at dksX13_put_1 8 rfl rfl)
theorem dX13_put_33 : decode cX13_put 33 = .ok (.goto (-30), 3) := dk_167 255 226 (dk_at dksX13_put_1 11 rfl rfl)
theorem dX13_put_36 : decode cX13_put 36 = .ok (.return_, 1) := dk_177 (dk_at dksX13_put_1 14 rfl rfl)
abbrev cX13_back : ByteArray := prog_21_method_5_code
def yX13_back : MethodName := ⟨RX13, "back", "(I)I"⟩
def dkwX13_back_1 : List UInt8 := [42, 180, 0, 191, 172]
abbrev dktX13_back_1 : List UInt8 := dkwX13_back_1 ++ []
def dkwX13_back_0 : List UInt8 := [27, 155, 0, 11, 27, 42, 180, 0, 191, 164, 0, 5, 2, 172, 42, 89, 180, 0, 191, 27, 100, 181, 0, 191]
abbrev dktX13_back_0 : List UInt8 := dkwX13_back_0 ++ dktX13_back_1
theorem dksX13_back_0 : cX13_back.data.toList.drop 0 = dktX13_back_0 := by decide +kernel
theorem dksX13_back_1 : cX13_back.data.toList.drop 24 = dktX13_back_1 := dk_seg dksX13_back_0 24 rfl rfl
theorem dX13_back_0 : decode cX13_back 0 = .ok (.iload_n 1, 1) := dk_27 (dk_at dksX13_back_0 0 rfl rfl)
theorem dX13_back_1 : decode cX13_back 1 = .ok (.ifCond .lt 11, 3) := dk_155 0 11 (dk_at dksX13_back_0 1 rfl rfl)
theorem dX13_back_4 : decode cX13_back 4 = .ok (.iload_n 1, 1) := dk_27 (dk_at dksX13_back_0 4 rfl rfl)
theorem dX13_back_5 : decode cX13_back 5 = .ok (.aload_n 0, 1) := dk_42 (dk_at dksX13_back_0 5 rfl rfl)
theorem dX13_back_6 : decode cX13_back 6 = .ok (.getfield 191, 3) := dk_180 0 191 (dk_at dksX13_back_0 6 rfl rfl)
theorem dX13_back_9 : decode cX13_back 9 = .ok (.if_icmp .le 5, 3) := dk_164 0 5 (dk_at dksX13_back_0 9 rfl rfl)
theorem dX13_back_12 : decode cX13_back 12 = .ok (.iconst (-1), 1) := dk_2 (dk_at dksX13_back_0 12 rfl rfl)
theorem dX13_back_13 : decode cX13_back 13 = .ok (.ireturn, 1) := dk_172 (dk_at dksX13_back_0 13 rfl rfl)
theorem dX13_back_14 : decode cX13_back 14 = .ok (.aload_n 0, 1) := dk_42 (dk_at dksX13_back_0 14 rfl rfl)
theorem dX13_back_15 : decode cX13_back 15 = .ok (.dup, 1) := dk_89 (dk_at dksX13_back_0 15 rfl rfl)
theorem dX13_back_16 : decode cX13_back 16 = .ok (.getfield 191, 3) := dk_180 0 191 (dk_at dksX13_back_0 16 rfl rfl)
theorem dX13_back_19 : decode cX13_back 19 = .ok (.iload_n 1, 1) := dk_27 (dk_at dksX13_back_0 19 rfl rfl)
theorem dX13_back_20 : decode cX13_back 20 = .ok (.isub, 1) := dk_100 (dk_at dksX13_back_0 20 rfl rfl)
theorem dX13_back_21 : decode cX13_back 21 = .ok (.putfield 191, 3) := dk_181 0 191 (dk_at dksX13_back_0 21 rfl rfl)
theorem dX13_back_24 : decode cX13_back 24 = .ok (.aload_n 0, 1) := dk_42 (dk_at dksX13_back_1 0 rfl rfl)
theorem dX13_back_25 : decode cX13_back 25 = .ok (.getfield 191, 3) := dk_180 0 191 (dk_at dksX13_back_1 1 rfl rfl)
theorem dX13_back_28 : decode cX13_back 28 = .ok (.ireturn, 1) := dk_172 (dk_at dksX13_back_1 4 rfl rfl)
abbrev cX13_read : ByteArray := prog_21_method_20_code
def yX13_read : MethodName := ⟨RX13, "read", "()I"⟩
def dkwX13_read_13 : List UInt8 := [6, 162, 0, 16, 42, 180, 0, 171, 27, 3, 84, 132, 1, 1, 167, 255, 241, 3, 172]
abbrev dktX13_read_13 : List UInt8 := dkwX13_read_13 ++ []
def dkwX13_read_12 : List UInt8 := [181, 1, 2, 42, 182, 0, 185, 42, 182, 0, 188, 42, 3, 181, 1, 27, 42, 3, 181, 1, 30, 3, 60, 27]
abbrev dktX13_read_12 : List UInt8 := dkwX13_read_12 ++ dktX13_read_13
def dkwX13_read_11 : List UInt8 := [42, 180, 0, 228, 172, 42, 180, 0, 237, 158, 0, 8, 42, 180, 0, 237, 172, 42, 42, 180, 1, 5]
abbrev dktX13_read_11 : List UInt8 := dkwX13_read_11 ++ dktX13_read_12
def dkwX13_read_10 : List UInt8 := [180, 0, 237, 158, 0, 10, 42, 180, 0, 240, 167, 0, 4, 2, 181, 0, 37, 42, 180, 0, 228, 158, 0, 8]
abbrev dktX13_read_10 : List UInt8 := dkwX13_read_10 ++ dktX13_read_11
def dkwX13_read_9 : List UInt8 := [132, 1, 1, 167, 255, 183, 42, 42, 180, 0, 228, 158, 0, 10, 42, 180, 0, 234, 167, 0, 18, 42]
abbrev dktX13_read_9 : List UInt8 := dkwX13_read_9 ++ dktX13_read_10
def dkwX13_read_8 : List UInt8 := [180, 0, 46, 42, 180, 1, 5, 46, 161, 0, 15, 42, 16, 6, 42, 180, 0, 88, 27, 46, 182, 1, 23]
abbrev dktX13_read_8 : List UInt8 := dkwX13_read_8 ++ dktX13_read_9
def dkwX13_read_7 : List UInt8 := [180, 0, 82, 27, 46, 42, 180, 0, 43, 42, 180, 1, 5, 46, 162, 0, 21, 42, 180, 0, 85, 27, 46, 42]
abbrev dktX13_read_7 : List UInt8 := dkwX13_read_7 ++ dktX13_read_8
def dkwX13_read_6 : List UInt8 := [42, 180, 1, 11, 162, 0, 71, 42, 180, 0, 228, 154, 0, 64, 42, 180, 0, 237, 154, 0, 57, 42]
abbrev dktX13_read_6 : List UInt8 := dkwX13_read_6 ++ dktX13_read_7
def dkwX13_read_5 : List UInt8 := [180, 0, 228, 154, 0, 18, 42, 3, 182, 0, 246, 154, 0, 10, 42, 182, 1, 20, 167, 255, 237, 3, 60, 27]
abbrev dktX13_read_5 : List UInt8 := dkwX13_read_5 ++ dktX13_read_6
def dkwX13_read_4 : List UInt8 := [17, 0, 130, 42, 180, 1, 5, 104, 181, 1, 14, 42, 17, 1, 164, 42, 180, 1, 5, 104, 181, 1, 17, 42]
abbrev dktX13_read_4 : List UInt8 := dkwX13_read_4 ++ dktX13_read_5
def dkwX13_read_3 : List UInt8 := [100, 181, 1, 5, 42, 3, 181, 1, 8, 42, 3, 181, 1, 11, 42, 42, 180, 1, 5, 182, 0, 177, 42]
abbrev dktX13_read_3 : List UInt8 := dkwX13_read_3 ++ dktX13_read_4
def dkwX13_read_2 : List UInt8 := [181, 0, 231, 42, 3, 181, 0, 255, 42, 3, 181, 0, 228, 42, 3, 181, 0, 237, 42, 4, 42, 180, 1, 2]
abbrev dktX13_read_2 : List UInt8 := dkwX13_read_2 ++ dktX13_read_3
def dkwX13_read_1 : List UInt8 := [180, 0, 13, 27, 51, 84, 132, 1, 1, 167, 255, 233, 42, 3, 181, 0, 191, 42, 182, 0, 252, 42, 3]
abbrev dktX13_read_1 : List UInt8 := dkwX13_read_1 ++ dktX13_read_2
def dkwX13_read_0 : List UInt8 := [42, 42, 180, 0, 191, 181, 0, 197, 3, 60, 27, 42, 180, 0, 197, 162, 0, 21, 42, 180, 0, 17, 27, 42]
abbrev dktX13_read_0 : List UInt8 := dkwX13_read_0 ++ dktX13_read_1
theorem dksX13_read_0 : cX13_read.data.toList.drop 0 = dktX13_read_0 := by decide +kernel
theorem dksX13_read_1 : cX13_read.data.toList.drop 24 = dktX13_read_1 := dk_seg dksX13_read_0 24 rfl rfl
theorem dksX13_read_2 : cX13_read.data.toList.drop 47 = dktX13_read_2 := dk_seg dksX13_read_1 23 rfl rfl
theorem dksX13_read_3 : cX13_read.data.toList.drop 71 = dktX13_read_3 := dk_seg dksX13_read_2 24 rfl rfl
theorem dksX13_read_4 : cX13_read.data.toList.drop 94 = dktX13_read_4 := dk_seg dksX13_read_3 23 rfl rfl
theorem dksX13_read_5 : cX13_read.data.toList.drop 118 = dktX13_read_5 := dk_seg dksX13_read_4 24 rfl rfl
theorem dksX13_read_6 : cX13_read.data.toList.drop 142 = dktX13_read_6 := dk_seg dksX13_read_5 24 rfl rfl
theorem dksX13_read_7 : cX13_read.data.toList.drop 164 = dktX13_read_7 := dk_seg dksX13_read_6 22 rfl rfl
theorem dksX13_read_8 : cX13_read.data.toList.drop 188 = dktX13_read_8 := dk_seg dksX13_read_7 24 rfl rfl
theorem dksX13_read_9 : cX13_read.data.toList.drop 211 = dktX13_read_9 := dk_seg dksX13_read_8 23 rfl rfl
theorem dksX13_read_10 : cX13_read.data.toList.drop 233 = dktX13_read_10 := dk_seg dksX13_read_9 22 rfl rfl
theorem dksX13_read_11 : cX13_read.data.toList.drop 257 = dktX13_read_11 := dk_seg dksX13_read_10 24 rfl rfl
theorem dksX13_read_12 : cX13_read.data.toList.drop 279 = dktX13_read_12 := dk_seg dksX13_read_11 22 rfl rfl
theorem dksX13_read_13 : cX13_read.data.toList.drop 303 = dktX13_read_13 := dk_seg dksX13_read_12 24 rfl rfl
theorem dX13_read_0 : decode cX13_read 0 = .ok (.aload_n 0, 1) := dk_42 (dk_at dksX13_read_0 0 rfl rfl)
theorem dX13_read_1 : decode cX13_read 1 = .ok (.aload_n 0, 1) := dk_42 (dk_at dksX13_read_0 1 rfl rfl)
theorem dX13_read_2 : decode cX13_read 2 = .ok (.getfield 191, 3) := dk_180 0 191 (dk_at dksX13_read_0 2 rfl rfl)
theorem dX13_read_5 : decode cX13_read 5 = .ok (.putfield 197, 3) := dk_181 0 197 (dk_at dksX13_read_0 5 rfl rfl)
theorem dX13_read_8 : decode cX13_read 8 = .ok (.iconst 0, 1) := dk_3 (dk_at dksX13_read_0 8 rfl rfl)
theorem dX13_read_9 : decode cX13_read 9 = .ok (.istore_n 1, 1) := dk_60 (dk_at dksX13_read_0 9 rfl rfl)
theorem dX13_read_10 : decode cX13_read 10 = .ok (.iload_n 1, 1) := dk_27 (dk_at dksX13_read_0 10 rfl rfl)
theorem dX13_read_11 : decode cX13_read 11 = .ok (.aload_n 0, 1) := dk_42 (dk_at dksX13_read_0 11 rfl rfl)
theorem dX13_read_12 : decode cX13_read 12 = .ok (.getfield 197, 3) := dk_180 0 197 (dk_at dksX13_read_0 12 rfl rfl)
theorem dX13_read_15 : decode cX13_read 15 = .ok (.if_icmp .ge 21, 3) := dk_162 0 21 (dk_at dksX13_read_0 15 rfl rfl)
theorem dX13_read_18 : decode cX13_read 18 = .ok (.aload_n 0, 1) := dk_42 (dk_at dksX13_read_0 18 rfl rfl)
theorem dX13_read_19 : decode cX13_read 19 = .ok (.getfield 17, 3) := dk_180 0 17 (dk_at dksX13_read_0 19 rfl rfl)
theorem dX13_read_22 : decode cX13_read 22 = .ok (.iload_n 1, 1) := dk_27 (dk_at dksX13_read_0 22 rfl rfl)
theorem dX13_read_23 : decode cX13_read 23 = .ok (.aload_n 0, 1) := dk_42 (dk_at dksX13_read_0 23 rfl rfl)
theorem dX13_read_24 : decode cX13_read 24 = .ok (.getfield 13, 3) := dk_180 0 13 (dk_at dksX13_read_1 0 rfl rfl)
theorem dX13_read_27 : decode cX13_read 27 = .ok (.iload_n 1, 1) := dk_27 (dk_at dksX13_read_1 3 rfl rfl)
theorem dX13_read_28 : decode cX13_read 28 = .ok (.baload, 1) := dk_51 (dk_at dksX13_read_1 4 rfl rfl)
theorem dX13_read_29 : decode cX13_read 29 = .ok (.bastore, 1) := dk_84 (dk_at dksX13_read_1 5 rfl rfl)
theorem dX13_read_30 : decode cX13_read 30 = .ok (.iinc 1 1, 3) := dk_132 1 1 (dk_at dksX13_read_1 6 rfl rfl)
theorem dX13_read_33 : decode cX13_read 33 = .ok (.goto (-23), 3) := dk_167 255 233 (dk_at dksX13_read_1 9 rfl rfl)
theorem dX13_read_36 : decode cX13_read 36 = .ok (.aload_n 0, 1) := dk_42 (dk_at dksX13_read_1 12 rfl rfl)
theorem dX13_read_37 : decode cX13_read 37 = .ok (.iconst 0, 1) := dk_3 (dk_at dksX13_read_1 13 rfl rfl)
theorem dX13_read_38 : decode cX13_read 38 = .ok (.putfield 191, 3) := dk_181 0 191 (dk_at dksX13_read_1 14 rfl rfl)
theorem dX13_read_41 : decode cX13_read 41 = .ok (.aload_n 0, 1) := dk_42 (dk_at dksX13_read_1 17 rfl rfl)
theorem dX13_read_42 : decode cX13_read 42 = .ok (.invokevirtual 252, 3) := dk_182 0 252 (dk_at dksX13_read_1 18 rfl rfl)
theorem dX13_read_45 : decode cX13_read 45 = .ok (.aload_n 0, 1) := dk_42 (dk_at dksX13_read_1 21 rfl rfl)
theorem dX13_read_46 : decode cX13_read 46 = .ok (.iconst 0, 1) := dk_3 (dk_at dksX13_read_1 22 rfl rfl)
theorem dX13_read_47 : decode cX13_read 47 = .ok (.putfield 231, 3) := dk_181 0 231 (dk_at dksX13_read_2 0 rfl rfl)
theorem dX13_read_50 : decode cX13_read 50 = .ok (.aload_n 0, 1) := dk_42 (dk_at dksX13_read_2 3 rfl rfl)
theorem dX13_read_51 : decode cX13_read 51 = .ok (.iconst 0, 1) := dk_3 (dk_at dksX13_read_2 4 rfl rfl)
theorem dX13_read_52 : decode cX13_read 52 = .ok (.putfield 255, 3) := dk_181 0 255 (dk_at dksX13_read_2 5 rfl rfl)
theorem dX13_read_55 : decode cX13_read 55 = .ok (.aload_n 0, 1) := dk_42 (dk_at dksX13_read_2 8 rfl rfl)
theorem dX13_read_56 : decode cX13_read 56 = .ok (.iconst 0, 1) := dk_3 (dk_at dksX13_read_2 9 rfl rfl)
theorem dX13_read_57 : decode cX13_read 57 = .ok (.putfield 228, 3) := dk_181 0 228 (dk_at dksX13_read_2 10 rfl rfl)
theorem dX13_read_60 : decode cX13_read 60 = .ok (.aload_n 0, 1) := dk_42 (dk_at dksX13_read_2 13 rfl rfl)
theorem dX13_read_61 : decode cX13_read 61 = .ok (.iconst 0, 1) := dk_3 (dk_at dksX13_read_2 14 rfl rfl)
theorem dX13_read_62 : decode cX13_read 62 = .ok (.putfield 237, 3) := dk_181 0 237 (dk_at dksX13_read_2 15 rfl rfl)
theorem dX13_read_65 : decode cX13_read 65 = .ok (.aload_n 0, 1) := dk_42 (dk_at dksX13_read_2 18 rfl rfl)
theorem dX13_read_66 : decode cX13_read 66 = .ok (.iconst 1, 1) := dk_4 (dk_at dksX13_read_2 19 rfl rfl)
theorem dX13_read_67 : decode cX13_read 67 = .ok (.aload_n 0, 1) := dk_42 (dk_at dksX13_read_2 20 rfl rfl)
theorem dX13_read_68 : decode cX13_read 68 = .ok (.getfield 258, 3) := dk_180 1 2 (dk_at dksX13_read_2 21 rfl rfl)
theorem dX13_read_71 : decode cX13_read 71 = .ok (.isub, 1) := dk_100 (dk_at dksX13_read_3 0 rfl rfl)
theorem dX13_read_72 : decode cX13_read 72 = .ok (.putfield 261, 3) := dk_181 1 5 (dk_at dksX13_read_3 1 rfl rfl)
theorem dX13_read_75 : decode cX13_read 75 = .ok (.aload_n 0, 1) := dk_42 (dk_at dksX13_read_3 4 rfl rfl)
theorem dX13_read_76 : decode cX13_read 76 = .ok (.iconst 0, 1) := dk_3 (dk_at dksX13_read_3 5 rfl rfl)
theorem dX13_read_77 : decode cX13_read 77 = .ok (.putfield 264, 3) := dk_181 1 8 (dk_at dksX13_read_3 6 rfl rfl)
theorem dX13_read_80 : decode cX13_read 80 = .ok (.aload_n 0, 1) := dk_42 (dk_at dksX13_read_3 9 rfl rfl)
theorem dX13_read_81 : decode cX13_read 81 = .ok (.iconst 0, 1) := dk_3 (dk_at dksX13_read_3 10 rfl rfl)
theorem dX13_read_82 : decode cX13_read 82 = .ok (.putfield 267, 3) := dk_181 1 11 (dk_at dksX13_read_3 11 rfl rfl)
theorem dX13_read_85 : decode cX13_read 85 = .ok (.aload_n 0, 1) := dk_42 (dk_at dksX13_read_3 14 rfl rfl)
theorem dX13_read_86 : decode cX13_read 86 = .ok (.aload_n 0, 1) := dk_42 (dk_at dksX13_read_3 15 rfl rfl)
theorem dX13_read_87 : decode cX13_read 87 = .ok (.getfield 261, 3) := dk_180 1 5 (dk_at dksX13_read_3 16 rfl rfl)
theorem dX13_read_90 : decode cX13_read 90 = .ok (.invokevirtual 177, 3) := dk_182 0 177 (dk_at dksX13_read_3 19 rfl rfl)
theorem dX13_read_93 : decode cX13_read 93 = .ok (.aload_n 0, 1) := dk_42 (dk_at dksX13_read_3 22 rfl rfl)
theorem dX13_read_94 : decode cX13_read 94 = .ok (.sipush 130, 3) := dk_17 0 130 (dk_at dksX13_read_4 0 rfl rfl)
theorem dX13_read_97 : decode cX13_read 97 = .ok (.aload_n 0, 1) := dk_42 (dk_at dksX13_read_4 3 rfl rfl)
theorem dX13_read_98 : decode cX13_read 98 = .ok (.getfield 261, 3) := dk_180 1 5 (dk_at dksX13_read_4 4 rfl rfl)
theorem dX13_read_101 : decode cX13_read 101 = .ok (.imul, 1) := dk_104 (dk_at dksX13_read_4 7 rfl rfl)
theorem dX13_read_102 : decode cX13_read 102 = .ok (.putfield 270, 3) := dk_181 1 14 (dk_at dksX13_read_4 8 rfl rfl)
theorem dX13_read_105 : decode cX13_read 105 = .ok (.aload_n 0, 1) := dk_42 (dk_at dksX13_read_4 11 rfl rfl)
theorem dX13_read_106 : decode cX13_read 106 = .ok (.sipush 420, 3) := dk_17 1 164 (dk_at dksX13_read_4 12 rfl rfl)
theorem dX13_read_109 : decode cX13_read 109 = .ok (.aload_n 0, 1) := dk_42 (dk_at dksX13_read_4 15 rfl rfl)
theorem dX13_read_110 : decode cX13_read 110 = .ok (.getfield 261, 3) := dk_180 1 5 (dk_at dksX13_read_4 16 rfl rfl)
theorem dX13_read_113 : decode cX13_read 113 = .ok (.imul, 1) := dk_104 (dk_at dksX13_read_4 19 rfl rfl)
theorem dX13_read_114 : decode cX13_read 114 = .ok (.putfield 273, 3) := dk_181 1 17 (dk_at dksX13_read_4 20 rfl rfl)
theorem dX13_read_117 : decode cX13_read 117 = .ok (.aload_n 0, 1) := dk_42 (dk_at dksX13_read_4 23 rfl rfl)
theorem dX13_read_118 : decode cX13_read 118 = .ok (.getfield 228, 3) := dk_180 0 228 (dk_at dksX13_read_5 0 rfl rfl)
theorem dX13_read_121 : decode cX13_read 121 = .ok (.ifCond .ne 18, 3) := dk_154 0 18 (dk_at dksX13_read_5 3 rfl rfl)
theorem dX13_read_124 : decode cX13_read 124 = .ok (.aload_n 0, 1) := dk_42 (dk_at dksX13_read_5 6 rfl rfl)
theorem dX13_read_125 : decode cX13_read 125 = .ok (.iconst 0, 1) := dk_3 (dk_at dksX13_read_5 7 rfl rfl)
theorem dX13_read_126 : decode cX13_read 126 = .ok (.invokevirtual 246, 3) := dk_182 0 246 (dk_at dksX13_read_5 8 rfl rfl)
theorem dX13_read_129 : decode cX13_read 129 = .ok (.ifCond .ne 10, 3) := dk_154 0 10 (dk_at dksX13_read_5 11 rfl rfl)
theorem dX13_read_132 : decode cX13_read 132 = .ok (.aload_n 0, 1) := dk_42 (dk_at dksX13_read_5 14 rfl rfl)
theorem dX13_read_133 : decode cX13_read 133 = .ok (.invokevirtual 276, 3) := dk_182 1 20 (dk_at dksX13_read_5 15 rfl rfl)
theorem dX13_read_136 : decode cX13_read 136 = .ok (.goto (-19), 3) := dk_167 255 237 (dk_at dksX13_read_5 18 rfl rfl)
theorem dX13_read_139 : decode cX13_read 139 = .ok (.iconst 0, 1) := dk_3 (dk_at dksX13_read_5 21 rfl rfl)
theorem dX13_read_140 : decode cX13_read 140 = .ok (.istore_n 1, 1) := dk_60 (dk_at dksX13_read_5 22 rfl rfl)
theorem dX13_read_141 : decode cX13_read 141 = .ok (.iload_n 1, 1) := dk_27 (dk_at dksX13_read_5 23 rfl rfl)
theorem dX13_read_142 : decode cX13_read 142 = .ok (.aload_n 0, 1) := dk_42 (dk_at dksX13_read_6 0 rfl rfl)
theorem dX13_read_143 : decode cX13_read 143 = .ok (.getfield 267, 3) := dk_180 1 11 (dk_at dksX13_read_6 1 rfl rfl)
theorem dX13_read_146 : decode cX13_read 146 = .ok (.if_icmp .ge 71, 3) := dk_162 0 71 (dk_at dksX13_read_6 4 rfl rfl)
theorem dX13_read_149 : decode cX13_read 149 = .ok (.aload_n 0, 1) := dk_42 (dk_at dksX13_read_6 7 rfl rfl)
theorem dX13_read_150 : decode cX13_read 150 = .ok (.getfield 228, 3) := dk_180 0 228 (dk_at dksX13_read_6 8 rfl rfl)
theorem dX13_read_153 : decode cX13_read 153 = .ok (.ifCond .ne 64, 3) := dk_154 0 64 (dk_at dksX13_read_6 11 rfl rfl)
theorem dX13_read_156 : decode cX13_read 156 = .ok (.aload_n 0, 1) := dk_42 (dk_at dksX13_read_6 14 rfl rfl)
theorem dX13_read_157 : decode cX13_read 157 = .ok (.getfield 237, 3) := dk_180 0 237 (dk_at dksX13_read_6 15 rfl rfl)
theorem dX13_read_160 : decode cX13_read 160 = .ok (.ifCond .ne 57, 3) := dk_154 0 57 (dk_at dksX13_read_6 18 rfl rfl)
theorem dX13_read_163 : decode cX13_read 163 = .ok (.aload_n 0, 1) := dk_42 (dk_at dksX13_read_6 21 rfl rfl)
theorem dX13_read_164 : decode cX13_read 164 = .ok (.getfield 82, 3) := dk_180 0 82 (dk_at dksX13_read_7 0 rfl rfl)
theorem dX13_read_167 : decode cX13_read 167 = .ok (.iload_n 1, 1) := dk_27 (dk_at dksX13_read_7 3 rfl rfl)
theorem dX13_read_168 : decode cX13_read 168 = .ok (.iaload, 1) := dk_46 (dk_at dksX13_read_7 4 rfl rfl)
theorem dX13_read_169 : decode cX13_read 169 = .ok (.aload_n 0, 1) := dk_42 (dk_at dksX13_read_7 5 rfl rfl)
theorem dX13_read_170 : decode cX13_read 170 = .ok (.getfield 43, 3) := dk_180 0 43 (dk_at dksX13_read_7 6 rfl rfl)
theorem dX13_read_173 : decode cX13_read 173 = .ok (.aload_n 0, 1) := dk_42 (dk_at dksX13_read_7 9 rfl rfl)
theorem dX13_read_174 : decode cX13_read 174 = .ok (.getfield 261, 3) := dk_180 1 5 (dk_at dksX13_read_7 10 rfl rfl)
theorem dX13_read_177 : decode cX13_read 177 = .ok (.iaload, 1) := dk_46 (dk_at dksX13_read_7 13 rfl rfl)
theorem dX13_read_178 : decode cX13_read 178 = .ok (.if_icmp .ge 21, 3) := dk_162 0 21 (dk_at dksX13_read_7 14 rfl rfl)
theorem dX13_read_181 : decode cX13_read 181 = .ok (.aload_n 0, 1) := dk_42 (dk_at dksX13_read_7 17 rfl rfl)
theorem dX13_read_182 : decode cX13_read 182 = .ok (.getfield 85, 3) := dk_180 0 85 (dk_at dksX13_read_7 18 rfl rfl)
theorem dX13_read_185 : decode cX13_read 185 = .ok (.iload_n 1, 1) := dk_27 (dk_at dksX13_read_7 21 rfl rfl)
theorem dX13_read_186 : decode cX13_read 186 = .ok (.iaload, 1) := dk_46 (dk_at dksX13_read_7 22 rfl rfl)
theorem dX13_read_187 : decode cX13_read 187 = .ok (.aload_n 0, 1) := dk_42 (dk_at dksX13_read_7 23 rfl rfl)
theorem dX13_read_188 : decode cX13_read 188 = .ok (.getfield 46, 3) := dk_180 0 46 (dk_at dksX13_read_8 0 rfl rfl)
theorem dX13_read_191 : decode cX13_read 191 = .ok (.aload_n 0, 1) := dk_42 (dk_at dksX13_read_8 3 rfl rfl)
theorem dX13_read_192 : decode cX13_read 192 = .ok (.getfield 261, 3) := dk_180 1 5 (dk_at dksX13_read_8 4 rfl rfl)
theorem dX13_read_195 : decode cX13_read 195 = .ok (.iaload, 1) := dk_46 (dk_at dksX13_read_8 7 rfl rfl)
theorem dX13_read_196 : decode cX13_read 196 = .ok (.if_icmp .lt 15, 3) := dk_161 0 15 (dk_at dksX13_read_8 8 rfl rfl)
theorem dX13_read_199 : decode cX13_read 199 = .ok (.aload_n 0, 1) := dk_42 (dk_at dksX13_read_8 11 rfl rfl)
theorem dX13_read_200 : decode cX13_read 200 = .ok (.bipush 6, 2) := dk_16 6 (dk_at dksX13_read_8 12 rfl rfl)
theorem dX13_read_202 : decode cX13_read 202 = .ok (.aload_n 0, 1) := dk_42 (dk_at dksX13_read_8 14 rfl rfl)
theorem dX13_read_203 : decode cX13_read 203 = .ok (.getfield 88, 3) := dk_180 0 88 (dk_at dksX13_read_8 15 rfl rfl)
theorem dX13_read_206 : decode cX13_read 206 = .ok (.iload_n 1, 1) := dk_27 (dk_at dksX13_read_8 18 rfl rfl)
theorem dX13_read_207 : decode cX13_read 207 = .ok (.iaload, 1) := dk_46 (dk_at dksX13_read_8 19 rfl rfl)
theorem dX13_read_208 : decode cX13_read 208 = .ok (.invokevirtual 279, 3) := dk_182 1 23 (dk_at dksX13_read_8 20 rfl rfl)
theorem dX13_read_211 : decode cX13_read 211 = .ok (.iinc 1 1, 3) := dk_132 1 1 (dk_at dksX13_read_9 0 rfl rfl)
theorem dX13_read_214 : decode cX13_read 214 = .ok (.goto (-73), 3) := dk_167 255 183 (dk_at dksX13_read_9 3 rfl rfl)
theorem dX13_read_217 : decode cX13_read 217 = .ok (.aload_n 0, 1) := dk_42 (dk_at dksX13_read_9 6 rfl rfl)
theorem dX13_read_218 : decode cX13_read 218 = .ok (.aload_n 0, 1) := dk_42 (dk_at dksX13_read_9 7 rfl rfl)
theorem dX13_read_219 : decode cX13_read 219 = .ok (.getfield 228, 3) := dk_180 0 228 (dk_at dksX13_read_9 8 rfl rfl)
theorem dX13_read_222 : decode cX13_read 222 = .ok (.ifCond .le 10, 3) := dk_158 0 10 (dk_at dksX13_read_9 11 rfl rfl)
theorem dX13_read_225 : decode cX13_read 225 = .ok (.aload_n 0, 1) := dk_42 (dk_at dksX13_read_9 14 rfl rfl)
theorem dX13_read_226 : decode cX13_read 226 = .ok (.getfield 234, 3) := dk_180 0 234 (dk_at dksX13_read_9 15 rfl rfl)
theorem dX13_read_229 : decode cX13_read 229 = .ok (.goto 18, 3) := dk_167 0 18 (dk_at dksX13_read_9 18 rfl rfl)
theorem dX13_read_232 : decode cX13_read 232 = .ok (.aload_n 0, 1) := dk_42 (dk_at dksX13_read_9 21 rfl rfl)
theorem dX13_read_233 : decode cX13_read 233 = .ok (.getfield 237, 3) := dk_180 0 237 (dk_at dksX13_read_10 0 rfl rfl)
theorem dX13_read_236 : decode cX13_read 236 = .ok (.ifCond .le 10, 3) := dk_158 0 10 (dk_at dksX13_read_10 3 rfl rfl)
theorem dX13_read_239 : decode cX13_read 239 = .ok (.aload_n 0, 1) := dk_42 (dk_at dksX13_read_10 6 rfl rfl)
theorem dX13_read_240 : decode cX13_read 240 = .ok (.getfield 240, 3) := dk_180 0 240 (dk_at dksX13_read_10 7 rfl rfl)
theorem dX13_read_243 : decode cX13_read 243 = .ok (.goto 4, 3) := dk_167 0 4 (dk_at dksX13_read_10 10 rfl rfl)
theorem dX13_read_246 : decode cX13_read 246 = .ok (.iconst (-1), 1) := dk_2 (dk_at dksX13_read_10 13 rfl rfl)
theorem dX13_read_247 : decode cX13_read 247 = .ok (.putfield 37, 3) := dk_181 0 37 (dk_at dksX13_read_10 14 rfl rfl)
theorem dX13_read_250 : decode cX13_read 250 = .ok (.aload_n 0, 1) := dk_42 (dk_at dksX13_read_10 17 rfl rfl)
theorem dX13_read_251 : decode cX13_read 251 = .ok (.getfield 228, 3) := dk_180 0 228 (dk_at dksX13_read_10 18 rfl rfl)
theorem dX13_read_254 : decode cX13_read 254 = .ok (.ifCond .le 8, 3) := dk_158 0 8 (dk_at dksX13_read_10 21 rfl rfl)
theorem dX13_read_257 : decode cX13_read 257 = .ok (.aload_n 0, 1) := dk_42 (dk_at dksX13_read_11 0 rfl rfl)
theorem dX13_read_258 : decode cX13_read 258 = .ok (.getfield 228, 3) := dk_180 0 228 (dk_at dksX13_read_11 1 rfl rfl)
theorem dX13_read_261 : decode cX13_read 261 = .ok (.ireturn, 1) := dk_172 (dk_at dksX13_read_11 4 rfl rfl)
theorem dX13_read_262 : decode cX13_read 262 = .ok (.aload_n 0, 1) := dk_42 (dk_at dksX13_read_11 5 rfl rfl)
theorem dX13_read_263 : decode cX13_read 263 = .ok (.getfield 237, 3) := dk_180 0 237 (dk_at dksX13_read_11 6 rfl rfl)
theorem dX13_read_266 : decode cX13_read 266 = .ok (.ifCond .le 8, 3) := dk_158 0 8 (dk_at dksX13_read_11 9 rfl rfl)
theorem dX13_read_269 : decode cX13_read 269 = .ok (.aload_n 0, 1) := dk_42 (dk_at dksX13_read_11 12 rfl rfl)
theorem dX13_read_270 : decode cX13_read 270 = .ok (.getfield 237, 3) := dk_180 0 237 (dk_at dksX13_read_11 13 rfl rfl)
theorem dX13_read_273 : decode cX13_read 273 = .ok (.ireturn, 1) := dk_172 (dk_at dksX13_read_11 16 rfl rfl)
theorem dX13_read_274 : decode cX13_read 274 = .ok (.aload_n 0, 1) := dk_42 (dk_at dksX13_read_11 17 rfl rfl)
theorem dX13_read_275 : decode cX13_read 275 = .ok (.aload_n 0, 1) := dk_42 (dk_at dksX13_read_11 18 rfl rfl)
theorem dX13_read_276 : decode cX13_read 276 = .ok (.getfield 261, 3) := dk_180 1 5 (dk_at dksX13_read_11 19 rfl rfl)
theorem dX13_read_279 : decode cX13_read 279 = .ok (.putfield 258, 3) := dk_181 1 2 (dk_at dksX13_read_12 0 rfl rfl)
theorem dX13_read_282 : decode cX13_read 282 = .ok (.aload_n 0, 1) := dk_42 (dk_at dksX13_read_12 3 rfl rfl)
theorem dX13_read_283 : decode cX13_read 283 = .ok (.invokevirtual 185, 3) := dk_182 0 185 (dk_at dksX13_read_12 4 rfl rfl)
theorem dX13_read_286 : decode cX13_read 286 = .ok (.aload_n 0, 1) := dk_42 (dk_at dksX13_read_12 7 rfl rfl)
theorem dX13_read_287 : decode cX13_read 287 = .ok (.invokevirtual 188, 3) := dk_182 0 188 (dk_at dksX13_read_12 8 rfl rfl)
theorem dX13_read_290 : decode cX13_read 290 = .ok (.aload_n 0, 1) := dk_42 (dk_at dksX13_read_12 11 rfl rfl)
theorem dX13_read_291 : decode cX13_read 291 = .ok (.iconst 0, 1) := dk_3 (dk_at dksX13_read_12 12 rfl rfl)
theorem dX13_read_292 : decode cX13_read 292 = .ok (.putfield 283, 3) := dk_181 1 27 (dk_at dksX13_read_12 13 rfl rfl)
theorem dX13_read_295 : decode cX13_read 295 = .ok (.aload_n 0, 1) := dk_42 (dk_at dksX13_read_12 16 rfl rfl)
theorem dX13_read_296 : decode cX13_read 296 = .ok (.iconst 0, 1) := dk_3 (dk_at dksX13_read_12 17 rfl rfl)
theorem dX13_read_297 : decode cX13_read 297 = .ok (.putfield 286, 3) := dk_181 1 30 (dk_at dksX13_read_12 18 rfl rfl)
theorem dX13_read_300 : decode cX13_read 300 = .ok (.iconst 0, 1) := dk_3 (dk_at dksX13_read_12 21 rfl rfl)
theorem dX13_read_301 : decode cX13_read 301 = .ok (.istore_n 1, 1) := dk_60 (dk_at dksX13_read_12 22 rfl rfl)
theorem dX13_read_302 : decode cX13_read 302 = .ok (.iload_n 1, 1) := dk_27 (dk_at dksX13_read_12 23 rfl rfl)
theorem dX13_read_303 : decode cX13_read 303 = .ok (.iconst 3, 1) := dk_6 (dk_at dksX13_read_13 0 rfl rfl)
theorem dX13_read_304 : decode cX13_read 304 = .ok (.if_icmp .ge 16, 3) := dk_162 0 16 (dk_at dksX13_read_13 1 rfl rfl)
theorem dX13_read_307 : decode cX13_read 307 = .ok (.aload_n 0, 1) := dk_42 (dk_at dksX13_read_13 4 rfl rfl)
theorem dX13_read_308 : decode cX13_read 308 = .ok (.getfield 171, 3) := dk_180 0 171 (dk_at dksX13_read_13 5 rfl rfl)
theorem dX13_read_311 : decode cX13_read 311 = .ok (.iload_n 1, 1) := dk_27 (dk_at dksX13_read_13 8 rfl rfl)
theorem dX13_read_312 : decode cX13_read 312 = .ok (.iconst 0, 1) := dk_3 (dk_at dksX13_read_13 9 rfl rfl)
theorem dX13_read_313 : decode cX13_read 313 = .ok (.bastore, 1) := dk_84 (dk_at dksX13_read_13 10 rfl rfl)
theorem dX13_read_314 : decode cX13_read 314 = .ok (.iinc 1 1, 3) := dk_132 1 1 (dk_at dksX13_read_13 11 rfl rfl)
theorem dX13_read_317 : decode cX13_read 317 = .ok (.goto (-15), 3) := dk_167 255 241 (dk_at dksX13_read_13 14 rfl rfl)
theorem dX13_read_320 : decode cX13_read 320 = .ok (.iconst 0, 1) := dk_3 (dk_at dksX13_read_13 17 rfl rfl)
theorem dX13_read_321 : decode cX13_read 321 = .ok (.ireturn, 1) := dk_172 (dk_at dksX13_read_13 18 rfl rfl)
abbrev cX13_cut0 : ByteArray := prog_21_method_12_code
def yX13_cut0 : MethodName := ⟨RX13, "cut0", "()V"⟩
def dkwX13_cut0_12 : List UInt8 := [4, 96, 182, 0, 209, 182, 0, 224, 96, 60, 167, 254, 228, 177]
abbrev dktX13_cut0_12 : List UInt8 := dkwX13_cut0_12 ++ []
def dkwX13_cut0_11 : List UInt8 := [167, 0, 4, 5, 27, 21, 4, 9, 182, 0, 213, 27, 29, 96, 60, 167, 0, 19, 27, 42, 27, 28, 42, 27]
abbrev dktX13_cut0_11 : List UInt8 := dkwX13_cut0_11 ++ dktX13_cut0_12
def dkwX13_cut0_10 : List UInt8 := [96, 182, 0, 209, 96, 16, 48, 100, 54, 4, 132, 3, 1, 167, 255, 217, 42, 29, 7, 164, 0, 7, 6]
abbrev dktX13_cut0_10 : List UInt8 := dkwX13_cut0_10 ++ dktX13_cut0_11
def dkwX13_cut0_9 : List UInt8 := [29, 96, 182, 0, 209, 184, 0, 221, 153, 0, 32, 29, 7, 162, 0, 21, 16, 10, 21, 4, 104, 42, 27, 29]
abbrev dktX13_cut0_9 : List UInt8 := dkwX13_cut0_9 ++ dktX13_cut0_10
def dkwX13_cut0_8 : List UInt8 := [182, 0, 213, 27, 29, 96, 60, 167, 0, 98, 28, 184, 0, 221, 153, 0, 75, 3, 62, 3, 54, 4, 42, 27]
abbrev dktX13_cut0_8 : List UInt8 := dkwX13_cut0_8 ++ dktX13_cut0_9
def dkwX13_cut0_7 : List UInt8 := [154, 0, 10, 16, 20, 21, 7, 96, 54, 6, 132, 7, 1, 167, 255, 226, 42, 21, 6, 27, 3, 22, 4]
abbrev dktX13_cut0_7 : List UInt8 := dkwX13_cut0_7 ++ dktX13_cut0_8
def dkwX13_cut0_6 : List UInt8 := [163, 0, 39, 3, 54, 7, 21, 7, 16, 17, 162, 0, 29, 42, 180, 0, 34, 21, 7, 47, 22, 4, 148]
abbrev dktX13_cut0_6 : List UInt8 := dkwX13_cut0_6 ++ dktX13_cut0_7
def dkwX13_cut0_5 : List UInt8 := [55, 4, 132, 3, 1, 167, 255, 220, 29, 16, 8, 164, 0, 7, 6, 167, 0, 4, 4, 54, 6, 29, 16, 7]
abbrev dktX13_cut0_5 : List UInt8 := dkwX13_cut0_5 ++ dktX13_cut0_6
def dkwX13_cut0_4 : List UInt8 := [184, 0, 217, 153, 0, 29, 29, 16, 8, 162, 0, 17, 22, 4, 42, 27, 29, 96, 182, 0, 209, 184, 0, 202]
abbrev dktX13_cut0_4 : List UInt8 := dkwX13_cut0_4 ++ dktX13_cut0_5
def dkwX13_cut0_3 : List UInt8 := [167, 0, 221, 28, 184, 0, 217, 153, 0, 119, 3, 62, 9, 55, 4, 42, 27, 29, 96, 182, 0, 209]
abbrev dktX13_cut0_3 : List UInt8 := dkwX13_cut0_3 ++ dktX13_cut0_4
def dkwX13_cut0_2 : List UInt8 := [159, 0, 21, 28, 16, 10, 159, 0, 15, 28, 16, 13, 159, 0, 9, 28, 16, 32, 160, 0, 9, 132, 1, 1]
abbrev dktX13_cut0_2 : List UInt8 := dkwX13_cut0_2 ++ dktX13_cut0_3
def dkwX13_cut0_1 : List UInt8 := [42, 180, 0, 197, 161, 0, 15, 42, 3, 42, 180, 0, 197, 3, 9, 182, 0, 213, 177, 28, 16, 9]
abbrev dktX13_cut0_1 : List UInt8 := dkwX13_cut0_1 ++ dktX13_cut0_2
def dkwX13_cut0_0 : List UInt8 := [42, 3, 181, 0, 206, 3, 60, 42, 180, 0, 206, 17, 1, 144, 163, 1, 24, 42, 27, 182, 0, 209, 61, 27]
abbrev dktX13_cut0_0 : List UInt8 := dkwX13_cut0_0 ++ dktX13_cut0_1
theorem dksX13_cut0_0 : cX13_cut0.data.toList.drop 0 = dktX13_cut0_0 := by decide +kernel
theorem dksX13_cut0_1 : cX13_cut0.data.toList.drop 24 = dktX13_cut0_1 := dk_seg dksX13_cut0_0 24 rfl rfl
theorem dksX13_cut0_2 : cX13_cut0.data.toList.drop 46 = dktX13_cut0_2 := dk_seg dksX13_cut0_1 22 rfl rfl
theorem dksX13_cut0_3 : cX13_cut0.data.toList.drop 70 = dktX13_cut0_3 := dk_seg dksX13_cut0_2 24 rfl rfl
theorem dksX13_cut0_4 : cX13_cut0.data.toList.drop 92 = dktX13_cut0_4 := dk_seg dksX13_cut0_3 22 rfl rfl
theorem dksX13_cut0_5 : cX13_cut0.data.toList.drop 116 = dktX13_cut0_5 := dk_seg dksX13_cut0_4 24 rfl rfl
theorem dksX13_cut0_6 : cX13_cut0.data.toList.drop 140 = dktX13_cut0_6 := dk_seg dksX13_cut0_5 24 rfl rfl
theorem dksX13_cut0_7 : cX13_cut0.data.toList.drop 163 = dktX13_cut0_7 := dk_seg dksX13_cut0_6 23 rfl rfl
theorem dksX13_cut0_8 : cX13_cut0.data.toList.drop 186 = dktX13_cut0_8 := dk_seg dksX13_cut0_7 23 rfl rfl
theorem dksX13_cut0_9 : cX13_cut0.data.toList.drop 210 = dktX13_cut0_9 := dk_seg dksX13_cut0_8 24 rfl rfl
theorem dksX13_cut0_10 : cX13_cut0.data.toList.drop 234 = dktX13_cut0_10 := dk_seg dksX13_cut0_9 24 rfl rfl
theorem dksX13_cut0_11 : cX13_cut0.data.toList.drop 257 = dktX13_cut0_11 := dk_seg dksX13_cut0_10 23 rfl rfl
theorem dksX13_cut0_12 : cX13_cut0.data.toList.drop 281 = dktX13_cut0_12 := dk_seg dksX13_cut0_11 24 rfl rfl
theorem dX13_cut0_0 : decode cX13_cut0 0 = .ok (.aload_n 0, 1) := dk_42 (dk_at dksX13_cut0_0 0 rfl rfl)
theorem dX13_cut0_1 : decode cX13_cut0 1 = .ok (.iconst 0, 1) := dk_3 (dk_at dksX13_cut0_0 1 rfl rfl)
theorem dX13_cut0_2 : decode cX13_cut0 2 = .ok (.putfield 206, 3) := dk_181 0 206 (dk_at dksX13_cut0_0 2 rfl rfl)
theorem dX13_cut0_5 : decode cX13_cut0 5 = .ok (.iconst 0, 1) := dk_3 (dk_at dksX13_cut0_0 5 rfl rfl)
theorem dX13_cut0_6 : decode cX13_cut0 6 = .ok (.istore_n 1, 1) := dk_60 (dk_at dksX13_cut0_0 6 rfl rfl)
theorem dX13_cut0_7 : decode cX13_cut0 7 = .ok (.aload_n 0, 1) := dk_42 (dk_at dksX13_cut0_0 7 rfl rfl)
theorem dX13_cut0_8 : decode cX13_cut0 8 = .ok (.getfield 206, 3) := dk_180 0 206 (dk_at dksX13_cut0_0 8 rfl rfl)
theorem dX13_cut0_11 : decode cX13_cut0 11 = .ok (.sipush 400, 3) := dk_17 1 144 (dk_at dksX13_cut0_0 11 rfl rfl)
theorem dX13_cut0_14 : decode cX13_cut0 14 = .ok (.if_icmp .gt 280, 3) := dk_163 1 24 (dk_at dksX13_cut0_0 14 rfl rfl)
theorem dX13_cut0_17 : decode cX13_cut0 17 = .ok (.aload_n 0, 1) := dk_42 (dk_at dksX13_cut0_0 17 rfl rfl)
theorem dX13_cut0_18 : decode cX13_cut0 18 = .ok (.iload_n 1, 1) := dk_27 (dk_at dksX13_cut0_0 18 rfl rfl)
theorem dX13_cut0_19 : decode cX13_cut0 19 = .ok (.invokevirtual 209, 3) := dk_182 0 209 (dk_at dksX13_cut0_0 19 rfl rfl)
theorem dX13_cut0_22 : decode cX13_cut0 22 = .ok (.istore_n 2, 1) := dk_61 (dk_at dksX13_cut0_0 22 rfl rfl)
theorem dX13_cut0_23 : decode cX13_cut0 23 = .ok (.iload_n 1, 1) := dk_27 (dk_at dksX13_cut0_0 23 rfl rfl)
theorem dX13_cut0_24 : decode cX13_cut0 24 = .ok (.aload_n 0, 1) := dk_42 (dk_at dksX13_cut0_1 0 rfl rfl)
theorem dX13_cut0_25 : decode cX13_cut0 25 = .ok (.getfield 197, 3) := dk_180 0 197 (dk_at dksX13_cut0_1 1 rfl rfl)
theorem dX13_cut0_28 : decode cX13_cut0 28 = .ok (.if_icmp .lt 15, 3) := dk_161 0 15 (dk_at dksX13_cut0_1 4 rfl rfl)
theorem dX13_cut0_31 : decode cX13_cut0 31 = .ok (.aload_n 0, 1) := dk_42 (dk_at dksX13_cut0_1 7 rfl rfl)
theorem dX13_cut0_32 : decode cX13_cut0 32 = .ok (.iconst 0, 1) := dk_3 (dk_at dksX13_cut0_1 8 rfl rfl)
theorem dX13_cut0_33 : decode cX13_cut0 33 = .ok (.aload_n 0, 1) := dk_42 (dk_at dksX13_cut0_1 9 rfl rfl)
theorem dX13_cut0_34 : decode cX13_cut0 34 = .ok (.getfield 197, 3) := dk_180 0 197 (dk_at dksX13_cut0_1 10 rfl rfl)
theorem dX13_cut0_37 : decode cX13_cut0 37 = .ok (.iconst 0, 1) := dk_3 (dk_at dksX13_cut0_1 13 rfl rfl)
theorem dX13_cut0_38 : decode cX13_cut0 38 = .ok (.lconst 0, 1) := dk_9 (dk_at dksX13_cut0_1 14 rfl rfl)
theorem dX13_cut0_39 : decode cX13_cut0 39 = .ok (.invokevirtual 213, 3) := dk_182 0 213 (dk_at dksX13_cut0_1 15 rfl rfl)
theorem dX13_cut0_42 : decode cX13_cut0 42 = .ok (.return_, 1) := dk_177 (dk_at dksX13_cut0_1 18 rfl rfl)
theorem dX13_cut0_43 : decode cX13_cut0 43 = .ok (.iload_n 2, 1) := dk_28 (dk_at dksX13_cut0_1 19 rfl rfl)
theorem dX13_cut0_44 : decode cX13_cut0 44 = .ok (.bipush 9, 2) := dk_16 9 (dk_at dksX13_cut0_1 20 rfl rfl)
theorem dX13_cut0_46 : decode cX13_cut0 46 = .ok (.if_icmp .eq 21, 3) := dk_159 0 21 (dk_at dksX13_cut0_2 0 rfl rfl)
theorem dX13_cut0_49 : decode cX13_cut0 49 = .ok (.iload_n 2, 1) := dk_28 (dk_at dksX13_cut0_2 3 rfl rfl)
theorem dX13_cut0_50 : decode cX13_cut0 50 = .ok (.bipush 10, 2) := dk_16 10 (dk_at dksX13_cut0_2 4 rfl rfl)
theorem dX13_cut0_52 : decode cX13_cut0 52 = .ok (.if_icmp .eq 15, 3) := dk_159 0 15 (dk_at dksX13_cut0_2 6 rfl rfl)
theorem dX13_cut0_55 : decode cX13_cut0 55 = .ok (.iload_n 2, 1) := dk_28 (dk_at dksX13_cut0_2 9 rfl rfl)
theorem dX13_cut0_56 : decode cX13_cut0 56 = .ok (.bipush 13, 2) := dk_16 13 (dk_at dksX13_cut0_2 10 rfl rfl)
theorem dX13_cut0_58 : decode cX13_cut0 58 = .ok (.if_icmp .eq 9, 3) := dk_159 0 9 (dk_at dksX13_cut0_2 12 rfl rfl)
theorem dX13_cut0_61 : decode cX13_cut0 61 = .ok (.iload_n 2, 1) := dk_28 (dk_at dksX13_cut0_2 15 rfl rfl)
theorem dX13_cut0_62 : decode cX13_cut0 62 = .ok (.bipush 32, 2) := dk_16 32 (dk_at dksX13_cut0_2 16 rfl rfl)
theorem dX13_cut0_64 : decode cX13_cut0 64 = .ok (.if_icmp .ne 9, 3) := dk_160 0 9 (dk_at dksX13_cut0_2 18 rfl rfl)
theorem dX13_cut0_67 : decode cX13_cut0 67 = .ok (.iinc 1 1, 3) := dk_132 1 1 (dk_at dksX13_cut0_2 21 rfl rfl)
theorem dX13_cut0_70 : decode cX13_cut0 70 = .ok (.goto 221, 3) := dk_167 0 221 (dk_at dksX13_cut0_3 0 rfl rfl)
theorem dX13_cut0_73 : decode cX13_cut0 73 = .ok (.iload_n 2, 1) := dk_28 (dk_at dksX13_cut0_3 3 rfl rfl)
theorem dX13_cut0_74 : decode cX13_cut0 74 = .ok (.invokestatic 217, 3) := dk_184 0 217 (dk_at dksX13_cut0_3 4 rfl rfl)
theorem dX13_cut0_77 : decode cX13_cut0 77 = .ok (.ifCond .eq 119, 3) := dk_153 0 119 (dk_at dksX13_cut0_3 7 rfl rfl)
theorem dX13_cut0_80 : decode cX13_cut0 80 = .ok (.iconst 0, 1) := dk_3 (dk_at dksX13_cut0_3 10 rfl rfl)
theorem dX13_cut0_81 : decode cX13_cut0 81 = .ok (.istore_n 3, 1) := dk_62 (dk_at dksX13_cut0_3 11 rfl rfl)
theorem dX13_cut0_82 : decode cX13_cut0 82 = .ok (.lconst 0, 1) := dk_9 (dk_at dksX13_cut0_3 12 rfl rfl)
theorem dX13_cut0_83 : decode cX13_cut0 83 = .ok (.lstore 4, 2) := dk_55 4 (dk_at dksX13_cut0_3 13 rfl rfl)
theorem dX13_cut0_85 : decode cX13_cut0 85 = .ok (.aload_n 0, 1) := dk_42 (dk_at dksX13_cut0_3 15 rfl rfl)
theorem dX13_cut0_86 : decode cX13_cut0 86 = .ok (.iload_n 1, 1) := dk_27 (dk_at dksX13_cut0_3 16 rfl rfl)
theorem dX13_cut0_87 : decode cX13_cut0 87 = .ok (.iload_n 3, 1) := dk_29 (dk_at dksX13_cut0_3 17 rfl rfl)
theorem dX13_cut0_88 : decode cX13_cut0 88 = .ok (.iadd, 1) := dk_96 (dk_at dksX13_cut0_3 18 rfl rfl)
theorem dX13_cut0_89 : decode cX13_cut0 89 = .ok (.invokevirtual 209, 3) := dk_182 0 209 (dk_at dksX13_cut0_3 19 rfl rfl)
theorem dX13_cut0_92 : decode cX13_cut0 92 = .ok (.invokestatic 217, 3) := dk_184 0 217 (dk_at dksX13_cut0_4 0 rfl rfl)
theorem dX13_cut0_95 : decode cX13_cut0 95 = .ok (.ifCond .eq 29, 3) := dk_153 0 29 (dk_at dksX13_cut0_4 3 rfl rfl)
theorem dX13_cut0_98 : decode cX13_cut0 98 = .ok (.iload_n 3, 1) := dk_29 (dk_at dksX13_cut0_4 6 rfl rfl)
theorem dX13_cut0_99 : decode cX13_cut0 99 = .ok (.bipush 8, 2) := dk_16 8 (dk_at dksX13_cut0_4 7 rfl rfl)
theorem dX13_cut0_101 : decode cX13_cut0 101 = .ok (.if_icmp .ge 17, 3) := dk_162 0 17 (dk_at dksX13_cut0_4 9 rfl rfl)
theorem dX13_cut0_104 : decode cX13_cut0 104 = .ok (.lload 4, 2) := dk_22 4 (dk_at dksX13_cut0_4 12 rfl rfl)
theorem dX13_cut0_106 : decode cX13_cut0 106 = .ok (.aload_n 0, 1) := dk_42 (dk_at dksX13_cut0_4 14 rfl rfl)
theorem dX13_cut0_107 : decode cX13_cut0 107 = .ok (.iload_n 1, 1) := dk_27 (dk_at dksX13_cut0_4 15 rfl rfl)
theorem dX13_cut0_108 : decode cX13_cut0 108 = .ok (.iload_n 3, 1) := dk_29 (dk_at dksX13_cut0_4 16 rfl rfl)
theorem dX13_cut0_109 : decode cX13_cut0 109 = .ok (.iadd, 1) := dk_96 (dk_at dksX13_cut0_4 17 rfl rfl)
theorem dX13_cut0_110 : decode cX13_cut0 110 = .ok (.invokevirtual 209, 3) := dk_182 0 209 (dk_at dksX13_cut0_4 18 rfl rfl)
theorem dX13_cut0_113 : decode cX13_cut0 113 = .ok (.invokestatic 202, 3) := dk_184 0 202 (dk_at dksX13_cut0_4 21 rfl rfl)
theorem dX13_cut0_116 : decode cX13_cut0 116 = .ok (.lstore 4, 2) := dk_55 4 (dk_at dksX13_cut0_5 0 rfl rfl)
theorem dX13_cut0_118 : decode cX13_cut0 118 = .ok (.iinc 3 1, 3) := dk_132 3 1 (dk_at dksX13_cut0_5 2 rfl rfl)
theorem dX13_cut0_121 : decode cX13_cut0 121 = .ok (.goto (-36), 3) := dk_167 255 220 (dk_at dksX13_cut0_5 5 rfl rfl)
theorem dX13_cut0_124 : decode cX13_cut0 124 = .ok (.iload_n 3, 1) := dk_29 (dk_at dksX13_cut0_5 8 rfl rfl)
theorem dX13_cut0_125 : decode cX13_cut0 125 = .ok (.bipush 8, 2) := dk_16 8 (dk_at dksX13_cut0_5 9 rfl rfl)
theorem dX13_cut0_127 : decode cX13_cut0 127 = .ok (.if_icmp .le 7, 3) := dk_164 0 7 (dk_at dksX13_cut0_5 11 rfl rfl)
theorem dX13_cut0_130 : decode cX13_cut0 130 = .ok (.iconst 3, 1) := dk_6 (dk_at dksX13_cut0_5 14 rfl rfl)
theorem dX13_cut0_131 : decode cX13_cut0 131 = .ok (.goto 4, 3) := dk_167 0 4 (dk_at dksX13_cut0_5 15 rfl rfl)
theorem dX13_cut0_134 : decode cX13_cut0 134 = .ok (.iconst 1, 1) := dk_4 (dk_at dksX13_cut0_5 18 rfl rfl)
theorem dX13_cut0_135 : decode cX13_cut0 135 = .ok (.istore 6, 2) := dk_54 6 (dk_at dksX13_cut0_5 19 rfl rfl)
theorem dX13_cut0_137 : decode cX13_cut0 137 = .ok (.iload_n 3, 1) := dk_29 (dk_at dksX13_cut0_5 21 rfl rfl)
theorem dX13_cut0_138 : decode cX13_cut0 138 = .ok (.bipush 7, 2) := dk_16 7 (dk_at dksX13_cut0_5 22 rfl rfl)
theorem dX13_cut0_140 : decode cX13_cut0 140 = .ok (.if_icmp .gt 39, 3) := dk_163 0 39 (dk_at dksX13_cut0_6 0 rfl rfl)
theorem dX13_cut0_143 : decode cX13_cut0 143 = .ok (.iconst 0, 1) := dk_3 (dk_at dksX13_cut0_6 3 rfl rfl)
theorem dX13_cut0_144 : decode cX13_cut0 144 = .ok (.istore 7, 2) := dk_54 7 (dk_at dksX13_cut0_6 4 rfl rfl)
theorem dX13_cut0_146 : decode cX13_cut0 146 = .ok (.iload 7, 2) := dk_21 7 (dk_at dksX13_cut0_6 6 rfl rfl)
theorem dX13_cut0_148 : decode cX13_cut0 148 = .ok (.bipush 17, 2) := dk_16 17 (dk_at dksX13_cut0_6 8 rfl rfl)
theorem dX13_cut0_150 : decode cX13_cut0 150 = .ok (.if_icmp .ge 29, 3) := dk_162 0 29 (dk_at dksX13_cut0_6 10 rfl rfl)
theorem dX13_cut0_153 : decode cX13_cut0 153 = .ok (.aload_n 0, 1) := dk_42 (dk_at dksX13_cut0_6 13 rfl rfl)
theorem dX13_cut0_154 : decode cX13_cut0 154 = .ok (.getfield 34, 3) := dk_180 0 34 (dk_at dksX13_cut0_6 14 rfl rfl)
theorem dX13_cut0_157 : decode cX13_cut0 157 = .ok (.iload 7, 2) := dk_21 7 (dk_at dksX13_cut0_6 17 rfl rfl)
theorem dX13_cut0_159 : decode cX13_cut0 159 = .ok (.laload, 1) := dk_47 (dk_at dksX13_cut0_6 19 rfl rfl)
theorem dX13_cut0_160 : decode cX13_cut0 160 = .ok (.lload 4, 2) := dk_22 4 (dk_at dksX13_cut0_6 20 rfl rfl)
theorem dX13_cut0_162 : decode cX13_cut0 162 = .ok (.lcmp, 1) := dk_148 (dk_at dksX13_cut0_6 22 rfl rfl)
theorem dX13_cut0_163 : decode cX13_cut0 163 = .ok (.ifCond .ne 10, 3) := dk_154 0 10 (dk_at dksX13_cut0_7 0 rfl rfl)
theorem dX13_cut0_166 : decode cX13_cut0 166 = .ok (.bipush 20, 2) := dk_16 20 (dk_at dksX13_cut0_7 3 rfl rfl)
theorem dX13_cut0_168 : decode cX13_cut0 168 = .ok (.iload 7, 2) := dk_21 7 (dk_at dksX13_cut0_7 5 rfl rfl)
theorem dX13_cut0_170 : decode cX13_cut0 170 = .ok (.iadd, 1) := dk_96 (dk_at dksX13_cut0_7 7 rfl rfl)
theorem dX13_cut0_171 : decode cX13_cut0 171 = .ok (.istore 6, 2) := dk_54 6 (dk_at dksX13_cut0_7 8 rfl rfl)
theorem dX13_cut0_173 : decode cX13_cut0 173 = .ok (.iinc 7 1, 3) := dk_132 7 1 (dk_at dksX13_cut0_7 10 rfl rfl)
theorem dX13_cut0_176 : decode cX13_cut0 176 = .ok (.goto (-30), 3) := dk_167 255 226 (dk_at dksX13_cut0_7 13 rfl rfl)
theorem dX13_cut0_179 : decode cX13_cut0 179 = .ok (.aload_n 0, 1) := dk_42 (dk_at dksX13_cut0_7 16 rfl rfl)
theorem dX13_cut0_180 : decode cX13_cut0 180 = .ok (.iload 6, 2) := dk_21 6 (dk_at dksX13_cut0_7 17 rfl rfl)
theorem dX13_cut0_182 : decode cX13_cut0 182 = .ok (.iload_n 1, 1) := dk_27 (dk_at dksX13_cut0_7 19 rfl rfl)
theorem dX13_cut0_183 : decode cX13_cut0 183 = .ok (.iconst 0, 1) := dk_3 (dk_at dksX13_cut0_7 20 rfl rfl)
theorem dX13_cut0_184 : decode cX13_cut0 184 = .ok (.lload 4, 2) := dk_22 4 (dk_at dksX13_cut0_7 21 rfl rfl)
theorem dX13_cut0_186 : decode cX13_cut0 186 = .ok (.invokevirtual 213, 3) := dk_182 0 213 (dk_at dksX13_cut0_8 0 rfl rfl)
theorem dX13_cut0_189 : decode cX13_cut0 189 = .ok (.iload_n 1, 1) := dk_27 (dk_at dksX13_cut0_8 3 rfl rfl)
theorem dX13_cut0_190 : decode cX13_cut0 190 = .ok (.iload_n 3, 1) := dk_29 (dk_at dksX13_cut0_8 4 rfl rfl)
theorem dX13_cut0_191 : decode cX13_cut0 191 = .ok (.iadd, 1) := dk_96 (dk_at dksX13_cut0_8 5 rfl rfl)
theorem dX13_cut0_192 : decode cX13_cut0 192 = .ok (.istore_n 1, 1) := dk_60 (dk_at dksX13_cut0_8 6 rfl rfl)
theorem dX13_cut0_193 : decode cX13_cut0 193 = .ok (.goto 98, 3) := dk_167 0 98 (dk_at dksX13_cut0_8 7 rfl rfl)
theorem dX13_cut0_196 : decode cX13_cut0 196 = .ok (.iload_n 2, 1) := dk_28 (dk_at dksX13_cut0_8 10 rfl rfl)
theorem dX13_cut0_197 : decode cX13_cut0 197 = .ok (.invokestatic 221, 3) := dk_184 0 221 (dk_at dksX13_cut0_8 11 rfl rfl)
theorem dX13_cut0_200 : decode cX13_cut0 200 = .ok (.ifCond .eq 75, 3) := dk_153 0 75 (dk_at dksX13_cut0_8 14 rfl rfl)
theorem dX13_cut0_203 : decode cX13_cut0 203 = .ok (.iconst 0, 1) := dk_3 (dk_at dksX13_cut0_8 17 rfl rfl)
theorem dX13_cut0_204 : decode cX13_cut0 204 = .ok (.istore_n 3, 1) := dk_62 (dk_at dksX13_cut0_8 18 rfl rfl)
theorem dX13_cut0_205 : decode cX13_cut0 205 = .ok (.iconst 0, 1) := dk_3 (dk_at dksX13_cut0_8 19 rfl rfl)
theorem dX13_cut0_206 : decode cX13_cut0 206 = .ok (.istore 4, 2) := dk_54 4 (dk_at dksX13_cut0_8 20 rfl rfl)
theorem dX13_cut0_208 : decode cX13_cut0 208 = .ok (.aload_n 0, 1) := dk_42 (dk_at dksX13_cut0_8 22 rfl rfl)
theorem dX13_cut0_209 : decode cX13_cut0 209 = .ok (.iload_n 1, 1) := dk_27 (dk_at dksX13_cut0_8 23 rfl rfl)
theorem dX13_cut0_210 : decode cX13_cut0 210 = .ok (.iload_n 3, 1) := dk_29 (dk_at dksX13_cut0_9 0 rfl rfl)
theorem dX13_cut0_211 : decode cX13_cut0 211 = .ok (.iadd, 1) := dk_96 (dk_at dksX13_cut0_9 1 rfl rfl)
theorem dX13_cut0_212 : decode cX13_cut0 212 = .ok (.invokevirtual 209, 3) := dk_182 0 209 (dk_at dksX13_cut0_9 2 rfl rfl)
theorem dX13_cut0_215 : decode cX13_cut0 215 = .ok (.invokestatic 221, 3) := dk_184 0 221 (dk_at dksX13_cut0_9 5 rfl rfl)
theorem dX13_cut0_218 : decode cX13_cut0 218 = .ok (.ifCond .eq 32, 3) := dk_153 0 32 (dk_at dksX13_cut0_9 8 rfl rfl)
theorem dX13_cut0_221 : decode cX13_cut0 221 = .ok (.iload_n 3, 1) := dk_29 (dk_at dksX13_cut0_9 11 rfl rfl)
theorem dX13_cut0_222 : decode cX13_cut0 222 = .ok (.iconst 4, 1) := dk_7 (dk_at dksX13_cut0_9 12 rfl rfl)
theorem dX13_cut0_223 : decode cX13_cut0 223 = .ok (.if_icmp .ge 21, 3) := dk_162 0 21 (dk_at dksX13_cut0_9 13 rfl rfl)
theorem dX13_cut0_226 : decode cX13_cut0 226 = .ok (.bipush 10, 2) := dk_16 10 (dk_at dksX13_cut0_9 16 rfl rfl)
theorem dX13_cut0_228 : decode cX13_cut0 228 = .ok (.iload 4, 2) := dk_21 4 (dk_at dksX13_cut0_9 18 rfl rfl)
theorem dX13_cut0_230 : decode cX13_cut0 230 = .ok (.imul, 1) := dk_104 (dk_at dksX13_cut0_9 20 rfl rfl)
theorem dX13_cut0_231 : decode cX13_cut0 231 = .ok (.aload_n 0, 1) := dk_42 (dk_at dksX13_cut0_9 21 rfl rfl)
theorem dX13_cut0_232 : decode cX13_cut0 232 = .ok (.iload_n 1, 1) := dk_27 (dk_at dksX13_cut0_9 22 rfl rfl)
theorem dX13_cut0_233 : decode cX13_cut0 233 = .ok (.iload_n 3, 1) := dk_29 (dk_at dksX13_cut0_9 23 rfl rfl)
theorem dX13_cut0_234 : decode cX13_cut0 234 = .ok (.iadd, 1) := dk_96 (dk_at dksX13_cut0_10 0 rfl rfl)
theorem dX13_cut0_235 : decode cX13_cut0 235 = .ok (.invokevirtual 209, 3) := dk_182 0 209 (dk_at dksX13_cut0_10 1 rfl rfl)
theorem dX13_cut0_238 : decode cX13_cut0 238 = .ok (.iadd, 1) := dk_96 (dk_at dksX13_cut0_10 4 rfl rfl)
theorem dX13_cut0_239 : decode cX13_cut0 239 = .ok (.bipush 48, 2) := dk_16 48 (dk_at dksX13_cut0_10 5 rfl rfl)
theorem dX13_cut0_241 : decode cX13_cut0 241 = .ok (.isub, 1) := dk_100 (dk_at dksX13_cut0_10 7 rfl rfl)
theorem dX13_cut0_242 : decode cX13_cut0 242 = .ok (.istore 4, 2) := dk_54 4 (dk_at dksX13_cut0_10 8 rfl rfl)
theorem dX13_cut0_244 : decode cX13_cut0 244 = .ok (.iinc 3 1, 3) := dk_132 3 1 (dk_at dksX13_cut0_10 10 rfl rfl)
theorem dX13_cut0_247 : decode cX13_cut0 247 = .ok (.goto (-39), 3) := dk_167 255 217 (dk_at dksX13_cut0_10 13 rfl rfl)
theorem dX13_cut0_250 : decode cX13_cut0 250 = .ok (.aload_n 0, 1) := dk_42 (dk_at dksX13_cut0_10 16 rfl rfl)
theorem dX13_cut0_251 : decode cX13_cut0 251 = .ok (.iload_n 3, 1) := dk_29 (dk_at dksX13_cut0_10 17 rfl rfl)
theorem dX13_cut0_252 : decode cX13_cut0 252 = .ok (.iconst 4, 1) := dk_7 (dk_at dksX13_cut0_10 18 rfl rfl)
theorem dX13_cut0_253 : decode cX13_cut0 253 = .ok (.if_icmp .le 7, 3) := dk_164 0 7 (dk_at dksX13_cut0_10 19 rfl rfl)
theorem dX13_cut0_256 : decode cX13_cut0 256 = .ok (.iconst 3, 1) := dk_6 (dk_at dksX13_cut0_10 22 rfl rfl)
theorem dX13_cut0_257 : decode cX13_cut0 257 = .ok (.goto 4, 3) := dk_167 0 4 (dk_at dksX13_cut0_11 0 rfl rfl)
theorem dX13_cut0_260 : decode cX13_cut0 260 = .ok (.iconst 2, 1) := dk_5 (dk_at dksX13_cut0_11 3 rfl rfl)
theorem dX13_cut0_261 : decode cX13_cut0 261 = .ok (.iload_n 1, 1) := dk_27 (dk_at dksX13_cut0_11 4 rfl rfl)
theorem dX13_cut0_262 : decode cX13_cut0 262 = .ok (.iload 4, 2) := dk_21 4 (dk_at dksX13_cut0_11 5 rfl rfl)
theorem dX13_cut0_264 : decode cX13_cut0 264 = .ok (.lconst 0, 1) := dk_9 (dk_at dksX13_cut0_11 7 rfl rfl)
theorem dX13_cut0_265 : decode cX13_cut0 265 = .ok (.invokevirtual 213, 3) := dk_182 0 213 (dk_at dksX13_cut0_11 8 rfl rfl)
theorem dX13_cut0_268 : decode cX13_cut0 268 = .ok (.iload_n 1, 1) := dk_27 (dk_at dksX13_cut0_11 11 rfl rfl)
theorem dX13_cut0_269 : decode cX13_cut0 269 = .ok (.iload_n 3, 1) := dk_29 (dk_at dksX13_cut0_11 12 rfl rfl)
theorem dX13_cut0_270 : decode cX13_cut0 270 = .ok (.iadd, 1) := dk_96 (dk_at dksX13_cut0_11 13 rfl rfl)
theorem dX13_cut0_271 : decode cX13_cut0 271 = .ok (.istore_n 1, 1) := dk_60 (dk_at dksX13_cut0_11 14 rfl rfl)
theorem dX13_cut0_272 : decode cX13_cut0 272 = .ok (.goto 19, 3) := dk_167 0 19 (dk_at dksX13_cut0_11 15 rfl rfl)
theorem dX13_cut0_275 : decode cX13_cut0 275 = .ok (.iload_n 1, 1) := dk_27 (dk_at dksX13_cut0_11 18 rfl rfl)
theorem dX13_cut0_276 : decode cX13_cut0 276 = .ok (.aload_n 0, 1) := dk_42 (dk_at dksX13_cut0_11 19 rfl rfl)
theorem dX13_cut0_277 : decode cX13_cut0 277 = .ok (.iload_n 1, 1) := dk_27 (dk_at dksX13_cut0_11 20 rfl rfl)
theorem dX13_cut0_278 : decode cX13_cut0 278 = .ok (.iload_n 2, 1) := dk_28 (dk_at dksX13_cut0_11 21 rfl rfl)
theorem dX13_cut0_279 : decode cX13_cut0 279 = .ok (.aload_n 0, 1) := dk_42 (dk_at dksX13_cut0_11 22 rfl rfl)
theorem dX13_cut0_280 : decode cX13_cut0 280 = .ok (.iload_n 1, 1) := dk_27 (dk_at dksX13_cut0_11 23 rfl rfl)
theorem dX13_cut0_281 : decode cX13_cut0 281 = .ok (.iconst 1, 1) := dk_4 (dk_at dksX13_cut0_12 0 rfl rfl)
theorem dX13_cut0_282 : decode cX13_cut0 282 = .ok (.iadd, 1) := dk_96 (dk_at dksX13_cut0_12 1 rfl rfl)
theorem dX13_cut0_283 : decode cX13_cut0 283 = .ok (.invokevirtual 209, 3) := dk_182 0 209 (dk_at dksX13_cut0_12 2 rfl rfl)
theorem dX13_cut0_286 : decode cX13_cut0 286 = .ok (.invokevirtual 224, 3) := dk_182 0 224 (dk_at dksX13_cut0_12 5 rfl rfl)
theorem dX13_cut0_289 : decode cX13_cut0 289 = .ok (.iadd, 1) := dk_96 (dk_at dksX13_cut0_12 8 rfl rfl)
theorem dX13_cut0_290 : decode cX13_cut0 290 = .ok (.istore_n 1, 1) := dk_60 (dk_at dksX13_cut0_12 9 rfl rfl)
theorem dX13_cut0_291 : decode cX13_cut0 291 = .ok (.goto (-284), 3) := dk_167 254 228 (dk_at dksX13_cut0_12 10 rfl rfl)
theorem dX13_cut0_294 : decode cX13_cut0 294 = .ok (.return_, 1) := dk_177 (dk_at dksX13_cut0_12 13 rfl rfl)
abbrev cX13_byteAt : ByteArray := prog_21_method_6_code
def yX13_byteAt : MethodName := ⟨RX13, "byteAt", "(I)I"⟩
def dkwX13_byteAt_0 : List UInt8 := [27, 42, 180, 0, 197, 162, 0, 16, 42, 180, 0, 17, 27, 51, 17, 0, 255, 126, 167, 0, 4, 3, 172]
abbrev dktX13_byteAt_0 : List UInt8 := dkwX13_byteAt_0 ++ []
theorem dksX13_byteAt_0 : cX13_byteAt.data.toList.drop 0 = dktX13_byteAt_0 := by decide +kernel
theorem dX13_byteAt_0 : decode cX13_byteAt 0 = .ok (.iload_n 1, 1) := dk_27 (dk_at dksX13_byteAt_0 0 rfl rfl)
theorem dX13_byteAt_1 : decode cX13_byteAt 1 = .ok (.aload_n 0, 1) := dk_42 (dk_at dksX13_byteAt_0 1 rfl rfl)
theorem dX13_byteAt_2 : decode cX13_byteAt 2 = .ok (.getfield 197, 3) := dk_180 0 197 (dk_at dksX13_byteAt_0 2 rfl rfl)
theorem dX13_byteAt_5 : decode cX13_byteAt 5 = .ok (.if_icmp .ge 16, 3) := dk_162 0 16 (dk_at dksX13_byteAt_0 5 rfl rfl)
theorem dX13_byteAt_8 : decode cX13_byteAt 8 = .ok (.aload_n 0, 1) := dk_42 (dk_at dksX13_byteAt_0 8 rfl rfl)
theorem dX13_byteAt_9 : decode cX13_byteAt 9 = .ok (.getfield 17, 3) := dk_180 0 17 (dk_at dksX13_byteAt_0 9 rfl rfl)
theorem dX13_byteAt_12 : decode cX13_byteAt 12 = .ok (.iload_n 1, 1) := dk_27 (dk_at dksX13_byteAt_0 12 rfl rfl)
theorem dX13_byteAt_13 : decode cX13_byteAt 13 = .ok (.baload, 1) := dk_51 (dk_at dksX13_byteAt_0 13 rfl rfl)
theorem dX13_byteAt_14 : decode cX13_byteAt 14 = .ok (.sipush 255, 3) := dk_17 0 255 (dk_at dksX13_byteAt_0 14 rfl rfl)
theorem dX13_byteAt_17 : decode cX13_byteAt 17 = .ok (.iand, 1) := dk_126 (dk_at dksX13_byteAt_0 17 rfl rfl)
theorem dX13_byteAt_18 : decode cX13_byteAt 18 = .ok (.goto 4, 3) := dk_167 0 4 (dk_at dksX13_byteAt_0 18 rfl rfl)
theorem dX13_byteAt_21 : decode cX13_byteAt 21 = .ok (.iconst 0, 1) := dk_3 (dk_at dksX13_byteAt_0 21 rfl rfl)
theorem dX13_byteAt_22 : decode cX13_byteAt 22 = .ok (.ireturn, 1) := dk_172 (dk_at dksX13_byteAt_0 22 rfl rfl)
abbrev cX13_token : ByteArray := prog_21_method_11_code
def yX13_token : MethodName := ⟨RX13, "token", "(IIIJ)V"⟩
def dkwX13_token_2 : List UInt8 := [181, 0, 206, 177]
abbrev dktX13_token_2 : List UInt8 := dkwX13_token_2 ++ []
def dkwX13_token_1 : List UInt8 := [42, 180, 0, 206, 29, 79, 42, 180, 0, 30, 42, 180, 0, 206, 22, 4, 80, 42, 89, 180, 0, 206, 4, 96]
abbrev dktX13_token_1 : List UInt8 := dkwX13_token_1 ++ dktX13_token_2
def dkwX13_token_0 : List UInt8 := [42, 180, 0, 20, 42, 180, 0, 206, 27, 79, 42, 180, 0, 24, 42, 180, 0, 206, 28, 79, 42, 180, 0, 27]
abbrev dktX13_token_0 : List UInt8 := dkwX13_token_0 ++ dktX13_token_1
theorem dksX13_token_0 : cX13_token.data.toList.drop 0 = dktX13_token_0 := by decide +kernel
theorem dksX13_token_1 : cX13_token.data.toList.drop 24 = dktX13_token_1 := dk_seg dksX13_token_0 24 rfl rfl
theorem dksX13_token_2 : cX13_token.data.toList.drop 48 = dktX13_token_2 := dk_seg dksX13_token_1 24 rfl rfl
theorem dX13_token_0 : decode cX13_token 0 = .ok (.aload_n 0, 1) := dk_42 (dk_at dksX13_token_0 0 rfl rfl)
theorem dX13_token_1 : decode cX13_token 1 = .ok (.getfield 20, 3) := dk_180 0 20 (dk_at dksX13_token_0 1 rfl rfl)
theorem dX13_token_4 : decode cX13_token 4 = .ok (.aload_n 0, 1) := dk_42 (dk_at dksX13_token_0 4 rfl rfl)
theorem dX13_token_5 : decode cX13_token 5 = .ok (.getfield 206, 3) := dk_180 0 206 (dk_at dksX13_token_0 5 rfl rfl)
theorem dX13_token_8 : decode cX13_token 8 = .ok (.iload_n 1, 1) := dk_27 (dk_at dksX13_token_0 8 rfl rfl)
theorem dX13_token_9 : decode cX13_token 9 = .ok (.iastore, 1) := dk_79 (dk_at dksX13_token_0 9 rfl rfl)
theorem dX13_token_10 : decode cX13_token 10 = .ok (.aload_n 0, 1) := dk_42 (dk_at dksX13_token_0 10 rfl rfl)
theorem dX13_token_11 : decode cX13_token 11 = .ok (.getfield 24, 3) := dk_180 0 24 (dk_at dksX13_token_0 11 rfl rfl)
theorem dX13_token_14 : decode cX13_token 14 = .ok (.aload_n 0, 1) := dk_42 (dk_at dksX13_token_0 14 rfl rfl)
theorem dX13_token_15 : decode cX13_token 15 = .ok (.getfield 206, 3) := dk_180 0 206 (dk_at dksX13_token_0 15 rfl rfl)
theorem dX13_token_18 : decode cX13_token 18 = .ok (.iload_n 2, 1) := dk_28 (dk_at dksX13_token_0 18 rfl rfl)
theorem dX13_token_19 : decode cX13_token 19 = .ok (.iastore, 1) := dk_79 (dk_at dksX13_token_0 19 rfl rfl)
theorem dX13_token_20 : decode cX13_token 20 = .ok (.aload_n 0, 1) := dk_42 (dk_at dksX13_token_0 20 rfl rfl)
theorem dX13_token_21 : decode cX13_token 21 = .ok (.getfield 27, 3) := dk_180 0 27 (dk_at dksX13_token_0 21 rfl rfl)
theorem dX13_token_24 : decode cX13_token 24 = .ok (.aload_n 0, 1) := dk_42 (dk_at dksX13_token_1 0 rfl rfl)
theorem dX13_token_25 : decode cX13_token 25 = .ok (.getfield 206, 3) := dk_180 0 206 (dk_at dksX13_token_1 1 rfl rfl)
theorem dX13_token_28 : decode cX13_token 28 = .ok (.iload_n 3, 1) := dk_29 (dk_at dksX13_token_1 4 rfl rfl)
theorem dX13_token_29 : decode cX13_token 29 = .ok (.iastore, 1) := dk_79 (dk_at dksX13_token_1 5 rfl rfl)
theorem dX13_token_30 : decode cX13_token 30 = .ok (.aload_n 0, 1) := dk_42 (dk_at dksX13_token_1 6 rfl rfl)
theorem dX13_token_31 : decode cX13_token 31 = .ok (.getfield 30, 3) := dk_180 0 30 (dk_at dksX13_token_1 7 rfl rfl)
theorem dX13_token_34 : decode cX13_token 34 = .ok (.aload_n 0, 1) := dk_42 (dk_at dksX13_token_1 10 rfl rfl)
theorem dX13_token_35 : decode cX13_token 35 = .ok (.getfield 206, 3) := dk_180 0 206 (dk_at dksX13_token_1 11 rfl rfl)
theorem dX13_token_38 : decode cX13_token 38 = .ok (.lload 4, 2) := dk_22 4 (dk_at dksX13_token_1 14 rfl rfl)
theorem dX13_token_40 : decode cX13_token 40 = .ok (.lastore, 1) := dk_80 (dk_at dksX13_token_1 16 rfl rfl)
theorem dX13_token_41 : decode cX13_token 41 = .ok (.aload_n 0, 1) := dk_42 (dk_at dksX13_token_1 17 rfl rfl)
theorem dX13_token_42 : decode cX13_token 42 = .ok (.dup, 1) := dk_89 (dk_at dksX13_token_1 18 rfl rfl)
theorem dX13_token_43 : decode cX13_token 43 = .ok (.getfield 206, 3) := dk_180 0 206 (dk_at dksX13_token_1 19 rfl rfl)
theorem dX13_token_46 : decode cX13_token 46 = .ok (.iconst 1, 1) := dk_4 (dk_at dksX13_token_1 22 rfl rfl)
theorem dX13_token_47 : decode cX13_token 47 = .ok (.iadd, 1) := dk_96 (dk_at dksX13_token_1 23 rfl rfl)
theorem dX13_token_48 : decode cX13_token 48 = .ok (.putfield 206, 3) := dk_181 0 206 (dk_at dksX13_token_2 0 rfl rfl)
theorem dX13_token_51 : decode cX13_token 51 = .ok (.return_, 1) := dk_177 (dk_at dksX13_token_2 3 rfl rfl)
abbrev cX13_isLetter : ByteArray := prog_21_method_8_code
def yX13_isLetter : MethodName := ⟨RX13, "isLetter", "(I)Z"⟩
def dkwX13_isLetter_0 : List UInt8 := [26, 16, 97, 161, 0, 13, 26, 16, 122, 163, 0, 7, 4, 167, 0, 4, 3, 172]
abbrev dktX13_isLetter_0 : List UInt8 := dkwX13_isLetter_0 ++ []
theorem dksX13_isLetter_0 : cX13_isLetter.data.toList.drop 0 = dktX13_isLetter_0 := by decide +kernel
theorem dX13_isLetter_0 : decode cX13_isLetter 0 = .ok (.iload_n 0, 1) := dk_26 (dk_at dksX13_isLetter_0 0 rfl rfl)
theorem dX13_isLetter_1 : decode cX13_isLetter 1 = .ok (.bipush 97, 2) := dk_16 97 (dk_at dksX13_isLetter_0 1 rfl rfl)
theorem dX13_isLetter_3 : decode cX13_isLetter 3 = .ok (.if_icmp .lt 13, 3) := dk_161 0 13 (dk_at dksX13_isLetter_0 3 rfl rfl)
theorem dX13_isLetter_6 : decode cX13_isLetter 6 = .ok (.iload_n 0, 1) := dk_26 (dk_at dksX13_isLetter_0 6 rfl rfl)
theorem dX13_isLetter_7 : decode cX13_isLetter 7 = .ok (.bipush 122, 2) := dk_16 122 (dk_at dksX13_isLetter_0 7 rfl rfl)
theorem dX13_isLetter_9 : decode cX13_isLetter 9 = .ok (.if_icmp .gt 7, 3) := dk_163 0 7 (dk_at dksX13_isLetter_0 9 rfl rfl)
theorem dX13_isLetter_12 : decode cX13_isLetter 12 = .ok (.iconst 1, 1) := dk_4 (dk_at dksX13_isLetter_0 12 rfl rfl)
theorem dX13_isLetter_13 : decode cX13_isLetter 13 = .ok (.goto 4, 3) := dk_167 0 4 (dk_at dksX13_isLetter_0 13 rfl rfl)
theorem dX13_isLetter_16 : decode cX13_isLetter 16 = .ok (.iconst 0, 1) := dk_3 (dk_at dksX13_isLetter_0 16 rfl rfl)
theorem dX13_isLetter_17 : decode cX13_isLetter 17 = .ok (.ireturn, 1) := dk_172 (dk_at dksX13_isLetter_0 17 rfl rfl)
abbrev cX13_isDigit : ByteArray := prog_21_method_7_code
def yX13_isDigit : MethodName := ⟨RX13, "isDigit", "(I)Z"⟩
def dkwX13_isDigit_0 : List UInt8 := [26, 16, 48, 161, 0, 13, 26, 16, 57, 163, 0, 7, 4, 167, 0, 4, 3, 172]
abbrev dktX13_isDigit_0 : List UInt8 := dkwX13_isDigit_0 ++ []
theorem dksX13_isDigit_0 : cX13_isDigit.data.toList.drop 0 = dktX13_isDigit_0 := by decide +kernel
theorem dX13_isDigit_0 : decode cX13_isDigit 0 = .ok (.iload_n 0, 1) := dk_26 (dk_at dksX13_isDigit_0 0 rfl rfl)
theorem dX13_isDigit_1 : decode cX13_isDigit 1 = .ok (.bipush 48, 2) := dk_16 48 (dk_at dksX13_isDigit_0 1 rfl rfl)
theorem dX13_isDigit_3 : decode cX13_isDigit 3 = .ok (.if_icmp .lt 13, 3) := dk_161 0 13 (dk_at dksX13_isDigit_0 3 rfl rfl)
theorem dX13_isDigit_6 : decode cX13_isDigit 6 = .ok (.iload_n 0, 1) := dk_26 (dk_at dksX13_isDigit_0 6 rfl rfl)
theorem dX13_isDigit_7 : decode cX13_isDigit 7 = .ok (.bipush 57, 2) := dk_16 57 (dk_at dksX13_isDigit_0 7 rfl rfl)
theorem dX13_isDigit_9 : decode cX13_isDigit 9 = .ok (.if_icmp .gt 7, 3) := dk_163 0 7 (dk_at dksX13_isDigit_0 9 rfl rfl)
theorem dX13_isDigit_12 : decode cX13_isDigit 12 = .ok (.iconst 1, 1) := dk_4 (dk_at dksX13_isDigit_0 12 rfl rfl)
theorem dX13_isDigit_13 : decode cX13_isDigit 13 = .ok (.goto 4, 3) := dk_167 0 4 (dk_at dksX13_isDigit_0 13 rfl rfl)
theorem dX13_isDigit_16 : decode cX13_isDigit 16 = .ok (.iconst 0, 1) := dk_3 (dk_at dksX13_isDigit_0 16 rfl rfl)
theorem dX13_isDigit_17 : decode cX13_isDigit 17 = .ok (.ireturn, 1) := dk_172 (dk_at dksX13_isDigit_0 17 rfl rfl)
abbrev cX13_sign : ByteArray := prog_21_method_13_code
def yX13_sign : MethodName := ⟨RX13, "sign", "(III)I"⟩
def dkwX13_sign_4 : List UInt8 := [16, 13, 54, 4, 42, 21, 4, 27, 3, 9, 182, 0, 213, 4, 172]
abbrev dktX13_sign_4 : List UInt8 := dkwX13_sign_4 ++ []
def dkwX13_sign_3 : List UInt8 := [160, 0, 7, 16, 10, 54, 4, 28, 16, 47, 160, 0, 7, 16, 15, 54, 4, 28, 16, 60, 160, 0, 7]
abbrev dktX13_sign_3 : List UInt8 := dkwX13_sign_3 ++ dktX13_sign_4
def dkwX13_sign_2 : List UInt8 := [16, 43, 160, 0, 7, 16, 8, 54, 4, 28, 16, 45, 160, 0, 7, 16, 9, 54, 4, 28, 16, 42]
abbrev dktX13_sign_2 : List UInt8 := dkwX13_sign_2 ++ dktX13_sign_3
def dkwX13_sign_1 : List UInt8 := [160, 0, 8, 16, 6, 167, 0, 15, 28, 16, 41, 160, 0, 8, 16, 7, 167, 0, 4, 6, 54, 4, 28]
abbrev dktX13_sign_1 : List UInt8 := dkwX13_sign_1 ++ dktX13_sign_2
def dkwX13_sign_0 : List UInt8 := [28, 16, 59, 160, 0, 7, 7, 167, 0, 36, 28, 16, 61, 160, 0, 7, 8, 167, 0, 26, 28, 16, 40]
abbrev dktX13_sign_0 : List UInt8 := dkwX13_sign_0 ++ dktX13_sign_1
theorem dksX13_sign_0 : cX13_sign.data.toList.drop 0 = dktX13_sign_0 := by decide +kernel
theorem dksX13_sign_1 : cX13_sign.data.toList.drop 23 = dktX13_sign_1 := dk_seg dksX13_sign_0 23 rfl rfl
theorem dksX13_sign_2 : cX13_sign.data.toList.drop 46 = dktX13_sign_2 := dk_seg dksX13_sign_1 23 rfl rfl
theorem dksX13_sign_3 : cX13_sign.data.toList.drop 68 = dktX13_sign_3 := dk_seg dksX13_sign_2 22 rfl rfl
theorem dksX13_sign_4 : cX13_sign.data.toList.drop 91 = dktX13_sign_4 := dk_seg dksX13_sign_3 23 rfl rfl
theorem dX13_sign_0 : decode cX13_sign 0 = .ok (.iload_n 2, 1) := dk_28 (dk_at dksX13_sign_0 0 rfl rfl)
theorem dX13_sign_1 : decode cX13_sign 1 = .ok (.bipush 59, 2) := dk_16 59 (dk_at dksX13_sign_0 1 rfl rfl)
theorem dX13_sign_3 : decode cX13_sign 3 = .ok (.if_icmp .ne 7, 3) := dk_160 0 7 (dk_at dksX13_sign_0 3 rfl rfl)
theorem dX13_sign_6 : decode cX13_sign 6 = .ok (.iconst 4, 1) := dk_7 (dk_at dksX13_sign_0 6 rfl rfl)
theorem dX13_sign_7 : decode cX13_sign 7 = .ok (.goto 36, 3) := dk_167 0 36 (dk_at dksX13_sign_0 7 rfl rfl)
theorem dX13_sign_10 : decode cX13_sign 10 = .ok (.iload_n 2, 1) := dk_28 (dk_at dksX13_sign_0 10 rfl rfl)
theorem dX13_sign_11 : decode cX13_sign 11 = .ok (.bipush 61, 2) := dk_16 61 (dk_at dksX13_sign_0 11 rfl rfl)
theorem dX13_sign_13 : decode cX13_sign 13 = .ok (.if_icmp .ne 7, 3) := dk_160 0 7 (dk_at dksX13_sign_0 13 rfl rfl)
theorem dX13_sign_16 : decode cX13_sign 16 = .ok (.iconst 5, 1) := dk_8 (dk_at dksX13_sign_0 16 rfl rfl)
theorem dX13_sign_17 : decode cX13_sign 17 = .ok (.goto 26, 3) := dk_167 0 26 (dk_at dksX13_sign_0 17 rfl rfl)
theorem dX13_sign_20 : decode cX13_sign 20 = .ok (.iload_n 2, 1) := dk_28 (dk_at dksX13_sign_0 20 rfl rfl)
theorem dX13_sign_21 : decode cX13_sign 21 = .ok (.bipush 40, 2) := dk_16 40 (dk_at dksX13_sign_0 21 rfl rfl)
theorem dX13_sign_23 : decode cX13_sign 23 = .ok (.if_icmp .ne 8, 3) := dk_160 0 8 (dk_at dksX13_sign_1 0 rfl rfl)
theorem dX13_sign_26 : decode cX13_sign 26 = .ok (.bipush 6, 2) := dk_16 6 (dk_at dksX13_sign_1 3 rfl rfl)
theorem dX13_sign_28 : decode cX13_sign 28 = .ok (.goto 15, 3) := dk_167 0 15 (dk_at dksX13_sign_1 5 rfl rfl)
theorem dX13_sign_31 : decode cX13_sign 31 = .ok (.iload_n 2, 1) := dk_28 (dk_at dksX13_sign_1 8 rfl rfl)
theorem dX13_sign_32 : decode cX13_sign 32 = .ok (.bipush 41, 2) := dk_16 41 (dk_at dksX13_sign_1 9 rfl rfl)
theorem dX13_sign_34 : decode cX13_sign 34 = .ok (.if_icmp .ne 8, 3) := dk_160 0 8 (dk_at dksX13_sign_1 11 rfl rfl)
theorem dX13_sign_37 : decode cX13_sign 37 = .ok (.bipush 7, 2) := dk_16 7 (dk_at dksX13_sign_1 14 rfl rfl)
theorem dX13_sign_39 : decode cX13_sign 39 = .ok (.goto 4, 3) := dk_167 0 4 (dk_at dksX13_sign_1 16 rfl rfl)
theorem dX13_sign_42 : decode cX13_sign 42 = .ok (.iconst 3, 1) := dk_6 (dk_at dksX13_sign_1 19 rfl rfl)
theorem dX13_sign_43 : decode cX13_sign 43 = .ok (.istore 4, 2) := dk_54 4 (dk_at dksX13_sign_1 20 rfl rfl)
theorem dX13_sign_45 : decode cX13_sign 45 = .ok (.iload_n 2, 1) := dk_28 (dk_at dksX13_sign_1 22 rfl rfl)
theorem dX13_sign_46 : decode cX13_sign 46 = .ok (.bipush 43, 2) := dk_16 43 (dk_at dksX13_sign_2 0 rfl rfl)
theorem dX13_sign_48 : decode cX13_sign 48 = .ok (.if_icmp .ne 7, 3) := dk_160 0 7 (dk_at dksX13_sign_2 2 rfl rfl)
theorem dX13_sign_51 : decode cX13_sign 51 = .ok (.bipush 8, 2) := dk_16 8 (dk_at dksX13_sign_2 5 rfl rfl)
theorem dX13_sign_53 : decode cX13_sign 53 = .ok (.istore 4, 2) := dk_54 4 (dk_at dksX13_sign_2 7 rfl rfl)
theorem dX13_sign_55 : decode cX13_sign 55 = .ok (.iload_n 2, 1) := dk_28 (dk_at dksX13_sign_2 9 rfl rfl)
theorem dX13_sign_56 : decode cX13_sign 56 = .ok (.bipush 45, 2) := dk_16 45 (dk_at dksX13_sign_2 10 rfl rfl)
theorem dX13_sign_58 : decode cX13_sign 58 = .ok (.if_icmp .ne 7, 3) := dk_160 0 7 (dk_at dksX13_sign_2 12 rfl rfl)
theorem dX13_sign_61 : decode cX13_sign 61 = .ok (.bipush 9, 2) := dk_16 9 (dk_at dksX13_sign_2 15 rfl rfl)
theorem dX13_sign_63 : decode cX13_sign 63 = .ok (.istore 4, 2) := dk_54 4 (dk_at dksX13_sign_2 17 rfl rfl)
theorem dX13_sign_65 : decode cX13_sign 65 = .ok (.iload_n 2, 1) := dk_28 (dk_at dksX13_sign_2 19 rfl rfl)
theorem dX13_sign_66 : decode cX13_sign 66 = .ok (.bipush 42, 2) := dk_16 42 (dk_at dksX13_sign_2 20 rfl rfl)
theorem dX13_sign_68 : decode cX13_sign 68 = .ok (.if_icmp .ne 7, 3) := dk_160 0 7 (dk_at dksX13_sign_3 0 rfl rfl)
theorem dX13_sign_71 : decode cX13_sign 71 = .ok (.bipush 10, 2) := dk_16 10 (dk_at dksX13_sign_3 3 rfl rfl)
theorem dX13_sign_73 : decode cX13_sign 73 = .ok (.istore 4, 2) := dk_54 4 (dk_at dksX13_sign_3 5 rfl rfl)
theorem dX13_sign_75 : decode cX13_sign 75 = .ok (.iload_n 2, 1) := dk_28 (dk_at dksX13_sign_3 7 rfl rfl)
theorem dX13_sign_76 : decode cX13_sign 76 = .ok (.bipush 47, 2) := dk_16 47 (dk_at dksX13_sign_3 8 rfl rfl)
theorem dX13_sign_78 : decode cX13_sign 78 = .ok (.if_icmp .ne 7, 3) := dk_160 0 7 (dk_at dksX13_sign_3 10 rfl rfl)
theorem dX13_sign_81 : decode cX13_sign 81 = .ok (.bipush 15, 2) := dk_16 15 (dk_at dksX13_sign_3 13 rfl rfl)
theorem dX13_sign_83 : decode cX13_sign 83 = .ok (.istore 4, 2) := dk_54 4 (dk_at dksX13_sign_3 15 rfl rfl)
theorem dX13_sign_85 : decode cX13_sign 85 = .ok (.iload_n 2, 1) := dk_28 (dk_at dksX13_sign_3 17 rfl rfl)
theorem dX13_sign_86 : decode cX13_sign 86 = .ok (.bipush 60, 2) := dk_16 60 (dk_at dksX13_sign_3 18 rfl rfl)
theorem dX13_sign_88 : decode cX13_sign 88 = .ok (.if_icmp .ne 7, 3) := dk_160 0 7 (dk_at dksX13_sign_3 20 rfl rfl)
theorem dX13_sign_91 : decode cX13_sign 91 = .ok (.bipush 13, 2) := dk_16 13 (dk_at dksX13_sign_4 0 rfl rfl)
theorem dX13_sign_93 : decode cX13_sign 93 = .ok (.istore 4, 2) := dk_54 4 (dk_at dksX13_sign_4 2 rfl rfl)
theorem dX13_sign_95 : decode cX13_sign 95 = .ok (.aload_n 0, 1) := dk_42 (dk_at dksX13_sign_4 4 rfl rfl)
theorem dX13_sign_96 : decode cX13_sign 96 = .ok (.iload 4, 2) := dk_21 4 (dk_at dksX13_sign_4 5 rfl rfl)
theorem dX13_sign_98 : decode cX13_sign 98 = .ok (.iload_n 1, 1) := dk_27 (dk_at dksX13_sign_4 7 rfl rfl)
theorem dX13_sign_99 : decode cX13_sign 99 = .ok (.iconst 0, 1) := dk_3 (dk_at dksX13_sign_4 8 rfl rfl)
theorem dX13_sign_100 : decode cX13_sign 100 = .ok (.lconst 0, 1) := dk_9 (dk_at dksX13_sign_4 9 rfl rfl)
theorem dX13_sign_101 : decode cX13_sign 101 = .ok (.invokevirtual 213, 3) := dk_182 0 213 (dk_at dksX13_sign_4 10 rfl rfl)
theorem dX13_sign_104 : decode cX13_sign 104 = .ok (.iconst 1, 1) := dk_4 (dk_at dksX13_sign_4 13 rfl rfl)
theorem dX13_sign_105 : decode cX13_sign 105 = .ok (.ireturn, 1) := dk_172 (dk_at dksX13_sign_4 14 rfl rfl)
abbrev cX13_is : ByteArray := prog_21_method_14_code
def yX13_is : MethodName := ⟨RX13, "is", "(I)Z"⟩
def dkwX13_is_1 : List UInt8 := [3, 172]
abbrev dktX13_is_1 : List UInt8 := dkwX13_is_1 ++ []
def dkwX13_is_0 : List UInt8 := [42, 180, 0, 228, 154, 0, 20, 42, 180, 0, 20, 42, 180, 0, 231, 46, 27, 160, 0, 7, 4, 167, 0, 4]
abbrev dktX13_is_0 : List UInt8 := dkwX13_is_0 ++ dktX13_is_1
theorem dksX13_is_0 : cX13_is.data.toList.drop 0 = dktX13_is_0 := by decide +kernel
theorem dksX13_is_1 : cX13_is.data.toList.drop 24 = dktX13_is_1 := dk_seg dksX13_is_0 24 rfl rfl
theorem dX13_is_0 : decode cX13_is 0 = .ok (.aload_n 0, 1) := dk_42 (dk_at dksX13_is_0 0 rfl rfl)
theorem dX13_is_1 : decode cX13_is 1 = .ok (.getfield 228, 3) := dk_180 0 228 (dk_at dksX13_is_0 1 rfl rfl)
theorem dX13_is_4 : decode cX13_is 4 = .ok (.ifCond .ne 20, 3) := dk_154 0 20 (dk_at dksX13_is_0 4 rfl rfl)
theorem dX13_is_7 : decode cX13_is 7 = .ok (.aload_n 0, 1) := dk_42 (dk_at dksX13_is_0 7 rfl rfl)
theorem dX13_is_8 : decode cX13_is 8 = .ok (.getfield 20, 3) := dk_180 0 20 (dk_at dksX13_is_0 8 rfl rfl)
theorem dX13_is_11 : decode cX13_is 11 = .ok (.aload_n 0, 1) := dk_42 (dk_at dksX13_is_0 11 rfl rfl)
theorem dX13_is_12 : decode cX13_is 12 = .ok (.getfield 231, 3) := dk_180 0 231 (dk_at dksX13_is_0 12 rfl rfl)
theorem dX13_is_15 : decode cX13_is 15 = .ok (.iaload, 1) := dk_46 (dk_at dksX13_is_0 15 rfl rfl)
theorem dX13_is_16 : decode cX13_is 16 = .ok (.iload_n 1, 1) := dk_27 (dk_at dksX13_is_0 16 rfl rfl)
theorem dX13_is_17 : decode cX13_is 17 = .ok (.if_icmp .ne 7, 3) := dk_160 0 7 (dk_at dksX13_is_0 17 rfl rfl)
theorem dX13_is_20 : decode cX13_is 20 = .ok (.iconst 1, 1) := dk_4 (dk_at dksX13_is_0 20 rfl rfl)
theorem dX13_is_21 : decode cX13_is 21 = .ok (.goto 4, 3) := dk_167 0 4 (dk_at dksX13_is_0 21 rfl rfl)
theorem dX13_is_24 : decode cX13_is 24 = .ok (.iconst 0, 1) := dk_3 (dk_at dksX13_is_1 0 rfl rfl)
theorem dX13_is_25 : decode cX13_is 25 = .ok (.ireturn, 1) := dk_172 (dk_at dksX13_is_1 1 rfl rfl)
abbrev cX13_tell0 : ByteArray := prog_21_method_23_code
def yX13_tell0 : MethodName := ⟨RX13, "tell0", "()V"⟩
def dkwX13_tell0_11 : List UInt8 := [42, 7, 182, 1, 37, 167, 0, 8, 42, 4, 182, 0, 243, 177]
abbrev dktX13_tell0_11 : List UInt8 := dkwX13_tell0_11 ++ []
def dkwX13_tell0_10 : List UInt8 := [167, 0, 37, 42, 182, 0, 249, 42, 180, 0, 79, 42, 180, 1, 5, 42, 3, 17, 39, 15, 182, 1, 33, 79]
abbrev dktX13_tell0_10 : List UInt8 := dkwX13_tell0_10 ++ dktX13_tell0_11
def dkwX13_tell0_9 : List UInt8 := [154, 0, 59, 27, 155, 0, 55, 42, 180, 0, 58, 16, 7, 42, 180, 1, 5, 104, 27, 96, 28, 79]
abbrev dktX13_tell0_9 : List UInt8 := dkwX13_tell0_9 ++ dktX13_tell0_10
def dkwX13_tell0_8 : List UInt8 := [42, 182, 1, 46, 60, 42, 3, 16, 9, 182, 1, 33, 61, 42, 7, 182, 1, 37, 42, 180, 0, 228]
abbrev dktX13_tell0_8 : List UInt8 := dkwX13_tell0_8 ++ dktX13_tell0_9
def dkwX13_tell0_7 : List UInt8 := [46, 16, 6, 182, 1, 40, 42, 180, 0, 228, 154, 0, 95, 42, 182, 1, 56, 167, 0, 88, 42, 182, 0, 249]
abbrev dktX13_tell0_7 : List UInt8 := dkwX13_tell0_7 ++ dktX13_tell0_8
def dkwX13_tell0_6 : List UInt8 := [16, 7, 182, 1, 50, 167, 0, 124, 42, 182, 1, 53, 167, 0, 117, 42, 42, 180, 0, 70, 42, 180, 1, 5]
abbrev dktX13_tell0_6 : List UInt8 := dkwX13_tell0_6 ++ dktX13_tell0_7
def dkwX13_tell0_5 : List UInt8 := [167, 0, 152, 42, 182, 0, 249, 42, 42, 182, 1, 46, 182, 1, 50, 167, 0, 137, 42, 182, 0, 249, 42]
abbrev dktX13_tell0_5 : List UInt8 := dkwX13_tell0_5 ++ dktX13_tell0_6
def dkwX13_tell0_4 : List UInt8 := [180, 0, 49, 42, 180, 1, 5, 46, 16, 7, 182, 1, 40, 42, 180, 0, 228, 154, 0, 159, 42, 182, 1, 43]
abbrev dktX13_tell0_4 : List UInt8 := dkwX13_tell0_4 ++ dktX13_tell0_5
def dkwX13_tell0_3 : List UInt8 := [42, 180, 1, 5, 42, 5, 16, 12, 182, 1, 33, 79, 42, 7, 182, 1, 37, 167, 0, 181, 42, 42]
abbrev dktX13_tell0_3 : List UInt8 := dkwX13_tell0_3 ++ dktX13_tell0_4
def dkwX13_tell0_2 : List UInt8 := [42, 182, 0, 249, 42, 180, 0, 43, 42, 180, 1, 5, 42, 5, 16, 12, 182, 1, 33, 79, 42, 180, 0, 46]
abbrev dktX13_tell0_2 : List UInt8 := dkwX13_tell0_2 ++ dktX13_tell0_3
def dkwX13_tell0_1 : List UInt8 := [170, 0, 0, 0, 0, 1, 8, 0, 0, 0, 20, 0, 0, 0, 27, 0, 0, 0, 47, 0, 0, 0, 91, 0, 0, 0, 120, 0, 0, 0, 135, 0, 0, 0, 148, 0, 0, 0, 155, 0, 0, 0, 184, 0, 0, 0, 235]
abbrev dktX13_tell0_1 : List UInt8 := dkwX13_tell0_1 ++ dktX13_tell0_2
def dkwX13_tell0_0 : List UInt8 := [42, 180, 0, 20, 42, 180, 0, 231, 46]
abbrev dktX13_tell0_0 : List UInt8 := dkwX13_tell0_0 ++ dktX13_tell0_1
theorem dksX13_tell0_0 : cX13_tell0.data.toList.drop 0 = dktX13_tell0_0 := by decide +kernel
theorem dksX13_tell0_1 : cX13_tell0.data.toList.drop 9 = dktX13_tell0_1 := dk_seg dksX13_tell0_0 9 rfl rfl
theorem dksX13_tell0_2 : cX13_tell0.data.toList.drop 56 = dktX13_tell0_2 := dk_seg dksX13_tell0_1 47 rfl rfl
theorem dksX13_tell0_3 : cX13_tell0.data.toList.drop 80 = dktX13_tell0_3 := dk_seg dksX13_tell0_2 24 rfl rfl
theorem dksX13_tell0_4 : cX13_tell0.data.toList.drop 102 = dktX13_tell0_4 := dk_seg dksX13_tell0_3 22 rfl rfl
theorem dksX13_tell0_5 : cX13_tell0.data.toList.drop 126 = dktX13_tell0_5 := dk_seg dksX13_tell0_4 24 rfl rfl
theorem dksX13_tell0_6 : cX13_tell0.data.toList.drop 149 = dktX13_tell0_6 := dk_seg dksX13_tell0_5 23 rfl rfl
theorem dksX13_tell0_7 : cX13_tell0.data.toList.drop 173 = dktX13_tell0_7 := dk_seg dksX13_tell0_6 24 rfl rfl
theorem dksX13_tell0_8 : cX13_tell0.data.toList.drop 197 = dktX13_tell0_8 := dk_seg dksX13_tell0_7 24 rfl rfl
theorem dksX13_tell0_9 : cX13_tell0.data.toList.drop 219 = dktX13_tell0_9 := dk_seg dksX13_tell0_8 22 rfl rfl
theorem dksX13_tell0_10 : cX13_tell0.data.toList.drop 241 = dktX13_tell0_10 := dk_seg dksX13_tell0_9 22 rfl rfl
theorem dksX13_tell0_11 : cX13_tell0.data.toList.drop 265 = dktX13_tell0_11 := dk_seg dksX13_tell0_10 24 rfl rfl
theorem dX13_tell0_0 : decode cX13_tell0 0 = .ok (.aload_n 0, 1) := dk_42 (dk_at dksX13_tell0_0 0 rfl rfl)
theorem dX13_tell0_1 : decode cX13_tell0 1 = .ok (.getfield 20, 3) := dk_180 0 20 (dk_at dksX13_tell0_0 1 rfl rfl)
theorem dX13_tell0_4 : decode cX13_tell0 4 = .ok (.aload_n 0, 1) := dk_42 (dk_at dksX13_tell0_0 4 rfl rfl)
theorem dX13_tell0_5 : decode cX13_tell0 5 = .ok (.getfield 231, 3) := dk_180 0 231 (dk_at dksX13_tell0_0 5 rfl rfl)
theorem dX13_tell0_8 : decode cX13_tell0 8 = .ok (.iaload, 1) := dk_46 (dk_at dksX13_tell0_0 8 rfl rfl)
theorem dX13_tell0_9 : decode cX13_tell0 9 = .ok (.tableswitch 264 20 27 #[47, 91, 120, 135, 148, 155, 184, 235], 47) := by decide +kernel
theorem dX13_tell0_56 : decode cX13_tell0 56 = .ok (.aload_n 0, 1) := dk_42 (dk_at dksX13_tell0_2 0 rfl rfl)
theorem dX13_tell0_57 : decode cX13_tell0 57 = .ok (.invokevirtual 249, 3) := dk_182 0 249 (dk_at dksX13_tell0_2 1 rfl rfl)
theorem dX13_tell0_60 : decode cX13_tell0 60 = .ok (.aload_n 0, 1) := dk_42 (dk_at dksX13_tell0_2 4 rfl rfl)
theorem dX13_tell0_61 : decode cX13_tell0 61 = .ok (.getfield 43, 3) := dk_180 0 43 (dk_at dksX13_tell0_2 5 rfl rfl)
theorem dX13_tell0_64 : decode cX13_tell0 64 = .ok (.aload_n 0, 1) := dk_42 (dk_at dksX13_tell0_2 8 rfl rfl)
theorem dX13_tell0_65 : decode cX13_tell0 65 = .ok (.getfield 261, 3) := dk_180 1 5 (dk_at dksX13_tell0_2 9 rfl rfl)
theorem dX13_tell0_68 : decode cX13_tell0 68 = .ok (.aload_n 0, 1) := dk_42 (dk_at dksX13_tell0_2 12 rfl rfl)
theorem dX13_tell0_69 : decode cX13_tell0 69 = .ok (.iconst 2, 1) := dk_5 (dk_at dksX13_tell0_2 13 rfl rfl)
theorem dX13_tell0_70 : decode cX13_tell0 70 = .ok (.bipush 12, 2) := dk_16 12 (dk_at dksX13_tell0_2 14 rfl rfl)
theorem dX13_tell0_72 : decode cX13_tell0 72 = .ok (.invokevirtual 289, 3) := dk_182 1 33 (dk_at dksX13_tell0_2 16 rfl rfl)
theorem dX13_tell0_75 : decode cX13_tell0 75 = .ok (.iastore, 1) := dk_79 (dk_at dksX13_tell0_2 19 rfl rfl)
theorem dX13_tell0_76 : decode cX13_tell0 76 = .ok (.aload_n 0, 1) := dk_42 (dk_at dksX13_tell0_2 20 rfl rfl)
theorem dX13_tell0_77 : decode cX13_tell0 77 = .ok (.getfield 46, 3) := dk_180 0 46 (dk_at dksX13_tell0_2 21 rfl rfl)
theorem dX13_tell0_80 : decode cX13_tell0 80 = .ok (.aload_n 0, 1) := dk_42 (dk_at dksX13_tell0_3 0 rfl rfl)
theorem dX13_tell0_81 : decode cX13_tell0 81 = .ok (.getfield 261, 3) := dk_180 1 5 (dk_at dksX13_tell0_3 1 rfl rfl)
theorem dX13_tell0_84 : decode cX13_tell0 84 = .ok (.aload_n 0, 1) := dk_42 (dk_at dksX13_tell0_3 4 rfl rfl)
theorem dX13_tell0_85 : decode cX13_tell0 85 = .ok (.iconst 2, 1) := dk_5 (dk_at dksX13_tell0_3 5 rfl rfl)
theorem dX13_tell0_86 : decode cX13_tell0 86 = .ok (.bipush 12, 2) := dk_16 12 (dk_at dksX13_tell0_3 6 rfl rfl)
theorem dX13_tell0_88 : decode cX13_tell0 88 = .ok (.invokevirtual 289, 3) := dk_182 1 33 (dk_at dksX13_tell0_3 8 rfl rfl)
theorem dX13_tell0_91 : decode cX13_tell0 91 = .ok (.iastore, 1) := dk_79 (dk_at dksX13_tell0_3 11 rfl rfl)
theorem dX13_tell0_92 : decode cX13_tell0 92 = .ok (.aload_n 0, 1) := dk_42 (dk_at dksX13_tell0_3 12 rfl rfl)
theorem dX13_tell0_93 : decode cX13_tell0 93 = .ok (.iconst 4, 1) := dk_7 (dk_at dksX13_tell0_3 13 rfl rfl)
theorem dX13_tell0_94 : decode cX13_tell0 94 = .ok (.invokevirtual 293, 3) := dk_182 1 37 (dk_at dksX13_tell0_3 14 rfl rfl)
theorem dX13_tell0_97 : decode cX13_tell0 97 = .ok (.goto 181, 3) := dk_167 0 181 (dk_at dksX13_tell0_3 17 rfl rfl)
theorem dX13_tell0_100 : decode cX13_tell0 100 = .ok (.aload_n 0, 1) := dk_42 (dk_at dksX13_tell0_3 20 rfl rfl)
theorem dX13_tell0_101 : decode cX13_tell0 101 = .ok (.aload_n 0, 1) := dk_42 (dk_at dksX13_tell0_3 21 rfl rfl)
theorem dX13_tell0_102 : decode cX13_tell0 102 = .ok (.getfield 49, 3) := dk_180 0 49 (dk_at dksX13_tell0_4 0 rfl rfl)
theorem dX13_tell0_105 : decode cX13_tell0 105 = .ok (.aload_n 0, 1) := dk_42 (dk_at dksX13_tell0_4 3 rfl rfl)
theorem dX13_tell0_106 : decode cX13_tell0 106 = .ok (.getfield 261, 3) := dk_180 1 5 (dk_at dksX13_tell0_4 4 rfl rfl)
theorem dX13_tell0_109 : decode cX13_tell0 109 = .ok (.iaload, 1) := dk_46 (dk_at dksX13_tell0_4 7 rfl rfl)
theorem dX13_tell0_110 : decode cX13_tell0 110 = .ok (.bipush 7, 2) := dk_16 7 (dk_at dksX13_tell0_4 8 rfl rfl)
theorem dX13_tell0_112 : decode cX13_tell0 112 = .ok (.invokevirtual 296, 3) := dk_182 1 40 (dk_at dksX13_tell0_4 10 rfl rfl)
theorem dX13_tell0_115 : decode cX13_tell0 115 = .ok (.aload_n 0, 1) := dk_42 (dk_at dksX13_tell0_4 13 rfl rfl)
theorem dX13_tell0_116 : decode cX13_tell0 116 = .ok (.getfield 228, 3) := dk_180 0 228 (dk_at dksX13_tell0_4 14 rfl rfl)
theorem dX13_tell0_119 : decode cX13_tell0 119 = .ok (.ifCond .ne 159, 3) := dk_154 0 159 (dk_at dksX13_tell0_4 17 rfl rfl)
theorem dX13_tell0_122 : decode cX13_tell0 122 = .ok (.aload_n 0, 1) := dk_42 (dk_at dksX13_tell0_4 20 rfl rfl)
theorem dX13_tell0_123 : decode cX13_tell0 123 = .ok (.invokevirtual 299, 3) := dk_182 1 43 (dk_at dksX13_tell0_4 21 rfl rfl)
theorem dX13_tell0_126 : decode cX13_tell0 126 = .ok (.goto 152, 3) := dk_167 0 152 (dk_at dksX13_tell0_5 0 rfl rfl)
theorem dX13_tell0_129 : decode cX13_tell0 129 = .ok (.aload_n 0, 1) := dk_42 (dk_at dksX13_tell0_5 3 rfl rfl)
theorem dX13_tell0_130 : decode cX13_tell0 130 = .ok (.invokevirtual 249, 3) := dk_182 0 249 (dk_at dksX13_tell0_5 4 rfl rfl)
theorem dX13_tell0_133 : decode cX13_tell0 133 = .ok (.aload_n 0, 1) := dk_42 (dk_at dksX13_tell0_5 7 rfl rfl)
theorem dX13_tell0_134 : decode cX13_tell0 134 = .ok (.aload_n 0, 1) := dk_42 (dk_at dksX13_tell0_5 8 rfl rfl)
theorem dX13_tell0_135 : decode cX13_tell0 135 = .ok (.invokevirtual 302, 3) := dk_182 1 46 (dk_at dksX13_tell0_5 9 rfl rfl)
theorem dX13_tell0_138 : decode cX13_tell0 138 = .ok (.invokevirtual 306, 3) := dk_182 1 50 (dk_at dksX13_tell0_5 12 rfl rfl)
theorem dX13_tell0_141 : decode cX13_tell0 141 = .ok (.goto 137, 3) := dk_167 0 137 (dk_at dksX13_tell0_5 15 rfl rfl)
theorem dX13_tell0_144 : decode cX13_tell0 144 = .ok (.aload_n 0, 1) := dk_42 (dk_at dksX13_tell0_5 18 rfl rfl)
theorem dX13_tell0_145 : decode cX13_tell0 145 = .ok (.invokevirtual 249, 3) := dk_182 0 249 (dk_at dksX13_tell0_5 19 rfl rfl)
theorem dX13_tell0_148 : decode cX13_tell0 148 = .ok (.aload_n 0, 1) := dk_42 (dk_at dksX13_tell0_5 22 rfl rfl)
theorem dX13_tell0_149 : decode cX13_tell0 149 = .ok (.bipush 7, 2) := dk_16 7 (dk_at dksX13_tell0_6 0 rfl rfl)
theorem dX13_tell0_151 : decode cX13_tell0 151 = .ok (.invokevirtual 306, 3) := dk_182 1 50 (dk_at dksX13_tell0_6 2 rfl rfl)
theorem dX13_tell0_154 : decode cX13_tell0 154 = .ok (.goto 124, 3) := dk_167 0 124 (dk_at dksX13_tell0_6 5 rfl rfl)
theorem dX13_tell0_157 : decode cX13_tell0 157 = .ok (.aload_n 0, 1) := dk_42 (dk_at dksX13_tell0_6 8 rfl rfl)
theorem dX13_tell0_158 : decode cX13_tell0 158 = .ok (.invokevirtual 309, 3) := dk_182 1 53 (dk_at dksX13_tell0_6 9 rfl rfl)
theorem dX13_tell0_161 : decode cX13_tell0 161 = .ok (.goto 117, 3) := dk_167 0 117 (dk_at dksX13_tell0_6 12 rfl rfl)
theorem dX13_tell0_164 : decode cX13_tell0 164 = .ok (.aload_n 0, 1) := dk_42 (dk_at dksX13_tell0_6 15 rfl rfl)
theorem dX13_tell0_165 : decode cX13_tell0 165 = .ok (.aload_n 0, 1) := dk_42 (dk_at dksX13_tell0_6 16 rfl rfl)
theorem dX13_tell0_166 : decode cX13_tell0 166 = .ok (.getfield 70, 3) := dk_180 0 70 (dk_at dksX13_tell0_6 17 rfl rfl)
theorem dX13_tell0_169 : decode cX13_tell0 169 = .ok (.aload_n 0, 1) := dk_42 (dk_at dksX13_tell0_6 20 rfl rfl)
theorem dX13_tell0_170 : decode cX13_tell0 170 = .ok (.getfield 261, 3) := dk_180 1 5 (dk_at dksX13_tell0_6 21 rfl rfl)
theorem dX13_tell0_173 : decode cX13_tell0 173 = .ok (.iaload, 1) := dk_46 (dk_at dksX13_tell0_7 0 rfl rfl)
theorem dX13_tell0_174 : decode cX13_tell0 174 = .ok (.bipush 6, 2) := dk_16 6 (dk_at dksX13_tell0_7 1 rfl rfl)
theorem dX13_tell0_176 : decode cX13_tell0 176 = .ok (.invokevirtual 296, 3) := dk_182 1 40 (dk_at dksX13_tell0_7 3 rfl rfl)
theorem dX13_tell0_179 : decode cX13_tell0 179 = .ok (.aload_n 0, 1) := dk_42 (dk_at dksX13_tell0_7 6 rfl rfl)
theorem dX13_tell0_180 : decode cX13_tell0 180 = .ok (.getfield 228, 3) := dk_180 0 228 (dk_at dksX13_tell0_7 7 rfl rfl)
theorem dX13_tell0_183 : decode cX13_tell0 183 = .ok (.ifCond .ne 95, 3) := dk_154 0 95 (dk_at dksX13_tell0_7 10 rfl rfl)
theorem dX13_tell0_186 : decode cX13_tell0 186 = .ok (.aload_n 0, 1) := dk_42 (dk_at dksX13_tell0_7 13 rfl rfl)
theorem dX13_tell0_187 : decode cX13_tell0 187 = .ok (.invokevirtual 312, 3) := dk_182 1 56 (dk_at dksX13_tell0_7 14 rfl rfl)
theorem dX13_tell0_190 : decode cX13_tell0 190 = .ok (.goto 88, 3) := dk_167 0 88 (dk_at dksX13_tell0_7 17 rfl rfl)
theorem dX13_tell0_193 : decode cX13_tell0 193 = .ok (.aload_n 0, 1) := dk_42 (dk_at dksX13_tell0_7 20 rfl rfl)
theorem dX13_tell0_194 : decode cX13_tell0 194 = .ok (.invokevirtual 249, 3) := dk_182 0 249 (dk_at dksX13_tell0_7 21 rfl rfl)
theorem dX13_tell0_197 : decode cX13_tell0 197 = .ok (.aload_n 0, 1) := dk_42 (dk_at dksX13_tell0_8 0 rfl rfl)
theorem dX13_tell0_198 : decode cX13_tell0 198 = .ok (.invokevirtual 302, 3) := dk_182 1 46 (dk_at dksX13_tell0_8 1 rfl rfl)
theorem dX13_tell0_201 : decode cX13_tell0 201 = .ok (.istore_n 1, 1) := dk_60 (dk_at dksX13_tell0_8 4 rfl rfl)
theorem dX13_tell0_202 : decode cX13_tell0 202 = .ok (.aload_n 0, 1) := dk_42 (dk_at dksX13_tell0_8 5 rfl rfl)
theorem dX13_tell0_203 : decode cX13_tell0 203 = .ok (.iconst 0, 1) := dk_3 (dk_at dksX13_tell0_8 6 rfl rfl)
theorem dX13_tell0_204 : decode cX13_tell0 204 = .ok (.bipush 9, 2) := dk_16 9 (dk_at dksX13_tell0_8 7 rfl rfl)
theorem dX13_tell0_206 : decode cX13_tell0 206 = .ok (.invokevirtual 289, 3) := dk_182 1 33 (dk_at dksX13_tell0_8 9 rfl rfl)
theorem dX13_tell0_209 : decode cX13_tell0 209 = .ok (.istore_n 2, 1) := dk_61 (dk_at dksX13_tell0_8 12 rfl rfl)
theorem dX13_tell0_210 : decode cX13_tell0 210 = .ok (.aload_n 0, 1) := dk_42 (dk_at dksX13_tell0_8 13 rfl rfl)
theorem dX13_tell0_211 : decode cX13_tell0 211 = .ok (.iconst 4, 1) := dk_7 (dk_at dksX13_tell0_8 14 rfl rfl)
theorem dX13_tell0_212 : decode cX13_tell0 212 = .ok (.invokevirtual 293, 3) := dk_182 1 37 (dk_at dksX13_tell0_8 15 rfl rfl)
theorem dX13_tell0_215 : decode cX13_tell0 215 = .ok (.aload_n 0, 1) := dk_42 (dk_at dksX13_tell0_8 18 rfl rfl)
theorem dX13_tell0_216 : decode cX13_tell0 216 = .ok (.getfield 228, 3) := dk_180 0 228 (dk_at dksX13_tell0_8 19 rfl rfl)
theorem dX13_tell0_219 : decode cX13_tell0 219 = .ok (.ifCond .ne 59, 3) := dk_154 0 59 (dk_at dksX13_tell0_9 0 rfl rfl)
theorem dX13_tell0_222 : decode cX13_tell0 222 = .ok (.iload_n 1, 1) := dk_27 (dk_at dksX13_tell0_9 3 rfl rfl)
theorem dX13_tell0_223 : decode cX13_tell0 223 = .ok (.ifCond .lt 55, 3) := dk_155 0 55 (dk_at dksX13_tell0_9 4 rfl rfl)
theorem dX13_tell0_226 : decode cX13_tell0 226 = .ok (.aload_n 0, 1) := dk_42 (dk_at dksX13_tell0_9 7 rfl rfl)
theorem dX13_tell0_227 : decode cX13_tell0 227 = .ok (.getfield 58, 3) := dk_180 0 58 (dk_at dksX13_tell0_9 8 rfl rfl)
theorem dX13_tell0_230 : decode cX13_tell0 230 = .ok (.bipush 7, 2) := dk_16 7 (dk_at dksX13_tell0_9 11 rfl rfl)
theorem dX13_tell0_232 : decode cX13_tell0 232 = .ok (.aload_n 0, 1) := dk_42 (dk_at dksX13_tell0_9 13 rfl rfl)
theorem dX13_tell0_233 : decode cX13_tell0 233 = .ok (.getfield 261, 3) := dk_180 1 5 (dk_at dksX13_tell0_9 14 rfl rfl)
theorem dX13_tell0_236 : decode cX13_tell0 236 = .ok (.imul, 1) := dk_104 (dk_at dksX13_tell0_9 17 rfl rfl)
theorem dX13_tell0_237 : decode cX13_tell0 237 = .ok (.iload_n 1, 1) := dk_27 (dk_at dksX13_tell0_9 18 rfl rfl)
theorem dX13_tell0_238 : decode cX13_tell0 238 = .ok (.iadd, 1) := dk_96 (dk_at dksX13_tell0_9 19 rfl rfl)
theorem dX13_tell0_239 : decode cX13_tell0 239 = .ok (.iload_n 2, 1) := dk_28 (dk_at dksX13_tell0_9 20 rfl rfl)
theorem dX13_tell0_240 : decode cX13_tell0 240 = .ok (.iastore, 1) := dk_79 (dk_at dksX13_tell0_9 21 rfl rfl)
theorem dX13_tell0_241 : decode cX13_tell0 241 = .ok (.goto 37, 3) := dk_167 0 37 (dk_at dksX13_tell0_10 0 rfl rfl)
theorem dX13_tell0_244 : decode cX13_tell0 244 = .ok (.aload_n 0, 1) := dk_42 (dk_at dksX13_tell0_10 3 rfl rfl)
theorem dX13_tell0_245 : decode cX13_tell0 245 = .ok (.invokevirtual 249, 3) := dk_182 0 249 (dk_at dksX13_tell0_10 4 rfl rfl)
theorem dX13_tell0_248 : decode cX13_tell0 248 = .ok (.aload_n 0, 1) := dk_42 (dk_at dksX13_tell0_10 7 rfl rfl)
theorem dX13_tell0_249 : decode cX13_tell0 249 = .ok (.getfield 79, 3) := dk_180 0 79 (dk_at dksX13_tell0_10 8 rfl rfl)
theorem dX13_tell0_252 : decode cX13_tell0 252 = .ok (.aload_n 0, 1) := dk_42 (dk_at dksX13_tell0_10 11 rfl rfl)
theorem dX13_tell0_253 : decode cX13_tell0 253 = .ok (.getfield 261, 3) := dk_180 1 5 (dk_at dksX13_tell0_10 12 rfl rfl)
theorem dX13_tell0_256 : decode cX13_tell0 256 = .ok (.aload_n 0, 1) := dk_42 (dk_at dksX13_tell0_10 15 rfl rfl)
theorem dX13_tell0_257 : decode cX13_tell0 257 = .ok (.iconst 0, 1) := dk_3 (dk_at dksX13_tell0_10 16 rfl rfl)
theorem dX13_tell0_258 : decode cX13_tell0 258 = .ok (.sipush 9999, 3) := dk_17 39 15 (dk_at dksX13_tell0_10 17 rfl rfl)
theorem dX13_tell0_261 : decode cX13_tell0 261 = .ok (.invokevirtual 289, 3) := dk_182 1 33 (dk_at dksX13_tell0_10 20 rfl rfl)
theorem dX13_tell0_264 : decode cX13_tell0 264 = .ok (.iastore, 1) := dk_79 (dk_at dksX13_tell0_10 23 rfl rfl)
theorem dX13_tell0_265 : decode cX13_tell0 265 = .ok (.aload_n 0, 1) := dk_42 (dk_at dksX13_tell0_11 0 rfl rfl)
theorem dX13_tell0_266 : decode cX13_tell0 266 = .ok (.iconst 4, 1) := dk_7 (dk_at dksX13_tell0_11 1 rfl rfl)
theorem dX13_tell0_267 : decode cX13_tell0 267 = .ok (.invokevirtual 293, 3) := dk_182 1 37 (dk_at dksX13_tell0_11 2 rfl rfl)
theorem dX13_tell0_270 : decode cX13_tell0 270 = .ok (.goto 8, 3) := dk_167 0 8 (dk_at dksX13_tell0_11 5 rfl rfl)
theorem dX13_tell0_273 : decode cX13_tell0 273 = .ok (.aload_n 0, 1) := dk_42 (dk_at dksX13_tell0_11 8 rfl rfl)
theorem dX13_tell0_274 : decode cX13_tell0 274 = .ok (.iconst 1, 1) := dk_4 (dk_at dksX13_tell0_11 9 rfl rfl)
theorem dX13_tell0_275 : decode cX13_tell0 275 = .ok (.invokevirtual 243, 3) := dk_182 0 243 (dk_at dksX13_tell0_11 10 rfl rfl)
theorem dX13_tell0_278 : decode cX13_tell0 278 = .ok (.return_, 1) := dk_177 (dk_at dksX13_tell0_11 13 rfl rfl)
abbrev cX13_goesOn : ByteArray := prog_21_method_17_code
def yX13_goesOn : MethodName := ⟨RX13, "goesOn", "()V"⟩
def dkwX13_goesOn_1 : List UInt8 := [96, 181, 0, 231, 177]
abbrev dktX13_goesOn_1 : List UInt8 := dkwX13_goesOn_1 ++ []
def dkwX13_goesOn_0 : List UInt8 := [42, 180, 0, 231, 17, 1, 144, 160, 0, 11, 42, 5, 182, 0, 243, 167, 0, 13, 42, 89, 180, 0, 231, 4]
abbrev dktX13_goesOn_0 : List UInt8 := dkwX13_goesOn_0 ++ dktX13_goesOn_1
theorem dksX13_goesOn_0 : cX13_goesOn.data.toList.drop 0 = dktX13_goesOn_0 := by decide +kernel
theorem dksX13_goesOn_1 : cX13_goesOn.data.toList.drop 24 = dktX13_goesOn_1 := dk_seg dksX13_goesOn_0 24 rfl rfl
theorem dX13_goesOn_0 : decode cX13_goesOn 0 = .ok (.aload_n 0, 1) := dk_42 (dk_at dksX13_goesOn_0 0 rfl rfl)
theorem dX13_goesOn_1 : decode cX13_goesOn 1 = .ok (.getfield 231, 3) := dk_180 0 231 (dk_at dksX13_goesOn_0 1 rfl rfl)
theorem dX13_goesOn_4 : decode cX13_goesOn 4 = .ok (.sipush 400, 3) := dk_17 1 144 (dk_at dksX13_goesOn_0 4 rfl rfl)
theorem dX13_goesOn_7 : decode cX13_goesOn 7 = .ok (.if_icmp .ne 11, 3) := dk_160 0 11 (dk_at dksX13_goesOn_0 7 rfl rfl)
theorem dX13_goesOn_10 : decode cX13_goesOn 10 = .ok (.aload_n 0, 1) := dk_42 (dk_at dksX13_goesOn_0 10 rfl rfl)
theorem dX13_goesOn_11 : decode cX13_goesOn 11 = .ok (.iconst 2, 1) := dk_5 (dk_at dksX13_goesOn_0 11 rfl rfl)
theorem dX13_goesOn_12 : decode cX13_goesOn 12 = .ok (.invokevirtual 243, 3) := dk_182 0 243 (dk_at dksX13_goesOn_0 12 rfl rfl)
theorem dX13_goesOn_15 : decode cX13_goesOn 15 = .ok (.goto 13, 3) := dk_167 0 13 (dk_at dksX13_goesOn_0 15 rfl rfl)
theorem dX13_goesOn_18 : decode cX13_goesOn 18 = .ok (.aload_n 0, 1) := dk_42 (dk_at dksX13_goesOn_0 18 rfl rfl)
theorem dX13_goesOn_19 : decode cX13_goesOn 19 = .ok (.dup, 1) := dk_89 (dk_at dksX13_goesOn_0 19 rfl rfl)
theorem dX13_goesOn_20 : decode cX13_goesOn 20 = .ok (.getfield 231, 3) := dk_180 0 231 (dk_at dksX13_goesOn_0 20 rfl rfl)
theorem dX13_goesOn_23 : decode cX13_goesOn 23 = .ok (.iconst 1, 1) := dk_4 (dk_at dksX13_goesOn_0 23 rfl rfl)
theorem dX13_goesOn_24 : decode cX13_goesOn 24 = .ok (.iadd, 1) := dk_96 (dk_at dksX13_goesOn_1 0 rfl rfl)
theorem dX13_goesOn_25 : decode cX13_goesOn 25 = .ok (.putfield 231, 3) := dk_181 0 231 (dk_at dksX13_goesOn_1 1 rfl rfl)
theorem dX13_goesOn_28 : decode cX13_goesOn 28 = .ok (.return_, 1) := dk_177 (dk_at dksX13_goesOn_1 4 rfl rfl)
abbrev cX13_fail : ByteArray := prog_21_method_15_code
def yX13_fail : MethodName := ⟨RX13, "fail", "(I)V"⟩
def dkwX13_fail_1 : List UInt8 := [181, 0, 234, 177]
abbrev dktX13_fail_1 : List UInt8 := dkwX13_fail_1 ++ []
def dkwX13_fail_0 : List UInt8 := [42, 180, 0, 228, 158, 0, 4, 177, 42, 27, 181, 0, 228, 42, 42, 180, 0, 24, 42, 180, 0, 231, 46]
abbrev dktX13_fail_0 : List UInt8 := dkwX13_fail_0 ++ dktX13_fail_1
theorem dksX13_fail_0 : cX13_fail.data.toList.drop 0 = dktX13_fail_0 := by decide +kernel
theorem dksX13_fail_1 : cX13_fail.data.toList.drop 23 = dktX13_fail_1 := dk_seg dksX13_fail_0 23 rfl rfl
theorem dX13_fail_0 : decode cX13_fail 0 = .ok (.aload_n 0, 1) := dk_42 (dk_at dksX13_fail_0 0 rfl rfl)
theorem dX13_fail_1 : decode cX13_fail 1 = .ok (.getfield 228, 3) := dk_180 0 228 (dk_at dksX13_fail_0 1 rfl rfl)
theorem dX13_fail_4 : decode cX13_fail 4 = .ok (.ifCond .le 4, 3) := dk_158 0 4 (dk_at dksX13_fail_0 4 rfl rfl)
theorem dX13_fail_7 : decode cX13_fail 7 = .ok (.return_, 1) := dk_177 (dk_at dksX13_fail_0 7 rfl rfl)
theorem dX13_fail_8 : decode cX13_fail 8 = .ok (.aload_n 0, 1) := dk_42 (dk_at dksX13_fail_0 8 rfl rfl)
theorem dX13_fail_9 : decode cX13_fail 9 = .ok (.iload_n 1, 1) := dk_27 (dk_at dksX13_fail_0 9 rfl rfl)
theorem dX13_fail_10 : decode cX13_fail 10 = .ok (.putfield 228, 3) := dk_181 0 228 (dk_at dksX13_fail_0 10 rfl rfl)
theorem dX13_fail_13 : decode cX13_fail 13 = .ok (.aload_n 0, 1) := dk_42 (dk_at dksX13_fail_0 13 rfl rfl)
theorem dX13_fail_14 : decode cX13_fail 14 = .ok (.aload_n 0, 1) := dk_42 (dk_at dksX13_fail_0 14 rfl rfl)
theorem dX13_fail_15 : decode cX13_fail 15 = .ok (.getfield 24, 3) := dk_180 0 24 (dk_at dksX13_fail_0 15 rfl rfl)
theorem dX13_fail_18 : decode cX13_fail 18 = .ok (.aload_n 0, 1) := dk_42 (dk_at dksX13_fail_0 18 rfl rfl)
theorem dX13_fail_19 : decode cX13_fail 19 = .ok (.getfield 231, 3) := dk_180 0 231 (dk_at dksX13_fail_0 19 rfl rfl)
theorem dX13_fail_22 : decode cX13_fail 22 = .ok (.iaload, 1) := dk_46 (dk_at dksX13_fail_0 22 rfl rfl)
theorem dX13_fail_23 : decode cX13_fail 23 = .ok (.putfield 234, 3) := dk_181 0 234 (dk_at dksX13_fail_1 0 rfl rfl)
theorem dX13_fail_26 : decode cX13_fail 26 = .ok (.return_, 1) := dk_177 (dk_at dksX13_fail_1 3 rfl rfl)
abbrev cX13_bounded : ByteArray := prog_21_method_26_code
def yX13_bounded : MethodName := ⟨RX13, "bounded", "(II)I"⟩
def dkwX13_bounded_2 : List UInt8 := [180, 0, 231, 182, 1, 23, 42, 182, 0, 249, 29, 172]
abbrev dktX13_bounded_2 : List UInt8 := dkwX13_bounded_2 ++ []
def dkwX13_bounded_1 : List UInt8 := [180, 0, 27, 42, 180, 0, 231, 46, 62, 29, 27, 161, 0, 8, 29, 28, 164, 0, 12, 42, 8, 42]
abbrev dktX13_bounded_1 : List UInt8 := dkwX13_bounded_1 ++ dktX13_bounded_2
def dkwX13_bounded_0 : List UInt8 := [42, 180, 0, 228, 157, 0, 11, 42, 5, 182, 0, 246, 154, 0, 10, 42, 4, 182, 0, 243, 27, 172, 42]
abbrev dktX13_bounded_0 : List UInt8 := dkwX13_bounded_0 ++ dktX13_bounded_1
theorem dksX13_bounded_0 : cX13_bounded.data.toList.drop 0 = dktX13_bounded_0 := by decide +kernel
theorem dksX13_bounded_1 : cX13_bounded.data.toList.drop 23 = dktX13_bounded_1 := dk_seg dksX13_bounded_0 23 rfl rfl
theorem dksX13_bounded_2 : cX13_bounded.data.toList.drop 45 = dktX13_bounded_2 := dk_seg dksX13_bounded_1 22 rfl rfl
theorem dX13_bounded_0 : decode cX13_bounded 0 = .ok (.aload_n 0, 1) := dk_42 (dk_at dksX13_bounded_0 0 rfl rfl)
theorem dX13_bounded_1 : decode cX13_bounded 1 = .ok (.getfield 228, 3) := dk_180 0 228 (dk_at dksX13_bounded_0 1 rfl rfl)
theorem dX13_bounded_4 : decode cX13_bounded 4 = .ok (.ifCond .gt 11, 3) := dk_157 0 11 (dk_at dksX13_bounded_0 4 rfl rfl)
theorem dX13_bounded_7 : decode cX13_bounded 7 = .ok (.aload_n 0, 1) := dk_42 (dk_at dksX13_bounded_0 7 rfl rfl)
theorem dX13_bounded_8 : decode cX13_bounded 8 = .ok (.iconst 2, 1) := dk_5 (dk_at dksX13_bounded_0 8 rfl rfl)
theorem dX13_bounded_9 : decode cX13_bounded 9 = .ok (.invokevirtual 246, 3) := dk_182 0 246 (dk_at dksX13_bounded_0 9 rfl rfl)
theorem dX13_bounded_12 : decode cX13_bounded 12 = .ok (.ifCond .ne 10, 3) := dk_154 0 10 (dk_at dksX13_bounded_0 12 rfl rfl)
theorem dX13_bounded_15 : decode cX13_bounded 15 = .ok (.aload_n 0, 1) := dk_42 (dk_at dksX13_bounded_0 15 rfl rfl)
theorem dX13_bounded_16 : decode cX13_bounded 16 = .ok (.iconst 1, 1) := dk_4 (dk_at dksX13_bounded_0 16 rfl rfl)
theorem dX13_bounded_17 : decode cX13_bounded 17 = .ok (.invokevirtual 243, 3) := dk_182 0 243 (dk_at dksX13_bounded_0 17 rfl rfl)
theorem dX13_bounded_20 : decode cX13_bounded 20 = .ok (.iload_n 1, 1) := dk_27 (dk_at dksX13_bounded_0 20 rfl rfl)
theorem dX13_bounded_21 : decode cX13_bounded 21 = .ok (.ireturn, 1) := dk_172 (dk_at dksX13_bounded_0 21 rfl rfl)
theorem dX13_bounded_22 : decode cX13_bounded 22 = .ok (.aload_n 0, 1) := dk_42 (dk_at dksX13_bounded_0 22 rfl rfl)
theorem dX13_bounded_23 : decode cX13_bounded 23 = .ok (.getfield 27, 3) := dk_180 0 27 (dk_at dksX13_bounded_1 0 rfl rfl)
theorem dX13_bounded_26 : decode cX13_bounded 26 = .ok (.aload_n 0, 1) := dk_42 (dk_at dksX13_bounded_1 3 rfl rfl)
theorem dX13_bounded_27 : decode cX13_bounded 27 = .ok (.getfield 231, 3) := dk_180 0 231 (dk_at dksX13_bounded_1 4 rfl rfl)
theorem dX13_bounded_30 : decode cX13_bounded 30 = .ok (.iaload, 1) := dk_46 (dk_at dksX13_bounded_1 7 rfl rfl)
theorem dX13_bounded_31 : decode cX13_bounded 31 = .ok (.istore_n 3, 1) := dk_62 (dk_at dksX13_bounded_1 8 rfl rfl)
theorem dX13_bounded_32 : decode cX13_bounded 32 = .ok (.iload_n 3, 1) := dk_29 (dk_at dksX13_bounded_1 9 rfl rfl)
theorem dX13_bounded_33 : decode cX13_bounded 33 = .ok (.iload_n 1, 1) := dk_27 (dk_at dksX13_bounded_1 10 rfl rfl)
theorem dX13_bounded_34 : decode cX13_bounded 34 = .ok (.if_icmp .lt 8, 3) := dk_161 0 8 (dk_at dksX13_bounded_1 11 rfl rfl)
theorem dX13_bounded_37 : decode cX13_bounded 37 = .ok (.iload_n 3, 1) := dk_29 (dk_at dksX13_bounded_1 14 rfl rfl)
theorem dX13_bounded_38 : decode cX13_bounded 38 = .ok (.iload_n 2, 1) := dk_28 (dk_at dksX13_bounded_1 15 rfl rfl)
theorem dX13_bounded_39 : decode cX13_bounded 39 = .ok (.if_icmp .le 12, 3) := dk_164 0 12 (dk_at dksX13_bounded_1 16 rfl rfl)
theorem dX13_bounded_42 : decode cX13_bounded 42 = .ok (.aload_n 0, 1) := dk_42 (dk_at dksX13_bounded_1 19 rfl rfl)
theorem dX13_bounded_43 : decode cX13_bounded 43 = .ok (.iconst 5, 1) := dk_8 (dk_at dksX13_bounded_1 20 rfl rfl)
theorem dX13_bounded_44 : decode cX13_bounded 44 = .ok (.aload_n 0, 1) := dk_42 (dk_at dksX13_bounded_1 21 rfl rfl)
theorem dX13_bounded_45 : decode cX13_bounded 45 = .ok (.getfield 231, 3) := dk_180 0 231 (dk_at dksX13_bounded_2 0 rfl rfl)
theorem dX13_bounded_48 : decode cX13_bounded 48 = .ok (.invokevirtual 279, 3) := dk_182 1 23 (dk_at dksX13_bounded_2 3 rfl rfl)
theorem dX13_bounded_51 : decode cX13_bounded 51 = .ok (.aload_n 0, 1) := dk_42 (dk_at dksX13_bounded_2 6 rfl rfl)
theorem dX13_bounded_52 : decode cX13_bounded 52 = .ok (.invokevirtual 249, 3) := dk_182 0 249 (dk_at dksX13_bounded_2 7 rfl rfl)
theorem dX13_bounded_55 : decode cX13_bounded 55 = .ok (.iload_n 3, 1) := dk_29 (dk_at dksX13_bounded_2 10 rfl rfl)
theorem dX13_bounded_56 : decode cX13_bounded 56 = .ok (.ireturn, 1) := dk_172 (dk_at dksX13_bounded_2 11 rfl rfl)
abbrev cX13_wrong : ByteArray := prog_21_method_16_code
def yX13_wrong : MethodName := ⟨RX13, "wrong", "(II)V"⟩
def dkwX13_wrong_2 : List UInt8 := [27, 181, 0, 237, 42, 29, 181, 0, 240, 177]
abbrev dktX13_wrong_2 : List UInt8 := dkwX13_wrong_2 ++ []
def dkwX13_wrong_1 : List UInt8 := [180, 0, 240, 163, 0, 19, 29, 42, 180, 0, 240, 160, 0, 12, 27, 42, 180, 0, 237, 161, 0, 4, 177, 42]
abbrev dktX13_wrong_1 : List UInt8 := dkwX13_wrong_1 ++ dktX13_wrong_2
def dkwX13_wrong_0 : List UInt8 := [42, 180, 0, 24, 28, 46, 62, 42, 180, 0, 228, 157, 0, 34, 42, 180, 0, 237, 153, 0, 28, 29, 42]
abbrev dktX13_wrong_0 : List UInt8 := dkwX13_wrong_0 ++ dktX13_wrong_1
theorem dksX13_wrong_0 : cX13_wrong.data.toList.drop 0 = dktX13_wrong_0 := by decide +kernel
theorem dksX13_wrong_1 : cX13_wrong.data.toList.drop 23 = dktX13_wrong_1 := dk_seg dksX13_wrong_0 23 rfl rfl
theorem dksX13_wrong_2 : cX13_wrong.data.toList.drop 47 = dktX13_wrong_2 := dk_seg dksX13_wrong_1 24 rfl rfl
theorem dX13_wrong_0 : decode cX13_wrong 0 = .ok (.aload_n 0, 1) := dk_42 (dk_at dksX13_wrong_0 0 rfl rfl)
theorem dX13_wrong_1 : decode cX13_wrong 1 = .ok (.getfield 24, 3) := dk_180 0 24 (dk_at dksX13_wrong_0 1 rfl rfl)
theorem dX13_wrong_4 : decode cX13_wrong 4 = .ok (.iload_n 2, 1) := dk_28 (dk_at dksX13_wrong_0 4 rfl rfl)
theorem dX13_wrong_5 : decode cX13_wrong 5 = .ok (.iaload, 1) := dk_46 (dk_at dksX13_wrong_0 5 rfl rfl)
theorem dX13_wrong_6 : decode cX13_wrong 6 = .ok (.istore_n 3, 1) := dk_62 (dk_at dksX13_wrong_0 6 rfl rfl)
theorem dX13_wrong_7 : decode cX13_wrong 7 = .ok (.aload_n 0, 1) := dk_42 (dk_at dksX13_wrong_0 7 rfl rfl)
theorem dX13_wrong_8 : decode cX13_wrong 8 = .ok (.getfield 228, 3) := dk_180 0 228 (dk_at dksX13_wrong_0 8 rfl rfl)
theorem dX13_wrong_11 : decode cX13_wrong 11 = .ok (.ifCond .gt 34, 3) := dk_157 0 34 (dk_at dksX13_wrong_0 11 rfl rfl)
theorem dX13_wrong_14 : decode cX13_wrong 14 = .ok (.aload_n 0, 1) := dk_42 (dk_at dksX13_wrong_0 14 rfl rfl)
theorem dX13_wrong_15 : decode cX13_wrong 15 = .ok (.getfield 237, 3) := dk_180 0 237 (dk_at dksX13_wrong_0 15 rfl rfl)
theorem dX13_wrong_18 : decode cX13_wrong 18 = .ok (.ifCond .eq 28, 3) := dk_153 0 28 (dk_at dksX13_wrong_0 18 rfl rfl)
theorem dX13_wrong_21 : decode cX13_wrong 21 = .ok (.iload_n 3, 1) := dk_29 (dk_at dksX13_wrong_0 21 rfl rfl)
theorem dX13_wrong_22 : decode cX13_wrong 22 = .ok (.aload_n 0, 1) := dk_42 (dk_at dksX13_wrong_0 22 rfl rfl)
theorem dX13_wrong_23 : decode cX13_wrong 23 = .ok (.getfield 240, 3) := dk_180 0 240 (dk_at dksX13_wrong_1 0 rfl rfl)
theorem dX13_wrong_26 : decode cX13_wrong 26 = .ok (.if_icmp .gt 19, 3) := dk_163 0 19 (dk_at dksX13_wrong_1 3 rfl rfl)
theorem dX13_wrong_29 : decode cX13_wrong 29 = .ok (.iload_n 3, 1) := dk_29 (dk_at dksX13_wrong_1 6 rfl rfl)
theorem dX13_wrong_30 : decode cX13_wrong 30 = .ok (.aload_n 0, 1) := dk_42 (dk_at dksX13_wrong_1 7 rfl rfl)
theorem dX13_wrong_31 : decode cX13_wrong 31 = .ok (.getfield 240, 3) := dk_180 0 240 (dk_at dksX13_wrong_1 8 rfl rfl)
theorem dX13_wrong_34 : decode cX13_wrong 34 = .ok (.if_icmp .ne 12, 3) := dk_160 0 12 (dk_at dksX13_wrong_1 11 rfl rfl)
theorem dX13_wrong_37 : decode cX13_wrong 37 = .ok (.iload_n 1, 1) := dk_27 (dk_at dksX13_wrong_1 14 rfl rfl)
theorem dX13_wrong_38 : decode cX13_wrong 38 = .ok (.aload_n 0, 1) := dk_42 (dk_at dksX13_wrong_1 15 rfl rfl)
theorem dX13_wrong_39 : decode cX13_wrong 39 = .ok (.getfield 237, 3) := dk_180 0 237 (dk_at dksX13_wrong_1 16 rfl rfl)
theorem dX13_wrong_42 : decode cX13_wrong 42 = .ok (.if_icmp .lt 4, 3) := dk_161 0 4 (dk_at dksX13_wrong_1 19 rfl rfl)
theorem dX13_wrong_45 : decode cX13_wrong 45 = .ok (.return_, 1) := dk_177 (dk_at dksX13_wrong_1 22 rfl rfl)
theorem dX13_wrong_46 : decode cX13_wrong 46 = .ok (.aload_n 0, 1) := dk_42 (dk_at dksX13_wrong_1 23 rfl rfl)
theorem dX13_wrong_47 : decode cX13_wrong 47 = .ok (.iload_n 1, 1) := dk_27 (dk_at dksX13_wrong_2 0 rfl rfl)
theorem dX13_wrong_48 : decode cX13_wrong 48 = .ok (.putfield 237, 3) := dk_181 0 237 (dk_at dksX13_wrong_2 1 rfl rfl)
theorem dX13_wrong_51 : decode cX13_wrong 51 = .ok (.aload_n 0, 1) := dk_42 (dk_at dksX13_wrong_2 4 rfl rfl)
theorem dX13_wrong_52 : decode cX13_wrong 52 = .ok (.iload_n 3, 1) := dk_29 (dk_at dksX13_wrong_2 5 rfl rfl)
theorem dX13_wrong_53 : decode cX13_wrong 53 = .ok (.putfield 240, 3) := dk_181 0 240 (dk_at dksX13_wrong_2 6 rfl rfl)
theorem dX13_wrong_56 : decode cX13_wrong 56 = .ok (.return_, 1) := dk_177 (dk_at dksX13_wrong_2 9 rfl rfl)
abbrev cX13_must : ByteArray := prog_21_method_18_code
def yX13_must : MethodName := ⟨RX13, "must", "(I)V"⟩
def dkwX13_must_0 : List UInt8 := [42, 27, 182, 0, 246, 153, 0, 10, 42, 182, 0, 249, 167, 0, 8, 42, 4, 182, 0, 243, 177]
abbrev dktX13_must_0 : List UInt8 := dkwX13_must_0 ++ []
theorem dksX13_must_0 : cX13_must.data.toList.drop 0 = dktX13_must_0 := by decide +kernel
theorem dX13_must_0 : decode cX13_must 0 = .ok (.aload_n 0, 1) := dk_42 (dk_at dksX13_must_0 0 rfl rfl)
theorem dX13_must_1 : decode cX13_must 1 = .ok (.iload_n 1, 1) := dk_27 (dk_at dksX13_must_0 1 rfl rfl)
theorem dX13_must_2 : decode cX13_must 2 = .ok (.invokevirtual 246, 3) := dk_182 0 246 (dk_at dksX13_must_0 2 rfl rfl)
theorem dX13_must_5 : decode cX13_must 5 = .ok (.ifCond .eq 10, 3) := dk_153 0 10 (dk_at dksX13_must_0 5 rfl rfl)
theorem dX13_must_8 : decode cX13_must 8 = .ok (.aload_n 0, 1) := dk_42 (dk_at dksX13_must_0 8 rfl rfl)
theorem dX13_must_9 : decode cX13_must 9 = .ok (.invokevirtual 249, 3) := dk_182 0 249 (dk_at dksX13_must_0 9 rfl rfl)
theorem dX13_must_12 : decode cX13_must 12 = .ok (.goto 8, 3) := dk_167 0 8 (dk_at dksX13_must_0 12 rfl rfl)
theorem dX13_must_15 : decode cX13_must 15 = .ok (.aload_n 0, 1) := dk_42 (dk_at dksX13_must_0 15 rfl rfl)
theorem dX13_must_16 : decode cX13_must 16 = .ok (.iconst 1, 1) := dk_4 (dk_at dksX13_must_0 16 rfl rfl)
theorem dX13_must_17 : decode cX13_must 17 = .ok (.invokevirtual 243, 3) := dk_182 0 243 (dk_at dksX13_must_0 17 rfl rfl)
theorem dX13_must_20 : decode cX13_must 20 = .ok (.return_, 1) := dk_177 (dk_at dksX13_must_0 20 rfl rfl)
abbrev cX13_roomFor : ByteArray := prog_21_method_22_code
def yX13_roomFor : MethodName := ⟨RX13, "roomFor", "(II)V"⟩
def dkwX13_roomFor_0 : List UInt8 := [27, 28, 160, 0, 8, 42, 5, 182, 0, 243, 42, 180, 0, 228, 154, 0, 7, 42, 182, 0, 249, 177]
abbrev dktX13_roomFor_0 : List UInt8 := dkwX13_roomFor_0 ++ []
theorem dksX13_roomFor_0 : cX13_roomFor.data.toList.drop 0 = dktX13_roomFor_0 := by decide +kernel
theorem dX13_roomFor_0 : decode cX13_roomFor 0 = .ok (.iload_n 1, 1) := dk_27 (dk_at dksX13_roomFor_0 0 rfl rfl)
theorem dX13_roomFor_1 : decode cX13_roomFor 1 = .ok (.iload_n 2, 1) := dk_28 (dk_at dksX13_roomFor_0 1 rfl rfl)
theorem dX13_roomFor_2 : decode cX13_roomFor 2 = .ok (.if_icmp .ne 8, 3) := dk_160 0 8 (dk_at dksX13_roomFor_0 2 rfl rfl)
theorem dX13_roomFor_5 : decode cX13_roomFor 5 = .ok (.aload_n 0, 1) := dk_42 (dk_at dksX13_roomFor_0 5 rfl rfl)
theorem dX13_roomFor_6 : decode cX13_roomFor 6 = .ok (.iconst 2, 1) := dk_5 (dk_at dksX13_roomFor_0 6 rfl rfl)
theorem dX13_roomFor_7 : decode cX13_roomFor 7 = .ok (.invokevirtual 243, 3) := dk_182 0 243 (dk_at dksX13_roomFor_0 7 rfl rfl)
theorem dX13_roomFor_10 : decode cX13_roomFor 10 = .ok (.aload_n 0, 1) := dk_42 (dk_at dksX13_roomFor_0 10 rfl rfl)
theorem dX13_roomFor_11 : decode cX13_roomFor 11 = .ok (.getfield 228, 3) := dk_180 0 228 (dk_at dksX13_roomFor_0 11 rfl rfl)
theorem dX13_roomFor_14 : decode cX13_roomFor 14 = .ok (.ifCond .ne 7, 3) := dk_154 0 7 (dk_at dksX13_roomFor_0 14 rfl rfl)
theorem dX13_roomFor_17 : decode cX13_roomFor 17 = .ok (.aload_n 0, 1) := dk_42 (dk_at dksX13_roomFor_0 17 rfl rfl)
theorem dX13_roomFor_18 : decode cX13_roomFor 18 = .ok (.invokevirtual 249, 3) := dk_182 0 249 (dk_at dksX13_roomFor_0 18 rfl rfl)
theorem dX13_roomFor_21 : decode cX13_roomFor 21 = .ok (.return_, 1) := dk_177 (dk_at dksX13_roomFor_0 21 rfl rfl)
abbrev cX13_tellMan : ByteArray := prog_21_method_28_code
def yX13_tellMan : MethodName := ⟨RX13, "tellMan", "()V"⟩
def dkwX13_tellMan_6 : List UInt8 := [42, 180, 1, 5, 92, 46, 4, 96, 79, 177]
abbrev dktX13_tellMan_6 : List UInt8 := dkwX13_tellMan_6 ++ []
def dkwX13_tellMan_5 : List UInt8 := [180, 1, 8, 42, 180, 0, 30, 28, 47, 80, 42, 89, 180, 1, 8, 4, 96, 181, 1, 8, 42, 180, 0, 49]
abbrev dktX13_tellMan_5 : List UInt8 := dkwX13_tellMan_5 ++ dktX13_tellMan_6
def dkwX13_tellMan_4 : List UInt8 := [177, 42, 29, 42, 180, 0, 52, 27, 46, 42, 180, 0, 55, 27, 46, 182, 1, 62, 42, 180, 0, 40, 42]
abbrev dktX13_tellMan_4 : List UInt8 := dkwX13_tellMan_4 ++ dktX13_tellMan_5
def dkwX13_tellMan_3 : List UInt8 := [180, 0, 55, 27, 42, 3, 16, 11, 182, 1, 33, 79, 42, 7, 182, 1, 37, 42, 180, 0, 228, 158, 0, 4]
abbrev dktX13_tellMan_3 : List UInt8 := dkwX13_tellMan_3 ++ dktX13_tellMan_4
def dkwX13_tellMan_2 : List UInt8 := [182, 1, 23, 42, 180, 0, 231, 62, 42, 180, 0, 52, 27, 42, 3, 16, 11, 182, 1, 33, 79, 42]
abbrev dktX13_tellMan_2 : List UInt8 := dkwX13_tellMan_2 ++ dktX13_tellMan_3
def dkwX13_tellMan_1 : List UInt8 := [4, 182, 1, 37, 42, 180, 0, 228, 154, 0, 17, 42, 28, 182, 1, 59, 155, 0, 9, 42, 6, 28]
abbrev dktX13_tellMan_1 : List UInt8 := dkwX13_tellMan_1 ++ dktX13_tellMan_2
def dkwX13_tellMan_0 : List UInt8 := [16, 7, 42, 180, 1, 5, 104, 42, 180, 0, 49, 42, 180, 1, 5, 46, 96, 60, 42, 180, 0, 231, 61, 42]
abbrev dktX13_tellMan_0 : List UInt8 := dkwX13_tellMan_0 ++ dktX13_tellMan_1
theorem dksX13_tellMan_0 : cX13_tellMan.data.toList.drop 0 = dktX13_tellMan_0 := by decide +kernel
theorem dksX13_tellMan_1 : cX13_tellMan.data.toList.drop 24 = dktX13_tellMan_1 := dk_seg dksX13_tellMan_0 24 rfl rfl
theorem dksX13_tellMan_2 : cX13_tellMan.data.toList.drop 46 = dktX13_tellMan_2 := dk_seg dksX13_tellMan_1 22 rfl rfl
theorem dksX13_tellMan_3 : cX13_tellMan.data.toList.drop 68 = dktX13_tellMan_3 := dk_seg dksX13_tellMan_2 22 rfl rfl
theorem dksX13_tellMan_4 : cX13_tellMan.data.toList.drop 92 = dktX13_tellMan_4 := dk_seg dksX13_tellMan_3 24 rfl rfl
theorem dksX13_tellMan_5 : cX13_tellMan.data.toList.drop 115 = dktX13_tellMan_5 := dk_seg dksX13_tellMan_4 23 rfl rfl
theorem dksX13_tellMan_6 : cX13_tellMan.data.toList.drop 139 = dktX13_tellMan_6 := dk_seg dksX13_tellMan_5 24 rfl rfl
theorem dX13_tellMan_0 : decode cX13_tellMan 0 = .ok (.bipush 7, 2) := dk_16 7 (dk_at dksX13_tellMan_0 0 rfl rfl)
theorem dX13_tellMan_2 : decode cX13_tellMan 2 = .ok (.aload_n 0, 1) := dk_42 (dk_at dksX13_tellMan_0 2 rfl rfl)
theorem dX13_tellMan_3 : decode cX13_tellMan 3 = .ok (.getfield 261, 3) := dk_180 1 5 (dk_at dksX13_tellMan_0 3 rfl rfl)
theorem dX13_tellMan_6 : decode cX13_tellMan 6 = .ok (.imul, 1) := dk_104 (dk_at dksX13_tellMan_0 6 rfl rfl)
theorem dX13_tellMan_7 : decode cX13_tellMan 7 = .ok (.aload_n 0, 1) := dk_42 (dk_at dksX13_tellMan_0 7 rfl rfl)
theorem dX13_tellMan_8 : decode cX13_tellMan 8 = .ok (.getfield 49, 3) := dk_180 0 49 (dk_at dksX13_tellMan_0 8 rfl rfl)
theorem dX13_tellMan_11 : decode cX13_tellMan 11 = .ok (.aload_n 0, 1) := dk_42 (dk_at dksX13_tellMan_0 11 rfl rfl)
theorem dX13_tellMan_12 : decode cX13_tellMan 12 = .ok (.getfield 261, 3) := dk_180 1 5 (dk_at dksX13_tellMan_0 12 rfl rfl)
theorem dX13_tellMan_15 : decode cX13_tellMan 15 = .ok (.iaload, 1) := dk_46 (dk_at dksX13_tellMan_0 15 rfl rfl)
theorem dX13_tellMan_16 : decode cX13_tellMan 16 = .ok (.iadd, 1) := dk_96 (dk_at dksX13_tellMan_0 16 rfl rfl)
theorem dX13_tellMan_17 : decode cX13_tellMan 17 = .ok (.istore_n 1, 1) := dk_60 (dk_at dksX13_tellMan_0 17 rfl rfl)
theorem dX13_tellMan_18 : decode cX13_tellMan 18 = .ok (.aload_n 0, 1) := dk_42 (dk_at dksX13_tellMan_0 18 rfl rfl)
theorem dX13_tellMan_19 : decode cX13_tellMan 19 = .ok (.getfield 231, 3) := dk_180 0 231 (dk_at dksX13_tellMan_0 19 rfl rfl)
theorem dX13_tellMan_22 : decode cX13_tellMan 22 = .ok (.istore_n 2, 1) := dk_61 (dk_at dksX13_tellMan_0 22 rfl rfl)
theorem dX13_tellMan_23 : decode cX13_tellMan 23 = .ok (.aload_n 0, 1) := dk_42 (dk_at dksX13_tellMan_0 23 rfl rfl)
theorem dX13_tellMan_24 : decode cX13_tellMan 24 = .ok (.iconst 1, 1) := dk_4 (dk_at dksX13_tellMan_1 0 rfl rfl)
theorem dX13_tellMan_25 : decode cX13_tellMan 25 = .ok (.invokevirtual 293, 3) := dk_182 1 37 (dk_at dksX13_tellMan_1 1 rfl rfl)
theorem dX13_tellMan_28 : decode cX13_tellMan 28 = .ok (.aload_n 0, 1) := dk_42 (dk_at dksX13_tellMan_1 4 rfl rfl)
theorem dX13_tellMan_29 : decode cX13_tellMan 29 = .ok (.getfield 228, 3) := dk_180 0 228 (dk_at dksX13_tellMan_1 5 rfl rfl)
theorem dX13_tellMan_32 : decode cX13_tellMan 32 = .ok (.ifCond .ne 17, 3) := dk_154 0 17 (dk_at dksX13_tellMan_1 8 rfl rfl)
theorem dX13_tellMan_35 : decode cX13_tellMan 35 = .ok (.aload_n 0, 1) := dk_42 (dk_at dksX13_tellMan_1 11 rfl rfl)
theorem dX13_tellMan_36 : decode cX13_tellMan 36 = .ok (.iload_n 2, 1) := dk_28 (dk_at dksX13_tellMan_1 12 rfl rfl)
theorem dX13_tellMan_37 : decode cX13_tellMan 37 = .ok (.invokevirtual 315, 3) := dk_182 1 59 (dk_at dksX13_tellMan_1 13 rfl rfl)
theorem dX13_tellMan_40 : decode cX13_tellMan 40 = .ok (.ifCond .lt 9, 3) := dk_155 0 9 (dk_at dksX13_tellMan_1 16 rfl rfl)
theorem dX13_tellMan_43 : decode cX13_tellMan 43 = .ok (.aload_n 0, 1) := dk_42 (dk_at dksX13_tellMan_1 19 rfl rfl)
theorem dX13_tellMan_44 : decode cX13_tellMan 44 = .ok (.iconst 3, 1) := dk_6 (dk_at dksX13_tellMan_1 20 rfl rfl)
theorem dX13_tellMan_45 : decode cX13_tellMan 45 = .ok (.iload_n 2, 1) := dk_28 (dk_at dksX13_tellMan_1 21 rfl rfl)
theorem dX13_tellMan_46 : decode cX13_tellMan 46 = .ok (.invokevirtual 279, 3) := dk_182 1 23 (dk_at dksX13_tellMan_2 0 rfl rfl)
theorem dX13_tellMan_49 : decode cX13_tellMan 49 = .ok (.aload_n 0, 1) := dk_42 (dk_at dksX13_tellMan_2 3 rfl rfl)
theorem dX13_tellMan_50 : decode cX13_tellMan 50 = .ok (.getfield 231, 3) := dk_180 0 231 (dk_at dksX13_tellMan_2 4 rfl rfl)
theorem dX13_tellMan_53 : decode cX13_tellMan 53 = .ok (.istore_n 3, 1) := dk_62 (dk_at dksX13_tellMan_2 7 rfl rfl)
theorem dX13_tellMan_54 : decode cX13_tellMan 54 = .ok (.aload_n 0, 1) := dk_42 (dk_at dksX13_tellMan_2 8 rfl rfl)
theorem dX13_tellMan_55 : decode cX13_tellMan 55 = .ok (.getfield 52, 3) := dk_180 0 52 (dk_at dksX13_tellMan_2 9 rfl rfl)
theorem dX13_tellMan_58 : decode cX13_tellMan 58 = .ok (.iload_n 1, 1) := dk_27 (dk_at dksX13_tellMan_2 12 rfl rfl)
theorem dX13_tellMan_59 : decode cX13_tellMan 59 = .ok (.aload_n 0, 1) := dk_42 (dk_at dksX13_tellMan_2 13 rfl rfl)
theorem dX13_tellMan_60 : decode cX13_tellMan 60 = .ok (.iconst 0, 1) := dk_3 (dk_at dksX13_tellMan_2 14 rfl rfl)
theorem dX13_tellMan_61 : decode cX13_tellMan 61 = .ok (.bipush 11, 2) := dk_16 11 (dk_at dksX13_tellMan_2 15 rfl rfl)
theorem dX13_tellMan_63 : decode cX13_tellMan 63 = .ok (.invokevirtual 289, 3) := dk_182 1 33 (dk_at dksX13_tellMan_2 17 rfl rfl)
theorem dX13_tellMan_66 : decode cX13_tellMan 66 = .ok (.iastore, 1) := dk_79 (dk_at dksX13_tellMan_2 20 rfl rfl)
theorem dX13_tellMan_67 : decode cX13_tellMan 67 = .ok (.aload_n 0, 1) := dk_42 (dk_at dksX13_tellMan_2 21 rfl rfl)
theorem dX13_tellMan_68 : decode cX13_tellMan 68 = .ok (.getfield 55, 3) := dk_180 0 55 (dk_at dksX13_tellMan_3 0 rfl rfl)
theorem dX13_tellMan_71 : decode cX13_tellMan 71 = .ok (.iload_n 1, 1) := dk_27 (dk_at dksX13_tellMan_3 3 rfl rfl)
theorem dX13_tellMan_72 : decode cX13_tellMan 72 = .ok (.aload_n 0, 1) := dk_42 (dk_at dksX13_tellMan_3 4 rfl rfl)
theorem dX13_tellMan_73 : decode cX13_tellMan 73 = .ok (.iconst 0, 1) := dk_3 (dk_at dksX13_tellMan_3 5 rfl rfl)
theorem dX13_tellMan_74 : decode cX13_tellMan 74 = .ok (.bipush 11, 2) := dk_16 11 (dk_at dksX13_tellMan_3 6 rfl rfl)
theorem dX13_tellMan_76 : decode cX13_tellMan 76 = .ok (.invokevirtual 289, 3) := dk_182 1 33 (dk_at dksX13_tellMan_3 8 rfl rfl)
theorem dX13_tellMan_79 : decode cX13_tellMan 79 = .ok (.iastore, 1) := dk_79 (dk_at dksX13_tellMan_3 11 rfl rfl)
theorem dX13_tellMan_80 : decode cX13_tellMan 80 = .ok (.aload_n 0, 1) := dk_42 (dk_at dksX13_tellMan_3 12 rfl rfl)
theorem dX13_tellMan_81 : decode cX13_tellMan 81 = .ok (.iconst 4, 1) := dk_7 (dk_at dksX13_tellMan_3 13 rfl rfl)
theorem dX13_tellMan_82 : decode cX13_tellMan 82 = .ok (.invokevirtual 293, 3) := dk_182 1 37 (dk_at dksX13_tellMan_3 14 rfl rfl)
theorem dX13_tellMan_85 : decode cX13_tellMan 85 = .ok (.aload_n 0, 1) := dk_42 (dk_at dksX13_tellMan_3 17 rfl rfl)
theorem dX13_tellMan_86 : decode cX13_tellMan 86 = .ok (.getfield 228, 3) := dk_180 0 228 (dk_at dksX13_tellMan_3 18 rfl rfl)
theorem dX13_tellMan_89 : decode cX13_tellMan 89 = .ok (.ifCond .le 4, 3) := dk_158 0 4 (dk_at dksX13_tellMan_3 21 rfl rfl)
theorem dX13_tellMan_92 : decode cX13_tellMan 92 = .ok (.return_, 1) := dk_177 (dk_at dksX13_tellMan_4 0 rfl rfl)
theorem dX13_tellMan_93 : decode cX13_tellMan 93 = .ok (.aload_n 0, 1) := dk_42 (dk_at dksX13_tellMan_4 1 rfl rfl)
theorem dX13_tellMan_94 : decode cX13_tellMan 94 = .ok (.iload_n 3, 1) := dk_29 (dk_at dksX13_tellMan_4 2 rfl rfl)
theorem dX13_tellMan_95 : decode cX13_tellMan 95 = .ok (.aload_n 0, 1) := dk_42 (dk_at dksX13_tellMan_4 3 rfl rfl)
theorem dX13_tellMan_96 : decode cX13_tellMan 96 = .ok (.getfield 52, 3) := dk_180 0 52 (dk_at dksX13_tellMan_4 4 rfl rfl)
theorem dX13_tellMan_99 : decode cX13_tellMan 99 = .ok (.iload_n 1, 1) := dk_27 (dk_at dksX13_tellMan_4 7 rfl rfl)
theorem dX13_tellMan_100 : decode cX13_tellMan 100 = .ok (.iaload, 1) := dk_46 (dk_at dksX13_tellMan_4 8 rfl rfl)
theorem dX13_tellMan_101 : decode cX13_tellMan 101 = .ok (.aload_n 0, 1) := dk_42 (dk_at dksX13_tellMan_4 9 rfl rfl)
theorem dX13_tellMan_102 : decode cX13_tellMan 102 = .ok (.getfield 55, 3) := dk_180 0 55 (dk_at dksX13_tellMan_4 10 rfl rfl)
theorem dX13_tellMan_105 : decode cX13_tellMan 105 = .ok (.iload_n 1, 1) := dk_27 (dk_at dksX13_tellMan_4 13 rfl rfl)
theorem dX13_tellMan_106 : decode cX13_tellMan 106 = .ok (.iaload, 1) := dk_46 (dk_at dksX13_tellMan_4 14 rfl rfl)
theorem dX13_tellMan_107 : decode cX13_tellMan 107 = .ok (.invokevirtual 318, 3) := dk_182 1 62 (dk_at dksX13_tellMan_4 15 rfl rfl)
theorem dX13_tellMan_110 : decode cX13_tellMan 110 = .ok (.aload_n 0, 1) := dk_42 (dk_at dksX13_tellMan_4 18 rfl rfl)
theorem dX13_tellMan_111 : decode cX13_tellMan 111 = .ok (.getfield 40, 3) := dk_180 0 40 (dk_at dksX13_tellMan_4 19 rfl rfl)
theorem dX13_tellMan_114 : decode cX13_tellMan 114 = .ok (.aload_n 0, 1) := dk_42 (dk_at dksX13_tellMan_4 22 rfl rfl)
theorem dX13_tellMan_115 : decode cX13_tellMan 115 = .ok (.getfield 264, 3) := dk_180 1 8 (dk_at dksX13_tellMan_5 0 rfl rfl)
theorem dX13_tellMan_118 : decode cX13_tellMan 118 = .ok (.aload_n 0, 1) := dk_42 (dk_at dksX13_tellMan_5 3 rfl rfl)
theorem dX13_tellMan_119 : decode cX13_tellMan 119 = .ok (.getfield 30, 3) := dk_180 0 30 (dk_at dksX13_tellMan_5 4 rfl rfl)
theorem dX13_tellMan_122 : decode cX13_tellMan 122 = .ok (.iload_n 2, 1) := dk_28 (dk_at dksX13_tellMan_5 7 rfl rfl)
theorem dX13_tellMan_123 : decode cX13_tellMan 123 = .ok (.laload, 1) := dk_47 (dk_at dksX13_tellMan_5 8 rfl rfl)
theorem dX13_tellMan_124 : decode cX13_tellMan 124 = .ok (.lastore, 1) := dk_80 (dk_at dksX13_tellMan_5 9 rfl rfl)
theorem dX13_tellMan_125 : decode cX13_tellMan 125 = .ok (.aload_n 0, 1) := dk_42 (dk_at dksX13_tellMan_5 10 rfl rfl)
theorem dX13_tellMan_126 : decode cX13_tellMan 126 = .ok (.dup, 1) := dk_89 (dk_at dksX13_tellMan_5 11 rfl rfl)
theorem dX13_tellMan_127 : decode cX13_tellMan 127 = .ok (.getfield 264, 3) := dk_180 1 8 (dk_at dksX13_tellMan_5 12 rfl rfl)
theorem dX13_tellMan_130 : decode cX13_tellMan 130 = .ok (.iconst 1, 1) := dk_4 (dk_at dksX13_tellMan_5 15 rfl rfl)
theorem dX13_tellMan_131 : decode cX13_tellMan 131 = .ok (.iadd, 1) := dk_96 (dk_at dksX13_tellMan_5 16 rfl rfl)
theorem dX13_tellMan_132 : decode cX13_tellMan 132 = .ok (.putfield 264, 3) := dk_181 1 8 (dk_at dksX13_tellMan_5 17 rfl rfl)
theorem dX13_tellMan_135 : decode cX13_tellMan 135 = .ok (.aload_n 0, 1) := dk_42 (dk_at dksX13_tellMan_5 20 rfl rfl)
theorem dX13_tellMan_136 : decode cX13_tellMan 136 = .ok (.getfield 49, 3) := dk_180 0 49 (dk_at dksX13_tellMan_5 21 rfl rfl)
theorem dX13_tellMan_139 : decode cX13_tellMan 139 = .ok (.aload_n 0, 1) := dk_42 (dk_at dksX13_tellMan_6 0 rfl rfl)
theorem dX13_tellMan_140 : decode cX13_tellMan 140 = .ok (.getfield 261, 3) := dk_180 1 5 (dk_at dksX13_tellMan_6 1 rfl rfl)
theorem dX13_tellMan_143 : decode cX13_tellMan 143 = .ok (.dup2, 1) := dk_92 (dk_at dksX13_tellMan_6 4 rfl rfl)
theorem dX13_tellMan_144 : decode cX13_tellMan 144 = .ok (.iaload, 1) := dk_46 (dk_at dksX13_tellMan_6 5 rfl rfl)
theorem dX13_tellMan_145 : decode cX13_tellMan 145 = .ok (.iconst 1, 1) := dk_4 (dk_at dksX13_tellMan_6 6 rfl rfl)
theorem dX13_tellMan_146 : decode cX13_tellMan 146 = .ok (.iadd, 1) := dk_96 (dk_at dksX13_tellMan_6 7 rfl rfl)
theorem dX13_tellMan_147 : decode cX13_tellMan 147 = .ok (.iastore, 1) := dk_79 (dk_at dksX13_tellMan_6 8 rfl rfl)
theorem dX13_tellMan_148 : decode cX13_tellMan 148 = .ok (.return_, 1) := dk_177 (dk_at dksX13_tellMan_6 9 rfl rfl)
abbrev cX13_manAt : ByteArray := prog_21_method_24_code
def yX13_manAt : MethodName := ⟨RX13, "manAt", "(I)I"⟩
def dkwX13_manAt_1 : List UInt8 := [28, 47, 42, 180, 0, 30, 27, 47, 148, 154, 0, 5, 28, 172, 132, 2, 1, 167, 255, 227, 2, 172]
abbrev dktX13_manAt_1 : List UInt8 := dkwX13_manAt_1 ++ []
def dkwX13_manAt_0 : List UInt8 := [42, 180, 0, 20, 27, 46, 4, 160, 0, 37, 3, 61, 28, 42, 180, 1, 8, 162, 0, 27, 42, 180, 0, 40]
abbrev dktX13_manAt_0 : List UInt8 := dkwX13_manAt_0 ++ dktX13_manAt_1
theorem dksX13_manAt_0 : cX13_manAt.data.toList.drop 0 = dktX13_manAt_0 := by decide +kernel
theorem dksX13_manAt_1 : cX13_manAt.data.toList.drop 24 = dktX13_manAt_1 := dk_seg dksX13_manAt_0 24 rfl rfl
theorem dX13_manAt_0 : decode cX13_manAt 0 = .ok (.aload_n 0, 1) := dk_42 (dk_at dksX13_manAt_0 0 rfl rfl)
theorem dX13_manAt_1 : decode cX13_manAt 1 = .ok (.getfield 20, 3) := dk_180 0 20 (dk_at dksX13_manAt_0 1 rfl rfl)
theorem dX13_manAt_4 : decode cX13_manAt 4 = .ok (.iload_n 1, 1) := dk_27 (dk_at dksX13_manAt_0 4 rfl rfl)
theorem dX13_manAt_5 : decode cX13_manAt 5 = .ok (.iaload, 1) := dk_46 (dk_at dksX13_manAt_0 5 rfl rfl)
theorem dX13_manAt_6 : decode cX13_manAt 6 = .ok (.iconst 1, 1) := dk_4 (dk_at dksX13_manAt_0 6 rfl rfl)
theorem dX13_manAt_7 : decode cX13_manAt 7 = .ok (.if_icmp .ne 37, 3) := dk_160 0 37 (dk_at dksX13_manAt_0 7 rfl rfl)
theorem dX13_manAt_10 : decode cX13_manAt 10 = .ok (.iconst 0, 1) := dk_3 (dk_at dksX13_manAt_0 10 rfl rfl)
theorem dX13_manAt_11 : decode cX13_manAt 11 = .ok (.istore_n 2, 1) := dk_61 (dk_at dksX13_manAt_0 11 rfl rfl)
theorem dX13_manAt_12 : decode cX13_manAt 12 = .ok (.iload_n 2, 1) := dk_28 (dk_at dksX13_manAt_0 12 rfl rfl)
theorem dX13_manAt_13 : decode cX13_manAt 13 = .ok (.aload_n 0, 1) := dk_42 (dk_at dksX13_manAt_0 13 rfl rfl)
theorem dX13_manAt_14 : decode cX13_manAt 14 = .ok (.getfield 264, 3) := dk_180 1 8 (dk_at dksX13_manAt_0 14 rfl rfl)
theorem dX13_manAt_17 : decode cX13_manAt 17 = .ok (.if_icmp .ge 27, 3) := dk_162 0 27 (dk_at dksX13_manAt_0 17 rfl rfl)
theorem dX13_manAt_20 : decode cX13_manAt 20 = .ok (.aload_n 0, 1) := dk_42 (dk_at dksX13_manAt_0 20 rfl rfl)
theorem dX13_manAt_21 : decode cX13_manAt 21 = .ok (.getfield 40, 3) := dk_180 0 40 (dk_at dksX13_manAt_0 21 rfl rfl)
theorem dX13_manAt_24 : decode cX13_manAt 24 = .ok (.iload_n 2, 1) := dk_28 (dk_at dksX13_manAt_1 0 rfl rfl)
theorem dX13_manAt_25 : decode cX13_manAt 25 = .ok (.laload, 1) := dk_47 (dk_at dksX13_manAt_1 1 rfl rfl)
theorem dX13_manAt_26 : decode cX13_manAt 26 = .ok (.aload_n 0, 1) := dk_42 (dk_at dksX13_manAt_1 2 rfl rfl)
theorem dX13_manAt_27 : decode cX13_manAt 27 = .ok (.getfield 30, 3) := dk_180 0 30 (dk_at dksX13_manAt_1 3 rfl rfl)
theorem dX13_manAt_30 : decode cX13_manAt 30 = .ok (.iload_n 1, 1) := dk_27 (dk_at dksX13_manAt_1 6 rfl rfl)
theorem dX13_manAt_31 : decode cX13_manAt 31 = .ok (.laload, 1) := dk_47 (dk_at dksX13_manAt_1 7 rfl rfl)
theorem dX13_manAt_32 : decode cX13_manAt 32 = .ok (.lcmp, 1) := dk_148 (dk_at dksX13_manAt_1 8 rfl rfl)
theorem dX13_manAt_33 : decode cX13_manAt 33 = .ok (.ifCond .ne 5, 3) := dk_154 0 5 (dk_at dksX13_manAt_1 9 rfl rfl)
theorem dX13_manAt_36 : decode cX13_manAt 36 = .ok (.iload_n 2, 1) := dk_28 (dk_at dksX13_manAt_1 12 rfl rfl)
theorem dX13_manAt_37 : decode cX13_manAt 37 = .ok (.ireturn, 1) := dk_172 (dk_at dksX13_manAt_1 13 rfl rfl)
theorem dX13_manAt_38 : decode cX13_manAt 38 = .ok (.iinc 2 1, 3) := dk_132 2 1 (dk_at dksX13_manAt_1 14 rfl rfl)
theorem dX13_manAt_41 : decode cX13_manAt 41 = .ok (.goto (-29), 3) := dk_167 255 227 (dk_at dksX13_manAt_1 17 rfl rfl)
theorem dX13_manAt_44 : decode cX13_manAt 44 = .ok (.iconst (-1), 1) := dk_2 (dk_at dksX13_manAt_1 20 rfl rfl)
theorem dX13_manAt_45 : decode cX13_manAt 45 = .ok (.ireturn, 1) := dk_172 (dk_at dksX13_manAt_1 21 rfl rfl)
abbrev cX13_notesCorner : ByteArray := prog_21_method_27_code
def yX13_notesCorner : MethodName := ⟨RX13, "notesCorner", "(III)V"⟩
def dkwX13_notesCorner_1 : List UInt8 := [42, 180, 1, 11, 27, 79, 42, 89, 180, 1, 11, 4, 96, 181, 1, 11, 177]
abbrev dktX13_notesCorner_1 : List UInt8 := dkwX13_notesCorner_1 ++ []
def dkwX13_notesCorner_0 : List UInt8 := [42, 180, 0, 82, 42, 180, 1, 11, 28, 79, 42, 180, 0, 85, 42, 180, 1, 11, 29, 79, 42, 180, 0, 88]
abbrev dktX13_notesCorner_0 : List UInt8 := dkwX13_notesCorner_0 ++ dktX13_notesCorner_1
theorem dksX13_notesCorner_0 : cX13_notesCorner.data.toList.drop 0 = dktX13_notesCorner_0 := by decide +kernel
theorem dksX13_notesCorner_1 : cX13_notesCorner.data.toList.drop 24 = dktX13_notesCorner_1 := dk_seg dksX13_notesCorner_0 24 rfl rfl
theorem dX13_notesCorner_0 : decode cX13_notesCorner 0 = .ok (.aload_n 0, 1) := dk_42 (dk_at dksX13_notesCorner_0 0 rfl rfl)
theorem dX13_notesCorner_1 : decode cX13_notesCorner 1 = .ok (.getfield 82, 3) := dk_180 0 82 (dk_at dksX13_notesCorner_0 1 rfl rfl)
theorem dX13_notesCorner_4 : decode cX13_notesCorner 4 = .ok (.aload_n 0, 1) := dk_42 (dk_at dksX13_notesCorner_0 4 rfl rfl)
theorem dX13_notesCorner_5 : decode cX13_notesCorner 5 = .ok (.getfield 267, 3) := dk_180 1 11 (dk_at dksX13_notesCorner_0 5 rfl rfl)
theorem dX13_notesCorner_8 : decode cX13_notesCorner 8 = .ok (.iload_n 2, 1) := dk_28 (dk_at dksX13_notesCorner_0 8 rfl rfl)
theorem dX13_notesCorner_9 : decode cX13_notesCorner 9 = .ok (.iastore, 1) := dk_79 (dk_at dksX13_notesCorner_0 9 rfl rfl)
theorem dX13_notesCorner_10 : decode cX13_notesCorner 10 = .ok (.aload_n 0, 1) := dk_42 (dk_at dksX13_notesCorner_0 10 rfl rfl)
theorem dX13_notesCorner_11 : decode cX13_notesCorner 11 = .ok (.getfield 85, 3) := dk_180 0 85 (dk_at dksX13_notesCorner_0 11 rfl rfl)
theorem dX13_notesCorner_14 : decode cX13_notesCorner 14 = .ok (.aload_n 0, 1) := dk_42 (dk_at dksX13_notesCorner_0 14 rfl rfl)
theorem dX13_notesCorner_15 : decode cX13_notesCorner 15 = .ok (.getfield 267, 3) := dk_180 1 11 (dk_at dksX13_notesCorner_0 15 rfl rfl)
theorem dX13_notesCorner_18 : decode cX13_notesCorner 18 = .ok (.iload_n 3, 1) := dk_29 (dk_at dksX13_notesCorner_0 18 rfl rfl)
theorem dX13_notesCorner_19 : decode cX13_notesCorner 19 = .ok (.iastore, 1) := dk_79 (dk_at dksX13_notesCorner_0 19 rfl rfl)
theorem dX13_notesCorner_20 : decode cX13_notesCorner 20 = .ok (.aload_n 0, 1) := dk_42 (dk_at dksX13_notesCorner_0 20 rfl rfl)
theorem dX13_notesCorner_21 : decode cX13_notesCorner 21 = .ok (.getfield 88, 3) := dk_180 0 88 (dk_at dksX13_notesCorner_0 21 rfl rfl)
theorem dX13_notesCorner_24 : decode cX13_notesCorner 24 = .ok (.aload_n 0, 1) := dk_42 (dk_at dksX13_notesCorner_1 0 rfl rfl)
theorem dX13_notesCorner_25 : decode cX13_notesCorner 25 = .ok (.getfield 267, 3) := dk_180 1 11 (dk_at dksX13_notesCorner_1 1 rfl rfl)
theorem dX13_notesCorner_28 : decode cX13_notesCorner 28 = .ok (.iload_n 1, 1) := dk_27 (dk_at dksX13_notesCorner_1 4 rfl rfl)
theorem dX13_notesCorner_29 : decode cX13_notesCorner 29 = .ok (.iastore, 1) := dk_79 (dk_at dksX13_notesCorner_1 5 rfl rfl)
theorem dX13_notesCorner_30 : decode cX13_notesCorner 30 = .ok (.aload_n 0, 1) := dk_42 (dk_at dksX13_notesCorner_1 6 rfl rfl)
theorem dX13_notesCorner_31 : decode cX13_notesCorner 31 = .ok (.dup, 1) := dk_89 (dk_at dksX13_notesCorner_1 7 rfl rfl)
theorem dX13_notesCorner_32 : decode cX13_notesCorner 32 = .ok (.getfield 267, 3) := dk_180 1 11 (dk_at dksX13_notesCorner_1 8 rfl rfl)
theorem dX13_notesCorner_35 : decode cX13_notesCorner 35 = .ok (.iconst 1, 1) := dk_4 (dk_at dksX13_notesCorner_1 11 rfl rfl)
theorem dX13_notesCorner_36 : decode cX13_notesCorner 36 = .ok (.iadd, 1) := dk_96 (dk_at dksX13_notesCorner_1 12 rfl rfl)
theorem dX13_notesCorner_37 : decode cX13_notesCorner 37 = .ok (.putfield 267, 3) := dk_181 1 11 (dk_at dksX13_notesCorner_1 13 rfl rfl)
theorem dX13_notesCorner_40 : decode cX13_notesCorner 40 = .ok (.return_, 1) := dk_177 (dk_at dksX13_notesCorner_1 16 rfl rfl)
abbrev cX13_known : ByteArray := prog_21_method_25_code
def yX13_known : MethodName := ⟨RX13, "known", "()I"⟩
def dkwX13_known_1 : List UInt8 := [61, 28, 156, 0, 9, 42, 7, 27, 182, 1, 23, 28, 172]
abbrev dktX13_known_1 : List UInt8 := dkwX13_known_1 ++ []
def dkwX13_known_0 : List UInt8 := [42, 180, 0, 231, 60, 42, 4, 182, 1, 37, 42, 180, 0, 228, 158, 0, 5, 2, 172, 42, 27, 182, 1, 59]
abbrev dktX13_known_0 : List UInt8 := dkwX13_known_0 ++ dktX13_known_1
theorem dksX13_known_0 : cX13_known.data.toList.drop 0 = dktX13_known_0 := by decide +kernel
theorem dksX13_known_1 : cX13_known.data.toList.drop 24 = dktX13_known_1 := dk_seg dksX13_known_0 24 rfl rfl
theorem dX13_known_0 : decode cX13_known 0 = .ok (.aload_n 0, 1) := dk_42 (dk_at dksX13_known_0 0 rfl rfl)
theorem dX13_known_1 : decode cX13_known 1 = .ok (.getfield 231, 3) := dk_180 0 231 (dk_at dksX13_known_0 1 rfl rfl)
theorem dX13_known_4 : decode cX13_known 4 = .ok (.istore_n 1, 1) := dk_60 (dk_at dksX13_known_0 4 rfl rfl)
theorem dX13_known_5 : decode cX13_known 5 = .ok (.aload_n 0, 1) := dk_42 (dk_at dksX13_known_0 5 rfl rfl)
theorem dX13_known_6 : decode cX13_known 6 = .ok (.iconst 1, 1) := dk_4 (dk_at dksX13_known_0 6 rfl rfl)
theorem dX13_known_7 : decode cX13_known 7 = .ok (.invokevirtual 293, 3) := dk_182 1 37 (dk_at dksX13_known_0 7 rfl rfl)
theorem dX13_known_10 : decode cX13_known 10 = .ok (.aload_n 0, 1) := dk_42 (dk_at dksX13_known_0 10 rfl rfl)
theorem dX13_known_11 : decode cX13_known 11 = .ok (.getfield 228, 3) := dk_180 0 228 (dk_at dksX13_known_0 11 rfl rfl)
theorem dX13_known_14 : decode cX13_known 14 = .ok (.ifCond .le 5, 3) := dk_158 0 5 (dk_at dksX13_known_0 14 rfl rfl)
theorem dX13_known_17 : decode cX13_known 17 = .ok (.iconst (-1), 1) := dk_2 (dk_at dksX13_known_0 17 rfl rfl)
theorem dX13_known_18 : decode cX13_known 18 = .ok (.ireturn, 1) := dk_172 (dk_at dksX13_known_0 18 rfl rfl)
theorem dX13_known_19 : decode cX13_known 19 = .ok (.aload_n 0, 1) := dk_42 (dk_at dksX13_known_0 19 rfl rfl)
theorem dX13_known_20 : decode cX13_known 20 = .ok (.iload_n 1, 1) := dk_27 (dk_at dksX13_known_0 20 rfl rfl)
theorem dX13_known_21 : decode cX13_known 21 = .ok (.invokevirtual 315, 3) := dk_182 1 59 (dk_at dksX13_known_0 21 rfl rfl)
theorem dX13_known_24 : decode cX13_known 24 = .ok (.istore_n 2, 1) := dk_61 (dk_at dksX13_known_1 0 rfl rfl)
theorem dX13_known_25 : decode cX13_known 25 = .ok (.iload_n 2, 1) := dk_28 (dk_at dksX13_known_1 1 rfl rfl)
theorem dX13_known_26 : decode cX13_known 26 = .ok (.ifCond .ge 9, 3) := dk_156 0 9 (dk_at dksX13_known_1 2 rfl rfl)
theorem dX13_known_29 : decode cX13_known 29 = .ok (.aload_n 0, 1) := dk_42 (dk_at dksX13_known_1 5 rfl rfl)
theorem dX13_known_30 : decode cX13_known 30 = .ok (.iconst 4, 1) := dk_7 (dk_at dksX13_known_1 6 rfl rfl)
theorem dX13_known_31 : decode cX13_known 31 = .ok (.iload_n 1, 1) := dk_27 (dk_at dksX13_known_1 7 rfl rfl)
theorem dX13_known_32 : decode cX13_known 32 = .ok (.invokevirtual 279, 3) := dk_182 1 23 (dk_at dksX13_known_1 8 rfl rfl)
theorem dX13_known_35 : decode cX13_known 35 = .ok (.iload_n 2, 1) := dk_28 (dk_at dksX13_known_1 11 rfl rfl)
theorem dX13_known_36 : decode cX13_known 36 = .ok (.ireturn, 1) := dk_172 (dk_at dksX13_known_1 12 rfl rfl)
abbrev cX13_tellLaw : ByteArray := prog_21_method_31_code
def yX13_tellLaw : MethodName := ⟨RX13, "tellLaw", "(I)V"⟩
def dkwX13_tellLaw_8 : List UInt8 := [104, 27, 96, 42, 180, 1, 14, 79, 177]
abbrev dktX13_tellLaw_8 : List UInt8 := dkwX13_tellLaw_8 ++ []
def dkwX13_tellLaw_7 : List UInt8 := [180, 0, 91, 16, 8, 42, 180, 1, 5, 104, 27, 96, 28, 79, 42, 180, 0, 94, 16, 8, 42, 180, 1, 5]
abbrev dktX13_tellLaw_7 : List UInt8 := dkwX13_tellLaw_7 ++ dktX13_tellLaw_8
def dkwX13_tellLaw_6 : List UInt8 := [3, 84, 42, 182, 1, 69, 42, 7, 182, 1, 37, 42, 180, 0, 228, 157, 0, 7, 27, 156, 0, 4, 177, 42]
abbrev dktX13_tellLaw_6 : List UInt8 := dkwX13_tellLaw_6 ++ dktX13_tellLaw_7
def dkwX13_tellLaw_5 : List UInt8 := [182, 1, 37, 42, 182, 1, 69, 42, 16, 30, 182, 1, 37, 167, 255, 142, 42, 180, 0, 97, 42, 180, 1, 14]
abbrev dktX13_tellLaw_5 : List UInt8 := dkwX13_tellLaw_5 ++ dktX13_tellLaw_6
def dkwX13_tellLaw_4 : List UInt8 := [180, 1, 14, 42, 180, 1, 17, 79, 42, 180, 0, 228, 154, 0, 7, 42, 182, 1, 66, 42, 16, 29]
abbrev dktX13_tellLaw_4 : List UInt8 := dkwX13_tellLaw_4 ++ dktX13_tellLaw_5
def dkwX13_tellLaw_3 : List UInt8 := [180, 1, 14, 42, 180, 1, 17, 79, 42, 182, 1, 66, 42, 16, 13, 182, 1, 37, 42, 180, 0, 104, 42]
abbrev dktX13_tellLaw_3 : List UInt8 := dkwX13_tellLaw_3 ++ dktX13_tellLaw_4
def dkwX13_tellLaw_2 : List UInt8 := [132, 3, 1, 42, 182, 0, 249, 42, 180, 0, 97, 42, 180, 1, 14, 4, 84, 42, 180, 0, 101, 42]
abbrev dktX13_tellLaw_2 : List UInt8 := dkwX13_tellLaw_2 ++ dktX13_tellLaw_3
def dkwX13_tellLaw_1 : List UInt8 := [182, 0, 246, 153, 0, 104, 29, 7, 160, 0, 8, 42, 5, 182, 0, 243, 42, 180, 0, 228, 158, 0, 4, 177]
abbrev dktX13_tellLaw_1 : List UInt8 := dkwX13_tellLaw_1 ++ dktX13_tellLaw_2
def dkwX13_tellLaw_0 : List UInt8 := [42, 8, 182, 1, 37, 42, 180, 1, 14, 61, 3, 62, 42, 180, 0, 228, 154, 0, 113, 42, 16, 28]
abbrev dktX13_tellLaw_0 : List UInt8 := dkwX13_tellLaw_0 ++ dktX13_tellLaw_1
theorem dksX13_tellLaw_0 : cX13_tellLaw.data.toList.drop 0 = dktX13_tellLaw_0 := by decide +kernel
theorem dksX13_tellLaw_1 : cX13_tellLaw.data.toList.drop 22 = dktX13_tellLaw_1 := dk_seg dksX13_tellLaw_0 22 rfl rfl
theorem dksX13_tellLaw_2 : cX13_tellLaw.data.toList.drop 46 = dktX13_tellLaw_2 := dk_seg dksX13_tellLaw_1 24 rfl rfl
theorem dksX13_tellLaw_3 : cX13_tellLaw.data.toList.drop 68 = dktX13_tellLaw_3 := dk_seg dksX13_tellLaw_2 22 rfl rfl
theorem dksX13_tellLaw_4 : cX13_tellLaw.data.toList.drop 91 = dktX13_tellLaw_4 := dk_seg dksX13_tellLaw_3 23 rfl rfl
theorem dksX13_tellLaw_5 : cX13_tellLaw.data.toList.drop 113 = dktX13_tellLaw_5 := dk_seg dksX13_tellLaw_4 22 rfl rfl
theorem dksX13_tellLaw_6 : cX13_tellLaw.data.toList.drop 137 = dktX13_tellLaw_6 := dk_seg dksX13_tellLaw_5 24 rfl rfl
theorem dksX13_tellLaw_7 : cX13_tellLaw.data.toList.drop 161 = dktX13_tellLaw_7 := dk_seg dksX13_tellLaw_6 24 rfl rfl
theorem dksX13_tellLaw_8 : cX13_tellLaw.data.toList.drop 185 = dktX13_tellLaw_8 := dk_seg dksX13_tellLaw_7 24 rfl rfl
theorem dX13_tellLaw_0 : decode cX13_tellLaw 0 = .ok (.aload_n 0, 1) := dk_42 (dk_at dksX13_tellLaw_0 0 rfl rfl)
theorem dX13_tellLaw_1 : decode cX13_tellLaw 1 = .ok (.iconst 5, 1) := dk_8 (dk_at dksX13_tellLaw_0 1 rfl rfl)
theorem dX13_tellLaw_2 : decode cX13_tellLaw 2 = .ok (.invokevirtual 293, 3) := dk_182 1 37 (dk_at dksX13_tellLaw_0 2 rfl rfl)
theorem dX13_tellLaw_5 : decode cX13_tellLaw 5 = .ok (.aload_n 0, 1) := dk_42 (dk_at dksX13_tellLaw_0 5 rfl rfl)
theorem dX13_tellLaw_6 : decode cX13_tellLaw 6 = .ok (.getfield 270, 3) := dk_180 1 14 (dk_at dksX13_tellLaw_0 6 rfl rfl)
theorem dX13_tellLaw_9 : decode cX13_tellLaw 9 = .ok (.istore_n 2, 1) := dk_61 (dk_at dksX13_tellLaw_0 9 rfl rfl)
theorem dX13_tellLaw_10 : decode cX13_tellLaw 10 = .ok (.iconst 0, 1) := dk_3 (dk_at dksX13_tellLaw_0 10 rfl rfl)
theorem dX13_tellLaw_11 : decode cX13_tellLaw 11 = .ok (.istore_n 3, 1) := dk_62 (dk_at dksX13_tellLaw_0 11 rfl rfl)
theorem dX13_tellLaw_12 : decode cX13_tellLaw 12 = .ok (.aload_n 0, 1) := dk_42 (dk_at dksX13_tellLaw_0 12 rfl rfl)
theorem dX13_tellLaw_13 : decode cX13_tellLaw 13 = .ok (.getfield 228, 3) := dk_180 0 228 (dk_at dksX13_tellLaw_0 13 rfl rfl)
theorem dX13_tellLaw_16 : decode cX13_tellLaw 16 = .ok (.ifCond .ne 113, 3) := dk_154 0 113 (dk_at dksX13_tellLaw_0 16 rfl rfl)
theorem dX13_tellLaw_19 : decode cX13_tellLaw 19 = .ok (.aload_n 0, 1) := dk_42 (dk_at dksX13_tellLaw_0 19 rfl rfl)
theorem dX13_tellLaw_20 : decode cX13_tellLaw 20 = .ok (.bipush 28, 2) := dk_16 28 (dk_at dksX13_tellLaw_0 20 rfl rfl)
theorem dX13_tellLaw_22 : decode cX13_tellLaw 22 = .ok (.invokevirtual 246, 3) := dk_182 0 246 (dk_at dksX13_tellLaw_1 0 rfl rfl)
theorem dX13_tellLaw_25 : decode cX13_tellLaw 25 = .ok (.ifCond .eq 104, 3) := dk_153 0 104 (dk_at dksX13_tellLaw_1 3 rfl rfl)
theorem dX13_tellLaw_28 : decode cX13_tellLaw 28 = .ok (.iload_n 3, 1) := dk_29 (dk_at dksX13_tellLaw_1 6 rfl rfl)
theorem dX13_tellLaw_29 : decode cX13_tellLaw 29 = .ok (.iconst 4, 1) := dk_7 (dk_at dksX13_tellLaw_1 7 rfl rfl)
theorem dX13_tellLaw_30 : decode cX13_tellLaw 30 = .ok (.if_icmp .ne 8, 3) := dk_160 0 8 (dk_at dksX13_tellLaw_1 8 rfl rfl)
theorem dX13_tellLaw_33 : decode cX13_tellLaw 33 = .ok (.aload_n 0, 1) := dk_42 (dk_at dksX13_tellLaw_1 11 rfl rfl)
theorem dX13_tellLaw_34 : decode cX13_tellLaw 34 = .ok (.iconst 2, 1) := dk_5 (dk_at dksX13_tellLaw_1 12 rfl rfl)
theorem dX13_tellLaw_35 : decode cX13_tellLaw 35 = .ok (.invokevirtual 243, 3) := dk_182 0 243 (dk_at dksX13_tellLaw_1 13 rfl rfl)
theorem dX13_tellLaw_38 : decode cX13_tellLaw 38 = .ok (.aload_n 0, 1) := dk_42 (dk_at dksX13_tellLaw_1 16 rfl rfl)
theorem dX13_tellLaw_39 : decode cX13_tellLaw 39 = .ok (.getfield 228, 3) := dk_180 0 228 (dk_at dksX13_tellLaw_1 17 rfl rfl)
theorem dX13_tellLaw_42 : decode cX13_tellLaw 42 = .ok (.ifCond .le 4, 3) := dk_158 0 4 (dk_at dksX13_tellLaw_1 20 rfl rfl)
theorem dX13_tellLaw_45 : decode cX13_tellLaw 45 = .ok (.return_, 1) := dk_177 (dk_at dksX13_tellLaw_1 23 rfl rfl)
theorem dX13_tellLaw_46 : decode cX13_tellLaw 46 = .ok (.iinc 3 1, 3) := dk_132 3 1 (dk_at dksX13_tellLaw_2 0 rfl rfl)
theorem dX13_tellLaw_49 : decode cX13_tellLaw 49 = .ok (.aload_n 0, 1) := dk_42 (dk_at dksX13_tellLaw_2 3 rfl rfl)
theorem dX13_tellLaw_50 : decode cX13_tellLaw 50 = .ok (.invokevirtual 249, 3) := dk_182 0 249 (dk_at dksX13_tellLaw_2 4 rfl rfl)
theorem dX13_tellLaw_53 : decode cX13_tellLaw 53 = .ok (.aload_n 0, 1) := dk_42 (dk_at dksX13_tellLaw_2 7 rfl rfl)
theorem dX13_tellLaw_54 : decode cX13_tellLaw 54 = .ok (.getfield 97, 3) := dk_180 0 97 (dk_at dksX13_tellLaw_2 8 rfl rfl)
theorem dX13_tellLaw_57 : decode cX13_tellLaw 57 = .ok (.aload_n 0, 1) := dk_42 (dk_at dksX13_tellLaw_2 11 rfl rfl)
theorem dX13_tellLaw_58 : decode cX13_tellLaw 58 = .ok (.getfield 270, 3) := dk_180 1 14 (dk_at dksX13_tellLaw_2 12 rfl rfl)
theorem dX13_tellLaw_61 : decode cX13_tellLaw 61 = .ok (.iconst 1, 1) := dk_4 (dk_at dksX13_tellLaw_2 15 rfl rfl)
theorem dX13_tellLaw_62 : decode cX13_tellLaw 62 = .ok (.bastore, 1) := dk_84 (dk_at dksX13_tellLaw_2 16 rfl rfl)
theorem dX13_tellLaw_63 : decode cX13_tellLaw 63 = .ok (.aload_n 0, 1) := dk_42 (dk_at dksX13_tellLaw_2 17 rfl rfl)
theorem dX13_tellLaw_64 : decode cX13_tellLaw 64 = .ok (.getfield 101, 3) := dk_180 0 101 (dk_at dksX13_tellLaw_2 18 rfl rfl)
theorem dX13_tellLaw_67 : decode cX13_tellLaw 67 = .ok (.aload_n 0, 1) := dk_42 (dk_at dksX13_tellLaw_2 21 rfl rfl)
theorem dX13_tellLaw_68 : decode cX13_tellLaw 68 = .ok (.getfield 270, 3) := dk_180 1 14 (dk_at dksX13_tellLaw_3 0 rfl rfl)
theorem dX13_tellLaw_71 : decode cX13_tellLaw 71 = .ok (.aload_n 0, 1) := dk_42 (dk_at dksX13_tellLaw_3 3 rfl rfl)
theorem dX13_tellLaw_72 : decode cX13_tellLaw 72 = .ok (.getfield 273, 3) := dk_180 1 17 (dk_at dksX13_tellLaw_3 4 rfl rfl)
theorem dX13_tellLaw_75 : decode cX13_tellLaw 75 = .ok (.iastore, 1) := dk_79 (dk_at dksX13_tellLaw_3 7 rfl rfl)
theorem dX13_tellLaw_76 : decode cX13_tellLaw 76 = .ok (.aload_n 0, 1) := dk_42 (dk_at dksX13_tellLaw_3 8 rfl rfl)
theorem dX13_tellLaw_77 : decode cX13_tellLaw 77 = .ok (.invokevirtual 322, 3) := dk_182 1 66 (dk_at dksX13_tellLaw_3 9 rfl rfl)
theorem dX13_tellLaw_80 : decode cX13_tellLaw 80 = .ok (.aload_n 0, 1) := dk_42 (dk_at dksX13_tellLaw_3 12 rfl rfl)
theorem dX13_tellLaw_81 : decode cX13_tellLaw 81 = .ok (.bipush 13, 2) := dk_16 13 (dk_at dksX13_tellLaw_3 13 rfl rfl)
theorem dX13_tellLaw_83 : decode cX13_tellLaw 83 = .ok (.invokevirtual 293, 3) := dk_182 1 37 (dk_at dksX13_tellLaw_3 15 rfl rfl)
theorem dX13_tellLaw_86 : decode cX13_tellLaw 86 = .ok (.aload_n 0, 1) := dk_42 (dk_at dksX13_tellLaw_3 18 rfl rfl)
theorem dX13_tellLaw_87 : decode cX13_tellLaw 87 = .ok (.getfield 104, 3) := dk_180 0 104 (dk_at dksX13_tellLaw_3 19 rfl rfl)
theorem dX13_tellLaw_90 : decode cX13_tellLaw 90 = .ok (.aload_n 0, 1) := dk_42 (dk_at dksX13_tellLaw_3 22 rfl rfl)
theorem dX13_tellLaw_91 : decode cX13_tellLaw 91 = .ok (.getfield 270, 3) := dk_180 1 14 (dk_at dksX13_tellLaw_4 0 rfl rfl)
theorem dX13_tellLaw_94 : decode cX13_tellLaw 94 = .ok (.aload_n 0, 1) := dk_42 (dk_at dksX13_tellLaw_4 3 rfl rfl)
theorem dX13_tellLaw_95 : decode cX13_tellLaw 95 = .ok (.getfield 273, 3) := dk_180 1 17 (dk_at dksX13_tellLaw_4 4 rfl rfl)
theorem dX13_tellLaw_98 : decode cX13_tellLaw 98 = .ok (.iastore, 1) := dk_79 (dk_at dksX13_tellLaw_4 7 rfl rfl)
theorem dX13_tellLaw_99 : decode cX13_tellLaw 99 = .ok (.aload_n 0, 1) := dk_42 (dk_at dksX13_tellLaw_4 8 rfl rfl)
theorem dX13_tellLaw_100 : decode cX13_tellLaw 100 = .ok (.getfield 228, 3) := dk_180 0 228 (dk_at dksX13_tellLaw_4 9 rfl rfl)
theorem dX13_tellLaw_103 : decode cX13_tellLaw 103 = .ok (.ifCond .ne 7, 3) := dk_154 0 7 (dk_at dksX13_tellLaw_4 12 rfl rfl)
theorem dX13_tellLaw_106 : decode cX13_tellLaw 106 = .ok (.aload_n 0, 1) := dk_42 (dk_at dksX13_tellLaw_4 15 rfl rfl)
theorem dX13_tellLaw_107 : decode cX13_tellLaw 107 = .ok (.invokevirtual 322, 3) := dk_182 1 66 (dk_at dksX13_tellLaw_4 16 rfl rfl)
theorem dX13_tellLaw_110 : decode cX13_tellLaw 110 = .ok (.aload_n 0, 1) := dk_42 (dk_at dksX13_tellLaw_4 19 rfl rfl)
theorem dX13_tellLaw_111 : decode cX13_tellLaw 111 = .ok (.bipush 29, 2) := dk_16 29 (dk_at dksX13_tellLaw_4 20 rfl rfl)
theorem dX13_tellLaw_113 : decode cX13_tellLaw 113 = .ok (.invokevirtual 293, 3) := dk_182 1 37 (dk_at dksX13_tellLaw_5 0 rfl rfl)
theorem dX13_tellLaw_116 : decode cX13_tellLaw 116 = .ok (.aload_n 0, 1) := dk_42 (dk_at dksX13_tellLaw_5 3 rfl rfl)
theorem dX13_tellLaw_117 : decode cX13_tellLaw 117 = .ok (.invokevirtual 325, 3) := dk_182 1 69 (dk_at dksX13_tellLaw_5 4 rfl rfl)
theorem dX13_tellLaw_120 : decode cX13_tellLaw 120 = .ok (.aload_n 0, 1) := dk_42 (dk_at dksX13_tellLaw_5 7 rfl rfl)
theorem dX13_tellLaw_121 : decode cX13_tellLaw 121 = .ok (.bipush 30, 2) := dk_16 30 (dk_at dksX13_tellLaw_5 8 rfl rfl)
theorem dX13_tellLaw_123 : decode cX13_tellLaw 123 = .ok (.invokevirtual 293, 3) := dk_182 1 37 (dk_at dksX13_tellLaw_5 10 rfl rfl)
theorem dX13_tellLaw_126 : decode cX13_tellLaw 126 = .ok (.goto (-114), 3) := dk_167 255 142 (dk_at dksX13_tellLaw_5 13 rfl rfl)
theorem dX13_tellLaw_129 : decode cX13_tellLaw 129 = .ok (.aload_n 0, 1) := dk_42 (dk_at dksX13_tellLaw_5 16 rfl rfl)
theorem dX13_tellLaw_130 : decode cX13_tellLaw 130 = .ok (.getfield 97, 3) := dk_180 0 97 (dk_at dksX13_tellLaw_5 17 rfl rfl)
theorem dX13_tellLaw_133 : decode cX13_tellLaw 133 = .ok (.aload_n 0, 1) := dk_42 (dk_at dksX13_tellLaw_5 20 rfl rfl)
theorem dX13_tellLaw_134 : decode cX13_tellLaw 134 = .ok (.getfield 270, 3) := dk_180 1 14 (dk_at dksX13_tellLaw_5 21 rfl rfl)
theorem dX13_tellLaw_137 : decode cX13_tellLaw 137 = .ok (.iconst 0, 1) := dk_3 (dk_at dksX13_tellLaw_6 0 rfl rfl)
theorem dX13_tellLaw_138 : decode cX13_tellLaw 138 = .ok (.bastore, 1) := dk_84 (dk_at dksX13_tellLaw_6 1 rfl rfl)
theorem dX13_tellLaw_139 : decode cX13_tellLaw 139 = .ok (.aload_n 0, 1) := dk_42 (dk_at dksX13_tellLaw_6 2 rfl rfl)
theorem dX13_tellLaw_140 : decode cX13_tellLaw 140 = .ok (.invokevirtual 325, 3) := dk_182 1 69 (dk_at dksX13_tellLaw_6 3 rfl rfl)
theorem dX13_tellLaw_143 : decode cX13_tellLaw 143 = .ok (.aload_n 0, 1) := dk_42 (dk_at dksX13_tellLaw_6 6 rfl rfl)
theorem dX13_tellLaw_144 : decode cX13_tellLaw 144 = .ok (.iconst 4, 1) := dk_7 (dk_at dksX13_tellLaw_6 7 rfl rfl)
theorem dX13_tellLaw_145 : decode cX13_tellLaw 145 = .ok (.invokevirtual 293, 3) := dk_182 1 37 (dk_at dksX13_tellLaw_6 8 rfl rfl)
theorem dX13_tellLaw_148 : decode cX13_tellLaw 148 = .ok (.aload_n 0, 1) := dk_42 (dk_at dksX13_tellLaw_6 11 rfl rfl)
theorem dX13_tellLaw_149 : decode cX13_tellLaw 149 = .ok (.getfield 228, 3) := dk_180 0 228 (dk_at dksX13_tellLaw_6 12 rfl rfl)
theorem dX13_tellLaw_152 : decode cX13_tellLaw 152 = .ok (.ifCond .gt 7, 3) := dk_157 0 7 (dk_at dksX13_tellLaw_6 15 rfl rfl)
theorem dX13_tellLaw_155 : decode cX13_tellLaw 155 = .ok (.iload_n 1, 1) := dk_27 (dk_at dksX13_tellLaw_6 18 rfl rfl)
theorem dX13_tellLaw_156 : decode cX13_tellLaw 156 = .ok (.ifCond .ge 4, 3) := dk_156 0 4 (dk_at dksX13_tellLaw_6 19 rfl rfl)
theorem dX13_tellLaw_159 : decode cX13_tellLaw 159 = .ok (.return_, 1) := dk_177 (dk_at dksX13_tellLaw_6 22 rfl rfl)
theorem dX13_tellLaw_160 : decode cX13_tellLaw 160 = .ok (.aload_n 0, 1) := dk_42 (dk_at dksX13_tellLaw_6 23 rfl rfl)
theorem dX13_tellLaw_161 : decode cX13_tellLaw 161 = .ok (.getfield 91, 3) := dk_180 0 91 (dk_at dksX13_tellLaw_7 0 rfl rfl)
theorem dX13_tellLaw_164 : decode cX13_tellLaw 164 = .ok (.bipush 8, 2) := dk_16 8 (dk_at dksX13_tellLaw_7 3 rfl rfl)
theorem dX13_tellLaw_166 : decode cX13_tellLaw 166 = .ok (.aload_n 0, 1) := dk_42 (dk_at dksX13_tellLaw_7 5 rfl rfl)
theorem dX13_tellLaw_167 : decode cX13_tellLaw 167 = .ok (.getfield 261, 3) := dk_180 1 5 (dk_at dksX13_tellLaw_7 6 rfl rfl)
theorem dX13_tellLaw_170 : decode cX13_tellLaw 170 = .ok (.imul, 1) := dk_104 (dk_at dksX13_tellLaw_7 9 rfl rfl)
theorem dX13_tellLaw_171 : decode cX13_tellLaw 171 = .ok (.iload_n 1, 1) := dk_27 (dk_at dksX13_tellLaw_7 10 rfl rfl)
theorem dX13_tellLaw_172 : decode cX13_tellLaw 172 = .ok (.iadd, 1) := dk_96 (dk_at dksX13_tellLaw_7 11 rfl rfl)
theorem dX13_tellLaw_173 : decode cX13_tellLaw 173 = .ok (.iload_n 2, 1) := dk_28 (dk_at dksX13_tellLaw_7 12 rfl rfl)
theorem dX13_tellLaw_174 : decode cX13_tellLaw 174 = .ok (.iastore, 1) := dk_79 (dk_at dksX13_tellLaw_7 13 rfl rfl)
theorem dX13_tellLaw_175 : decode cX13_tellLaw 175 = .ok (.aload_n 0, 1) := dk_42 (dk_at dksX13_tellLaw_7 14 rfl rfl)
theorem dX13_tellLaw_176 : decode cX13_tellLaw 176 = .ok (.getfield 94, 3) := dk_180 0 94 (dk_at dksX13_tellLaw_7 15 rfl rfl)
theorem dX13_tellLaw_179 : decode cX13_tellLaw 179 = .ok (.bipush 8, 2) := dk_16 8 (dk_at dksX13_tellLaw_7 18 rfl rfl)
theorem dX13_tellLaw_181 : decode cX13_tellLaw 181 = .ok (.aload_n 0, 1) := dk_42 (dk_at dksX13_tellLaw_7 20 rfl rfl)
theorem dX13_tellLaw_182 : decode cX13_tellLaw 182 = .ok (.getfield 261, 3) := dk_180 1 5 (dk_at dksX13_tellLaw_7 21 rfl rfl)
theorem dX13_tellLaw_185 : decode cX13_tellLaw 185 = .ok (.imul, 1) := dk_104 (dk_at dksX13_tellLaw_8 0 rfl rfl)
theorem dX13_tellLaw_186 : decode cX13_tellLaw 186 = .ok (.iload_n 1, 1) := dk_27 (dk_at dksX13_tellLaw_8 1 rfl rfl)
theorem dX13_tellLaw_187 : decode cX13_tellLaw 187 = .ok (.iadd, 1) := dk_96 (dk_at dksX13_tellLaw_8 2 rfl rfl)
theorem dX13_tellLaw_188 : decode cX13_tellLaw 188 = .ok (.aload_n 0, 1) := dk_42 (dk_at dksX13_tellLaw_8 3 rfl rfl)
theorem dX13_tellLaw_189 : decode cX13_tellLaw 189 = .ok (.getfield 270, 3) := dk_180 1 14 (dk_at dksX13_tellLaw_8 4 rfl rfl)
theorem dX13_tellLaw_192 : decode cX13_tellLaw 192 = .ok (.iastore, 1) := dk_79 (dk_at dksX13_tellLaw_8 7 rfl rfl)
theorem dX13_tellLaw_193 : decode cX13_tellLaw 193 = .ok (.return_, 1) := dk_177 (dk_at dksX13_tellLaw_8 8 rfl rfl)
abbrev cX13_expression : ByteArray := prog_21_method_35_code
def yX13_expression : MethodName := ⟨RX13, "expression", "()V"⟩
def dkwX13_expression_11 : List UInt8 := [180, 1, 72, 4, 96, 181, 1, 72, 42, 182, 0, 249, 167, 254, 255, 177]
abbrev dktX13_expression_11 : List UInt8 := dkwX13_expression_11 ++ []
def dkwX13_expression_10 : List UInt8 := [182, 1, 81, 42, 180, 0, 119, 42, 180, 1, 72, 42, 180, 0, 20, 42, 180, 0, 231, 46, 79, 42, 89]
abbrev dktX13_expression_10 : List UInt8 := dkwX13_expression_10 ++ dktX13_expression_11
def dkwX13_expression_9 : List UInt8 := [16, 10, 182, 0, 246, 154, 0, 12, 42, 16, 15, 182, 0, 246, 153, 0, 7, 4, 167, 0, 4, 3]
abbrev dktX13_expression_9 : List UInt8 := dkwX13_expression_9 ++ dktX13_expression_10
def dkwX13_expression_8 : List UInt8 := [154, 0, 22, 42, 180, 0, 255, 27, 164, 0, 8, 42, 4, 182, 0, 243, 42, 3, 182, 1, 81, 177, 42, 42]
abbrev dktX13_expression_8 : List UInt8 := dkwX13_expression_8 ++ dktX13_expression_9
def dkwX13_expression_7 : List UInt8 := [182, 0, 246, 154, 0, 12, 42, 16, 15, 182, 0, 246, 153, 0, 7, 4, 167, 0, 4, 3, 61, 28]
abbrev dktX13_expression_7 : List UInt8 := dkwX13_expression_7 ++ dktX13_expression_8
def dkwX13_expression_6 : List UInt8 := [167, 255, 210, 42, 16, 8, 182, 0, 246, 154, 0, 30, 42, 16, 9, 182, 0, 246, 154, 0, 21, 42, 16, 10]
abbrev dktX13_expression_6 : List UInt8 := dkwX13_expression_6 ++ dktX13_expression_7
def dkwX13_expression_5 : List UInt8 := [180, 1, 72, 4, 100, 181, 1, 72, 42, 89, 180, 0, 255, 4, 100, 181, 0, 255, 42, 182, 0, 249]
abbrev dktX13_expression_5 : List UInt8 := dkwX13_expression_5 ++ dktX13_expression_6
def dkwX13_expression_4 : List UInt8 := [42, 16, 7, 182, 0, 246, 153, 0, 43, 42, 180, 0, 255, 27, 164, 0, 35, 42, 3, 182, 1, 81, 42, 89]
abbrev dktX13_expression_4 : List UInt8 := dkwX13_expression_4 ++ dktX13_expression_5
def dkwX13_expression_3 : List UInt8 := [89, 180, 1, 72, 4, 96, 181, 1, 72, 167, 255, 198, 42, 182, 1, 78, 42, 180, 0, 228, 158, 0, 4, 177]
abbrev dktX13_expression_3 : List UInt8 := dkwX13_expression_3 ++ dktX13_expression_4
def dkwX13_expression_2 : List UInt8 := [180, 0, 255, 4, 96, 181, 0, 255, 42, 182, 0, 249, 42, 180, 0, 119, 42, 180, 1, 72, 16, 6, 79, 42]
abbrev dktX13_expression_2 : List UInt8 := dkwX13_expression_2 ++ dktX13_expression_3
def dkwX13_expression_1 : List UInt8 := [16, 6, 182, 0, 246, 153, 0, 55, 42, 180, 0, 255, 16, 6, 160, 0, 8, 42, 5, 182, 0, 243, 42, 89]
abbrev dktX13_expression_1 : List UInt8 := dkwX13_expression_1 ++ dktX13_expression_2
def dkwX13_expression_0 : List UInt8 := [42, 3, 181, 1, 72, 42, 180, 0, 255, 60, 4, 61, 28, 153, 1, 3, 42, 180, 0, 228, 154, 0, 252, 42]
abbrev dktX13_expression_0 : List UInt8 := dkwX13_expression_0 ++ dktX13_expression_1
theorem dksX13_expression_0 : cX13_expression.data.toList.drop 0 = dktX13_expression_0 := by decide +kernel
theorem dksX13_expression_1 : cX13_expression.data.toList.drop 24 = dktX13_expression_1 := dk_seg dksX13_expression_0 24 rfl rfl
theorem dksX13_expression_2 : cX13_expression.data.toList.drop 48 = dktX13_expression_2 := dk_seg dksX13_expression_1 24 rfl rfl
theorem dksX13_expression_3 : cX13_expression.data.toList.drop 72 = dktX13_expression_3 := dk_seg dksX13_expression_2 24 rfl rfl
theorem dksX13_expression_4 : cX13_expression.data.toList.drop 96 = dktX13_expression_4 := dk_seg dksX13_expression_3 24 rfl rfl
theorem dksX13_expression_5 : cX13_expression.data.toList.drop 120 = dktX13_expression_5 := dk_seg dksX13_expression_4 24 rfl rfl
theorem dksX13_expression_6 : cX13_expression.data.toList.drop 142 = dktX13_expression_6 := dk_seg dksX13_expression_5 22 rfl rfl
theorem dksX13_expression_7 : cX13_expression.data.toList.drop 166 = dktX13_expression_7 := dk_seg dksX13_expression_6 24 rfl rfl
theorem dksX13_expression_8 : cX13_expression.data.toList.drop 188 = dktX13_expression_8 := dk_seg dksX13_expression_7 22 rfl rfl
theorem dksX13_expression_9 : cX13_expression.data.toList.drop 212 = dktX13_expression_9 := dk_seg dksX13_expression_8 24 rfl rfl
theorem dksX13_expression_10 : cX13_expression.data.toList.drop 234 = dktX13_expression_10 := dk_seg dksX13_expression_9 22 rfl rfl
theorem dksX13_expression_11 : cX13_expression.data.toList.drop 257 = dktX13_expression_11 := dk_seg dksX13_expression_10 23 rfl rfl
theorem dX13_expression_0 : decode cX13_expression 0 = .ok (.aload_n 0, 1) := dk_42 (dk_at dksX13_expression_0 0 rfl rfl)
theorem dX13_expression_1 : decode cX13_expression 1 = .ok (.iconst 0, 1) := dk_3 (dk_at dksX13_expression_0 1 rfl rfl)
theorem dX13_expression_2 : decode cX13_expression 2 = .ok (.putfield 328, 3) := dk_181 1 72 (dk_at dksX13_expression_0 2 rfl rfl)
theorem dX13_expression_5 : decode cX13_expression 5 = .ok (.aload_n 0, 1) := dk_42 (dk_at dksX13_expression_0 5 rfl rfl)
theorem dX13_expression_6 : decode cX13_expression 6 = .ok (.getfield 255, 3) := dk_180 0 255 (dk_at dksX13_expression_0 6 rfl rfl)
theorem dX13_expression_9 : decode cX13_expression 9 = .ok (.istore_n 1, 1) := dk_60 (dk_at dksX13_expression_0 9 rfl rfl)
theorem dX13_expression_10 : decode cX13_expression 10 = .ok (.iconst 1, 1) := dk_4 (dk_at dksX13_expression_0 10 rfl rfl)
theorem dX13_expression_11 : decode cX13_expression 11 = .ok (.istore_n 2, 1) := dk_61 (dk_at dksX13_expression_0 11 rfl rfl)
theorem dX13_expression_12 : decode cX13_expression 12 = .ok (.iload_n 2, 1) := dk_28 (dk_at dksX13_expression_0 12 rfl rfl)
theorem dX13_expression_13 : decode cX13_expression 13 = .ok (.ifCond .eq 259, 3) := dk_153 1 3 (dk_at dksX13_expression_0 13 rfl rfl)
theorem dX13_expression_16 : decode cX13_expression 16 = .ok (.aload_n 0, 1) := dk_42 (dk_at dksX13_expression_0 16 rfl rfl)
theorem dX13_expression_17 : decode cX13_expression 17 = .ok (.getfield 228, 3) := dk_180 0 228 (dk_at dksX13_expression_0 17 rfl rfl)
theorem dX13_expression_20 : decode cX13_expression 20 = .ok (.ifCond .ne 252, 3) := dk_154 0 252 (dk_at dksX13_expression_0 20 rfl rfl)
theorem dX13_expression_23 : decode cX13_expression 23 = .ok (.aload_n 0, 1) := dk_42 (dk_at dksX13_expression_0 23 rfl rfl)
theorem dX13_expression_24 : decode cX13_expression 24 = .ok (.bipush 6, 2) := dk_16 6 (dk_at dksX13_expression_1 0 rfl rfl)
theorem dX13_expression_26 : decode cX13_expression 26 = .ok (.invokevirtual 246, 3) := dk_182 0 246 (dk_at dksX13_expression_1 2 rfl rfl)
theorem dX13_expression_29 : decode cX13_expression 29 = .ok (.ifCond .eq 55, 3) := dk_153 0 55 (dk_at dksX13_expression_1 5 rfl rfl)
theorem dX13_expression_32 : decode cX13_expression 32 = .ok (.aload_n 0, 1) := dk_42 (dk_at dksX13_expression_1 8 rfl rfl)
theorem dX13_expression_33 : decode cX13_expression 33 = .ok (.getfield 255, 3) := dk_180 0 255 (dk_at dksX13_expression_1 9 rfl rfl)
theorem dX13_expression_36 : decode cX13_expression 36 = .ok (.bipush 6, 2) := dk_16 6 (dk_at dksX13_expression_1 12 rfl rfl)
theorem dX13_expression_38 : decode cX13_expression 38 = .ok (.if_icmp .ne 8, 3) := dk_160 0 8 (dk_at dksX13_expression_1 14 rfl rfl)
theorem dX13_expression_41 : decode cX13_expression 41 = .ok (.aload_n 0, 1) := dk_42 (dk_at dksX13_expression_1 17 rfl rfl)
theorem dX13_expression_42 : decode cX13_expression 42 = .ok (.iconst 2, 1) := dk_5 (dk_at dksX13_expression_1 18 rfl rfl)
theorem dX13_expression_43 : decode cX13_expression 43 = .ok (.invokevirtual 243, 3) := dk_182 0 243 (dk_at dksX13_expression_1 19 rfl rfl)
theorem dX13_expression_46 : decode cX13_expression 46 = .ok (.aload_n 0, 1) := dk_42 (dk_at dksX13_expression_1 22 rfl rfl)
theorem dX13_expression_47 : decode cX13_expression 47 = .ok (.dup, 1) := dk_89 (dk_at dksX13_expression_1 23 rfl rfl)
theorem dX13_expression_48 : decode cX13_expression 48 = .ok (.getfield 255, 3) := dk_180 0 255 (dk_at dksX13_expression_2 0 rfl rfl)
theorem dX13_expression_51 : decode cX13_expression 51 = .ok (.iconst 1, 1) := dk_4 (dk_at dksX13_expression_2 3 rfl rfl)
theorem dX13_expression_52 : decode cX13_expression 52 = .ok (.iadd, 1) := dk_96 (dk_at dksX13_expression_2 4 rfl rfl)
theorem dX13_expression_53 : decode cX13_expression 53 = .ok (.putfield 255, 3) := dk_181 0 255 (dk_at dksX13_expression_2 5 rfl rfl)
theorem dX13_expression_56 : decode cX13_expression 56 = .ok (.aload_n 0, 1) := dk_42 (dk_at dksX13_expression_2 8 rfl rfl)
theorem dX13_expression_57 : decode cX13_expression 57 = .ok (.invokevirtual 249, 3) := dk_182 0 249 (dk_at dksX13_expression_2 9 rfl rfl)
theorem dX13_expression_60 : decode cX13_expression 60 = .ok (.aload_n 0, 1) := dk_42 (dk_at dksX13_expression_2 12 rfl rfl)
theorem dX13_expression_61 : decode cX13_expression 61 = .ok (.getfield 119, 3) := dk_180 0 119 (dk_at dksX13_expression_2 13 rfl rfl)
theorem dX13_expression_64 : decode cX13_expression 64 = .ok (.aload_n 0, 1) := dk_42 (dk_at dksX13_expression_2 16 rfl rfl)
theorem dX13_expression_65 : decode cX13_expression 65 = .ok (.getfield 328, 3) := dk_180 1 72 (dk_at dksX13_expression_2 17 rfl rfl)
theorem dX13_expression_68 : decode cX13_expression 68 = .ok (.bipush 6, 2) := dk_16 6 (dk_at dksX13_expression_2 20 rfl rfl)
theorem dX13_expression_70 : decode cX13_expression 70 = .ok (.iastore, 1) := dk_79 (dk_at dksX13_expression_2 22 rfl rfl)
theorem dX13_expression_71 : decode cX13_expression 71 = .ok (.aload_n 0, 1) := dk_42 (dk_at dksX13_expression_2 23 rfl rfl)
theorem dX13_expression_72 : decode cX13_expression 72 = .ok (.dup, 1) := dk_89 (dk_at dksX13_expression_3 0 rfl rfl)
theorem dX13_expression_73 : decode cX13_expression 73 = .ok (.getfield 328, 3) := dk_180 1 72 (dk_at dksX13_expression_3 1 rfl rfl)
theorem dX13_expression_76 : decode cX13_expression 76 = .ok (.iconst 1, 1) := dk_4 (dk_at dksX13_expression_3 4 rfl rfl)
theorem dX13_expression_77 : decode cX13_expression 77 = .ok (.iadd, 1) := dk_96 (dk_at dksX13_expression_3 5 rfl rfl)
theorem dX13_expression_78 : decode cX13_expression 78 = .ok (.putfield 328, 3) := dk_181 1 72 (dk_at dksX13_expression_3 6 rfl rfl)
theorem dX13_expression_81 : decode cX13_expression 81 = .ok (.goto (-58), 3) := dk_167 255 198 (dk_at dksX13_expression_3 9 rfl rfl)
theorem dX13_expression_84 : decode cX13_expression 84 = .ok (.aload_n 0, 1) := dk_42 (dk_at dksX13_expression_3 12 rfl rfl)
theorem dX13_expression_85 : decode cX13_expression 85 = .ok (.invokevirtual 334, 3) := dk_182 1 78 (dk_at dksX13_expression_3 13 rfl rfl)
theorem dX13_expression_88 : decode cX13_expression 88 = .ok (.aload_n 0, 1) := dk_42 (dk_at dksX13_expression_3 16 rfl rfl)
theorem dX13_expression_89 : decode cX13_expression 89 = .ok (.getfield 228, 3) := dk_180 0 228 (dk_at dksX13_expression_3 17 rfl rfl)
theorem dX13_expression_92 : decode cX13_expression 92 = .ok (.ifCond .le 4, 3) := dk_158 0 4 (dk_at dksX13_expression_3 20 rfl rfl)
theorem dX13_expression_95 : decode cX13_expression 95 = .ok (.return_, 1) := dk_177 (dk_at dksX13_expression_3 23 rfl rfl)
theorem dX13_expression_96 : decode cX13_expression 96 = .ok (.aload_n 0, 1) := dk_42 (dk_at dksX13_expression_4 0 rfl rfl)
theorem dX13_expression_97 : decode cX13_expression 97 = .ok (.bipush 7, 2) := dk_16 7 (dk_at dksX13_expression_4 1 rfl rfl)
theorem dX13_expression_99 : decode cX13_expression 99 = .ok (.invokevirtual 246, 3) := dk_182 0 246 (dk_at dksX13_expression_4 3 rfl rfl)
theorem dX13_expression_102 : decode cX13_expression 102 = .ok (.ifCond .eq 43, 3) := dk_153 0 43 (dk_at dksX13_expression_4 6 rfl rfl)
theorem dX13_expression_105 : decode cX13_expression 105 = .ok (.aload_n 0, 1) := dk_42 (dk_at dksX13_expression_4 9 rfl rfl)
theorem dX13_expression_106 : decode cX13_expression 106 = .ok (.getfield 255, 3) := dk_180 0 255 (dk_at dksX13_expression_4 10 rfl rfl)
theorem dX13_expression_109 : decode cX13_expression 109 = .ok (.iload_n 1, 1) := dk_27 (dk_at dksX13_expression_4 13 rfl rfl)
theorem dX13_expression_110 : decode cX13_expression 110 = .ok (.if_icmp .le 35, 3) := dk_164 0 35 (dk_at dksX13_expression_4 14 rfl rfl)
theorem dX13_expression_113 : decode cX13_expression 113 = .ok (.aload_n 0, 1) := dk_42 (dk_at dksX13_expression_4 17 rfl rfl)
theorem dX13_expression_114 : decode cX13_expression 114 = .ok (.iconst 0, 1) := dk_3 (dk_at dksX13_expression_4 18 rfl rfl)
theorem dX13_expression_115 : decode cX13_expression 115 = .ok (.invokevirtual 337, 3) := dk_182 1 81 (dk_at dksX13_expression_4 19 rfl rfl)
theorem dX13_expression_118 : decode cX13_expression 118 = .ok (.aload_n 0, 1) := dk_42 (dk_at dksX13_expression_4 22 rfl rfl)
theorem dX13_expression_119 : decode cX13_expression 119 = .ok (.dup, 1) := dk_89 (dk_at dksX13_expression_4 23 rfl rfl)
theorem dX13_expression_120 : decode cX13_expression 120 = .ok (.getfield 328, 3) := dk_180 1 72 (dk_at dksX13_expression_5 0 rfl rfl)
theorem dX13_expression_123 : decode cX13_expression 123 = .ok (.iconst 1, 1) := dk_4 (dk_at dksX13_expression_5 3 rfl rfl)
theorem dX13_expression_124 : decode cX13_expression 124 = .ok (.isub, 1) := dk_100 (dk_at dksX13_expression_5 4 rfl rfl)
theorem dX13_expression_125 : decode cX13_expression 125 = .ok (.putfield 328, 3) := dk_181 1 72 (dk_at dksX13_expression_5 5 rfl rfl)
theorem dX13_expression_128 : decode cX13_expression 128 = .ok (.aload_n 0, 1) := dk_42 (dk_at dksX13_expression_5 8 rfl rfl)
theorem dX13_expression_129 : decode cX13_expression 129 = .ok (.dup, 1) := dk_89 (dk_at dksX13_expression_5 9 rfl rfl)
theorem dX13_expression_130 : decode cX13_expression 130 = .ok (.getfield 255, 3) := dk_180 0 255 (dk_at dksX13_expression_5 10 rfl rfl)
theorem dX13_expression_133 : decode cX13_expression 133 = .ok (.iconst 1, 1) := dk_4 (dk_at dksX13_expression_5 13 rfl rfl)
theorem dX13_expression_134 : decode cX13_expression 134 = .ok (.isub, 1) := dk_100 (dk_at dksX13_expression_5 14 rfl rfl)
theorem dX13_expression_135 : decode cX13_expression 135 = .ok (.putfield 255, 3) := dk_181 0 255 (dk_at dksX13_expression_5 15 rfl rfl)
theorem dX13_expression_138 : decode cX13_expression 138 = .ok (.aload_n 0, 1) := dk_42 (dk_at dksX13_expression_5 18 rfl rfl)
theorem dX13_expression_139 : decode cX13_expression 139 = .ok (.invokevirtual 249, 3) := dk_182 0 249 (dk_at dksX13_expression_5 19 rfl rfl)
theorem dX13_expression_142 : decode cX13_expression 142 = .ok (.goto (-46), 3) := dk_167 255 210 (dk_at dksX13_expression_6 0 rfl rfl)
theorem dX13_expression_145 : decode cX13_expression 145 = .ok (.aload_n 0, 1) := dk_42 (dk_at dksX13_expression_6 3 rfl rfl)
theorem dX13_expression_146 : decode cX13_expression 146 = .ok (.bipush 8, 2) := dk_16 8 (dk_at dksX13_expression_6 4 rfl rfl)
theorem dX13_expression_148 : decode cX13_expression 148 = .ok (.invokevirtual 246, 3) := dk_182 0 246 (dk_at dksX13_expression_6 6 rfl rfl)
theorem dX13_expression_151 : decode cX13_expression 151 = .ok (.ifCond .ne 30, 3) := dk_154 0 30 (dk_at dksX13_expression_6 9 rfl rfl)
theorem dX13_expression_154 : decode cX13_expression 154 = .ok (.aload_n 0, 1) := dk_42 (dk_at dksX13_expression_6 12 rfl rfl)
theorem dX13_expression_155 : decode cX13_expression 155 = .ok (.bipush 9, 2) := dk_16 9 (dk_at dksX13_expression_6 13 rfl rfl)
theorem dX13_expression_157 : decode cX13_expression 157 = .ok (.invokevirtual 246, 3) := dk_182 0 246 (dk_at dksX13_expression_6 15 rfl rfl)
theorem dX13_expression_160 : decode cX13_expression 160 = .ok (.ifCond .ne 21, 3) := dk_154 0 21 (dk_at dksX13_expression_6 18 rfl rfl)
theorem dX13_expression_163 : decode cX13_expression 163 = .ok (.aload_n 0, 1) := dk_42 (dk_at dksX13_expression_6 21 rfl rfl)
theorem dX13_expression_164 : decode cX13_expression 164 = .ok (.bipush 10, 2) := dk_16 10 (dk_at dksX13_expression_6 22 rfl rfl)
theorem dX13_expression_166 : decode cX13_expression 166 = .ok (.invokevirtual 246, 3) := dk_182 0 246 (dk_at dksX13_expression_7 0 rfl rfl)
theorem dX13_expression_169 : decode cX13_expression 169 = .ok (.ifCond .ne 12, 3) := dk_154 0 12 (dk_at dksX13_expression_7 3 rfl rfl)
theorem dX13_expression_172 : decode cX13_expression 172 = .ok (.aload_n 0, 1) := dk_42 (dk_at dksX13_expression_7 6 rfl rfl)
theorem dX13_expression_173 : decode cX13_expression 173 = .ok (.bipush 15, 2) := dk_16 15 (dk_at dksX13_expression_7 7 rfl rfl)
theorem dX13_expression_175 : decode cX13_expression 175 = .ok (.invokevirtual 246, 3) := dk_182 0 246 (dk_at dksX13_expression_7 9 rfl rfl)
theorem dX13_expression_178 : decode cX13_expression 178 = .ok (.ifCond .eq 7, 3) := dk_153 0 7 (dk_at dksX13_expression_7 12 rfl rfl)
theorem dX13_expression_181 : decode cX13_expression 181 = .ok (.iconst 1, 1) := dk_4 (dk_at dksX13_expression_7 15 rfl rfl)
theorem dX13_expression_182 : decode cX13_expression 182 = .ok (.goto 4, 3) := dk_167 0 4 (dk_at dksX13_expression_7 16 rfl rfl)
theorem dX13_expression_185 : decode cX13_expression 185 = .ok (.iconst 0, 1) := dk_3 (dk_at dksX13_expression_7 19 rfl rfl)
theorem dX13_expression_186 : decode cX13_expression 186 = .ok (.istore_n 2, 1) := dk_61 (dk_at dksX13_expression_7 20 rfl rfl)
theorem dX13_expression_187 : decode cX13_expression 187 = .ok (.iload_n 2, 1) := dk_28 (dk_at dksX13_expression_7 21 rfl rfl)
theorem dX13_expression_188 : decode cX13_expression 188 = .ok (.ifCond .ne 22, 3) := dk_154 0 22 (dk_at dksX13_expression_8 0 rfl rfl)
theorem dX13_expression_191 : decode cX13_expression 191 = .ok (.aload_n 0, 1) := dk_42 (dk_at dksX13_expression_8 3 rfl rfl)
theorem dX13_expression_192 : decode cX13_expression 192 = .ok (.getfield 255, 3) := dk_180 0 255 (dk_at dksX13_expression_8 4 rfl rfl)
theorem dX13_expression_195 : decode cX13_expression 195 = .ok (.iload_n 1, 1) := dk_27 (dk_at dksX13_expression_8 7 rfl rfl)
theorem dX13_expression_196 : decode cX13_expression 196 = .ok (.if_icmp .le 8, 3) := dk_164 0 8 (dk_at dksX13_expression_8 8 rfl rfl)
theorem dX13_expression_199 : decode cX13_expression 199 = .ok (.aload_n 0, 1) := dk_42 (dk_at dksX13_expression_8 11 rfl rfl)
theorem dX13_expression_200 : decode cX13_expression 200 = .ok (.iconst 1, 1) := dk_4 (dk_at dksX13_expression_8 12 rfl rfl)
theorem dX13_expression_201 : decode cX13_expression 201 = .ok (.invokevirtual 243, 3) := dk_182 0 243 (dk_at dksX13_expression_8 13 rfl rfl)
theorem dX13_expression_204 : decode cX13_expression 204 = .ok (.aload_n 0, 1) := dk_42 (dk_at dksX13_expression_8 16 rfl rfl)
theorem dX13_expression_205 : decode cX13_expression 205 = .ok (.iconst 0, 1) := dk_3 (dk_at dksX13_expression_8 17 rfl rfl)
theorem dX13_expression_206 : decode cX13_expression 206 = .ok (.invokevirtual 337, 3) := dk_182 1 81 (dk_at dksX13_expression_8 18 rfl rfl)
theorem dX13_expression_209 : decode cX13_expression 209 = .ok (.return_, 1) := dk_177 (dk_at dksX13_expression_8 21 rfl rfl)
theorem dX13_expression_210 : decode cX13_expression 210 = .ok (.aload_n 0, 1) := dk_42 (dk_at dksX13_expression_8 22 rfl rfl)
theorem dX13_expression_211 : decode cX13_expression 211 = .ok (.aload_n 0, 1) := dk_42 (dk_at dksX13_expression_8 23 rfl rfl)
theorem dX13_expression_212 : decode cX13_expression 212 = .ok (.bipush 10, 2) := dk_16 10 (dk_at dksX13_expression_9 0 rfl rfl)
theorem dX13_expression_214 : decode cX13_expression 214 = .ok (.invokevirtual 246, 3) := dk_182 0 246 (dk_at dksX13_expression_9 2 rfl rfl)
theorem dX13_expression_217 : decode cX13_expression 217 = .ok (.ifCond .ne 12, 3) := dk_154 0 12 (dk_at dksX13_expression_9 5 rfl rfl)
theorem dX13_expression_220 : decode cX13_expression 220 = .ok (.aload_n 0, 1) := dk_42 (dk_at dksX13_expression_9 8 rfl rfl)
theorem dX13_expression_221 : decode cX13_expression 221 = .ok (.bipush 15, 2) := dk_16 15 (dk_at dksX13_expression_9 9 rfl rfl)
theorem dX13_expression_223 : decode cX13_expression 223 = .ok (.invokevirtual 246, 3) := dk_182 0 246 (dk_at dksX13_expression_9 11 rfl rfl)
theorem dX13_expression_226 : decode cX13_expression 226 = .ok (.ifCond .eq 7, 3) := dk_153 0 7 (dk_at dksX13_expression_9 14 rfl rfl)
theorem dX13_expression_229 : decode cX13_expression 229 = .ok (.iconst 1, 1) := dk_4 (dk_at dksX13_expression_9 17 rfl rfl)
theorem dX13_expression_230 : decode cX13_expression 230 = .ok (.goto 4, 3) := dk_167 0 4 (dk_at dksX13_expression_9 18 rfl rfl)
theorem dX13_expression_233 : decode cX13_expression 233 = .ok (.iconst 0, 1) := dk_3 (dk_at dksX13_expression_9 21 rfl rfl)
theorem dX13_expression_234 : decode cX13_expression 234 = .ok (.invokevirtual 337, 3) := dk_182 1 81 (dk_at dksX13_expression_10 0 rfl rfl)
theorem dX13_expression_237 : decode cX13_expression 237 = .ok (.aload_n 0, 1) := dk_42 (dk_at dksX13_expression_10 3 rfl rfl)
theorem dX13_expression_238 : decode cX13_expression 238 = .ok (.getfield 119, 3) := dk_180 0 119 (dk_at dksX13_expression_10 4 rfl rfl)
theorem dX13_expression_241 : decode cX13_expression 241 = .ok (.aload_n 0, 1) := dk_42 (dk_at dksX13_expression_10 7 rfl rfl)
theorem dX13_expression_242 : decode cX13_expression 242 = .ok (.getfield 328, 3) := dk_180 1 72 (dk_at dksX13_expression_10 8 rfl rfl)
theorem dX13_expression_245 : decode cX13_expression 245 = .ok (.aload_n 0, 1) := dk_42 (dk_at dksX13_expression_10 11 rfl rfl)
theorem dX13_expression_246 : decode cX13_expression 246 = .ok (.getfield 20, 3) := dk_180 0 20 (dk_at dksX13_expression_10 12 rfl rfl)
theorem dX13_expression_249 : decode cX13_expression 249 = .ok (.aload_n 0, 1) := dk_42 (dk_at dksX13_expression_10 15 rfl rfl)
theorem dX13_expression_250 : decode cX13_expression 250 = .ok (.getfield 231, 3) := dk_180 0 231 (dk_at dksX13_expression_10 16 rfl rfl)
theorem dX13_expression_253 : decode cX13_expression 253 = .ok (.iaload, 1) := dk_46 (dk_at dksX13_expression_10 19 rfl rfl)
theorem dX13_expression_254 : decode cX13_expression 254 = .ok (.iastore, 1) := dk_79 (dk_at dksX13_expression_10 20 rfl rfl)
theorem dX13_expression_255 : decode cX13_expression 255 = .ok (.aload_n 0, 1) := dk_42 (dk_at dksX13_expression_10 21 rfl rfl)
theorem dX13_expression_256 : decode cX13_expression 256 = .ok (.dup, 1) := dk_89 (dk_at dksX13_expression_10 22 rfl rfl)
theorem dX13_expression_257 : decode cX13_expression 257 = .ok (.getfield 328, 3) := dk_180 1 72 (dk_at dksX13_expression_11 0 rfl rfl)
theorem dX13_expression_260 : decode cX13_expression 260 = .ok (.iconst 1, 1) := dk_4 (dk_at dksX13_expression_11 3 rfl rfl)
theorem dX13_expression_261 : decode cX13_expression 261 = .ok (.iadd, 1) := dk_96 (dk_at dksX13_expression_11 4 rfl rfl)
theorem dX13_expression_262 : decode cX13_expression 262 = .ok (.putfield 328, 3) := dk_181 1 72 (dk_at dksX13_expression_11 5 rfl rfl)
theorem dX13_expression_265 : decode cX13_expression 265 = .ok (.aload_n 0, 1) := dk_42 (dk_at dksX13_expression_11 8 rfl rfl)
theorem dX13_expression_266 : decode cX13_expression 266 = .ok (.invokevirtual 249, 3) := dk_182 0 249 (dk_at dksX13_expression_11 9 rfl rfl)
theorem dX13_expression_269 : decode cX13_expression 269 = .ok (.goto (-257), 3) := dk_167 254 255 (dk_at dksX13_expression_11 12 rfl rfl)
theorem dX13_expression_272 : decode cX13_expression 272 = .ok (.return_, 1) := dk_177 (dk_at dksX13_expression_11 15 rfl rfl)
abbrev cX13_unit : ByteArray := prog_21_method_36_code
def yX13_unit : MethodName := ⟨RX13, "unit", "()V"⟩
def dkwX13_unit_3 : List UInt8 := [180, 0, 231, 46, 16, 31, 100, 182, 1, 75, 42, 182, 0, 249, 167, 0, 8, 42, 4, 182, 0, 243, 177]
abbrev dktX13_unit_3 : List UInt8 := dkwX13_unit_3 ++ []
def dkwX13_unit_2 : List UInt8 := [161, 0, 41, 42, 180, 0, 20, 42, 180, 0, 231, 46, 16, 36, 163, 0, 27, 42, 4, 42, 180, 0, 20, 42]
abbrev dktX13_unit_2 : List UInt8 := dkwX13_unit_2 ++ dktX13_unit_3
def dkwX13_unit_1 : List UInt8 := [182, 0, 249, 167, 0, 67, 42, 180, 0, 228, 154, 0, 55, 42, 180, 0, 20, 42, 180, 0, 231, 46, 16, 31]
abbrev dktX13_unit_1 : List UInt8 := dkwX13_unit_1 ++ dktX13_unit_2
def dkwX13_unit_0 : List UInt8 := [42, 5, 182, 0, 246, 153, 0, 24, 42, 3, 42, 180, 0, 27, 42, 180, 0, 231, 46, 182, 1, 75, 42]
abbrev dktX13_unit_0 : List UInt8 := dkwX13_unit_0 ++ dktX13_unit_1
theorem dksX13_unit_0 : cX13_unit.data.toList.drop 0 = dktX13_unit_0 := by decide +kernel
theorem dksX13_unit_1 : cX13_unit.data.toList.drop 23 = dktX13_unit_1 := dk_seg dksX13_unit_0 23 rfl rfl
theorem dksX13_unit_2 : cX13_unit.data.toList.drop 47 = dktX13_unit_2 := dk_seg dksX13_unit_1 24 rfl rfl
theorem dksX13_unit_3 : cX13_unit.data.toList.drop 71 = dktX13_unit_3 := dk_seg dksX13_unit_2 24 rfl rfl
theorem dX13_unit_0 : decode cX13_unit 0 = .ok (.aload_n 0, 1) := dk_42 (dk_at dksX13_unit_0 0 rfl rfl)
theorem dX13_unit_1 : decode cX13_unit 1 = .ok (.iconst 2, 1) := dk_5 (dk_at dksX13_unit_0 1 rfl rfl)
theorem dX13_unit_2 : decode cX13_unit 2 = .ok (.invokevirtual 246, 3) := dk_182 0 246 (dk_at dksX13_unit_0 2 rfl rfl)
theorem dX13_unit_5 : decode cX13_unit 5 = .ok (.ifCond .eq 24, 3) := dk_153 0 24 (dk_at dksX13_unit_0 5 rfl rfl)
theorem dX13_unit_8 : decode cX13_unit 8 = .ok (.aload_n 0, 1) := dk_42 (dk_at dksX13_unit_0 8 rfl rfl)
theorem dX13_unit_9 : decode cX13_unit 9 = .ok (.iconst 0, 1) := dk_3 (dk_at dksX13_unit_0 9 rfl rfl)
theorem dX13_unit_10 : decode cX13_unit 10 = .ok (.aload_n 0, 1) := dk_42 (dk_at dksX13_unit_0 10 rfl rfl)
theorem dX13_unit_11 : decode cX13_unit 11 = .ok (.getfield 27, 3) := dk_180 0 27 (dk_at dksX13_unit_0 11 rfl rfl)
theorem dX13_unit_14 : decode cX13_unit 14 = .ok (.aload_n 0, 1) := dk_42 (dk_at dksX13_unit_0 14 rfl rfl)
theorem dX13_unit_15 : decode cX13_unit 15 = .ok (.getfield 231, 3) := dk_180 0 231 (dk_at dksX13_unit_0 15 rfl rfl)
theorem dX13_unit_18 : decode cX13_unit 18 = .ok (.iaload, 1) := dk_46 (dk_at dksX13_unit_0 18 rfl rfl)
theorem dX13_unit_19 : decode cX13_unit 19 = .ok (.invokevirtual 331, 3) := dk_182 1 75 (dk_at dksX13_unit_0 19 rfl rfl)
theorem dX13_unit_22 : decode cX13_unit 22 = .ok (.aload_n 0, 1) := dk_42 (dk_at dksX13_unit_0 22 rfl rfl)
theorem dX13_unit_23 : decode cX13_unit 23 = .ok (.invokevirtual 249, 3) := dk_182 0 249 (dk_at dksX13_unit_1 0 rfl rfl)
theorem dX13_unit_26 : decode cX13_unit 26 = .ok (.goto 67, 3) := dk_167 0 67 (dk_at dksX13_unit_1 3 rfl rfl)
theorem dX13_unit_29 : decode cX13_unit 29 = .ok (.aload_n 0, 1) := dk_42 (dk_at dksX13_unit_1 6 rfl rfl)
theorem dX13_unit_30 : decode cX13_unit 30 = .ok (.getfield 228, 3) := dk_180 0 228 (dk_at dksX13_unit_1 7 rfl rfl)
theorem dX13_unit_33 : decode cX13_unit 33 = .ok (.ifCond .ne 55, 3) := dk_154 0 55 (dk_at dksX13_unit_1 10 rfl rfl)
theorem dX13_unit_36 : decode cX13_unit 36 = .ok (.aload_n 0, 1) := dk_42 (dk_at dksX13_unit_1 13 rfl rfl)
theorem dX13_unit_37 : decode cX13_unit 37 = .ok (.getfield 20, 3) := dk_180 0 20 (dk_at dksX13_unit_1 14 rfl rfl)
theorem dX13_unit_40 : decode cX13_unit 40 = .ok (.aload_n 0, 1) := dk_42 (dk_at dksX13_unit_1 17 rfl rfl)
theorem dX13_unit_41 : decode cX13_unit 41 = .ok (.getfield 231, 3) := dk_180 0 231 (dk_at dksX13_unit_1 18 rfl rfl)
theorem dX13_unit_44 : decode cX13_unit 44 = .ok (.iaload, 1) := dk_46 (dk_at dksX13_unit_1 21 rfl rfl)
theorem dX13_unit_45 : decode cX13_unit 45 = .ok (.bipush 31, 2) := dk_16 31 (dk_at dksX13_unit_1 22 rfl rfl)
theorem dX13_unit_47 : decode cX13_unit 47 = .ok (.if_icmp .lt 41, 3) := dk_161 0 41 (dk_at dksX13_unit_2 0 rfl rfl)
theorem dX13_unit_50 : decode cX13_unit 50 = .ok (.aload_n 0, 1) := dk_42 (dk_at dksX13_unit_2 3 rfl rfl)
theorem dX13_unit_51 : decode cX13_unit 51 = .ok (.getfield 20, 3) := dk_180 0 20 (dk_at dksX13_unit_2 4 rfl rfl)
theorem dX13_unit_54 : decode cX13_unit 54 = .ok (.aload_n 0, 1) := dk_42 (dk_at dksX13_unit_2 7 rfl rfl)
theorem dX13_unit_55 : decode cX13_unit 55 = .ok (.getfield 231, 3) := dk_180 0 231 (dk_at dksX13_unit_2 8 rfl rfl)
theorem dX13_unit_58 : decode cX13_unit 58 = .ok (.iaload, 1) := dk_46 (dk_at dksX13_unit_2 11 rfl rfl)
theorem dX13_unit_59 : decode cX13_unit 59 = .ok (.bipush 36, 2) := dk_16 36 (dk_at dksX13_unit_2 12 rfl rfl)
theorem dX13_unit_61 : decode cX13_unit 61 = .ok (.if_icmp .gt 27, 3) := dk_163 0 27 (dk_at dksX13_unit_2 14 rfl rfl)
theorem dX13_unit_64 : decode cX13_unit 64 = .ok (.aload_n 0, 1) := dk_42 (dk_at dksX13_unit_2 17 rfl rfl)
theorem dX13_unit_65 : decode cX13_unit 65 = .ok (.iconst 1, 1) := dk_4 (dk_at dksX13_unit_2 18 rfl rfl)
theorem dX13_unit_66 : decode cX13_unit 66 = .ok (.aload_n 0, 1) := dk_42 (dk_at dksX13_unit_2 19 rfl rfl)
theorem dX13_unit_67 : decode cX13_unit 67 = .ok (.getfield 20, 3) := dk_180 0 20 (dk_at dksX13_unit_2 20 rfl rfl)
theorem dX13_unit_70 : decode cX13_unit 70 = .ok (.aload_n 0, 1) := dk_42 (dk_at dksX13_unit_2 23 rfl rfl)
theorem dX13_unit_71 : decode cX13_unit 71 = .ok (.getfield 231, 3) := dk_180 0 231 (dk_at dksX13_unit_3 0 rfl rfl)
theorem dX13_unit_74 : decode cX13_unit 74 = .ok (.iaload, 1) := dk_46 (dk_at dksX13_unit_3 3 rfl rfl)
theorem dX13_unit_75 : decode cX13_unit 75 = .ok (.bipush 31, 2) := dk_16 31 (dk_at dksX13_unit_3 4 rfl rfl)
theorem dX13_unit_77 : decode cX13_unit 77 = .ok (.isub, 1) := dk_100 (dk_at dksX13_unit_3 6 rfl rfl)
theorem dX13_unit_78 : decode cX13_unit 78 = .ok (.invokevirtual 331, 3) := dk_182 1 75 (dk_at dksX13_unit_3 7 rfl rfl)
theorem dX13_unit_81 : decode cX13_unit 81 = .ok (.aload_n 0, 1) := dk_42 (dk_at dksX13_unit_3 10 rfl rfl)
theorem dX13_unit_82 : decode cX13_unit 82 = .ok (.invokevirtual 249, 3) := dk_182 0 249 (dk_at dksX13_unit_3 11 rfl rfl)
theorem dX13_unit_85 : decode cX13_unit 85 = .ok (.goto 8, 3) := dk_167 0 8 (dk_at dksX13_unit_3 14 rfl rfl)
theorem dX13_unit_88 : decode cX13_unit 88 = .ok (.aload_n 0, 1) := dk_42 (dk_at dksX13_unit_3 17 rfl rfl)
theorem dX13_unit_89 : decode cX13_unit 89 = .ok (.iconst 1, 1) := dk_4 (dk_at dksX13_unit_3 18 rfl rfl)
theorem dX13_unit_90 : decode cX13_unit 90 = .ok (.invokevirtual 243, 3) := dk_182 0 243 (dk_at dksX13_unit_3 19 rfl rfl)
theorem dX13_unit_93 : decode cX13_unit 93 = .ok (.return_, 1) := dk_177 (dk_at dksX13_unit_3 22 rfl rfl)
abbrev cX13_emit : ByteArray := prog_21_method_33_code
def yX13_emit : MethodName := ⟨RX13, "emit", "(II)V"⟩
def dkwX13_emit_1 : List UInt8 := [180, 1, 17, 4, 96, 181, 1, 17, 177]
abbrev dktX13_emit_1 : List UInt8 := dkwX13_emit_1 ++ []
def dkwX13_emit_0 : List UInt8 := [42, 180, 0, 113, 42, 180, 1, 17, 27, 79, 42, 180, 0, 116, 42, 180, 1, 17, 28, 79, 42, 89]
abbrev dktX13_emit_0 : List UInt8 := dkwX13_emit_0 ++ dktX13_emit_1
theorem dksX13_emit_0 : cX13_emit.data.toList.drop 0 = dktX13_emit_0 := by decide +kernel
theorem dksX13_emit_1 : cX13_emit.data.toList.drop 22 = dktX13_emit_1 := dk_seg dksX13_emit_0 22 rfl rfl
theorem dX13_emit_0 : decode cX13_emit 0 = .ok (.aload_n 0, 1) := dk_42 (dk_at dksX13_emit_0 0 rfl rfl)
theorem dX13_emit_1 : decode cX13_emit 1 = .ok (.getfield 113, 3) := dk_180 0 113 (dk_at dksX13_emit_0 1 rfl rfl)
theorem dX13_emit_4 : decode cX13_emit 4 = .ok (.aload_n 0, 1) := dk_42 (dk_at dksX13_emit_0 4 rfl rfl)
theorem dX13_emit_5 : decode cX13_emit 5 = .ok (.getfield 273, 3) := dk_180 1 17 (dk_at dksX13_emit_0 5 rfl rfl)
theorem dX13_emit_8 : decode cX13_emit 8 = .ok (.iload_n 1, 1) := dk_27 (dk_at dksX13_emit_0 8 rfl rfl)
theorem dX13_emit_9 : decode cX13_emit 9 = .ok (.iastore, 1) := dk_79 (dk_at dksX13_emit_0 9 rfl rfl)
theorem dX13_emit_10 : decode cX13_emit 10 = .ok (.aload_n 0, 1) := dk_42 (dk_at dksX13_emit_0 10 rfl rfl)
theorem dX13_emit_11 : decode cX13_emit 11 = .ok (.getfield 116, 3) := dk_180 0 116 (dk_at dksX13_emit_0 11 rfl rfl)
theorem dX13_emit_14 : decode cX13_emit 14 = .ok (.aload_n 0, 1) := dk_42 (dk_at dksX13_emit_0 14 rfl rfl)
theorem dX13_emit_15 : decode cX13_emit 15 = .ok (.getfield 273, 3) := dk_180 1 17 (dk_at dksX13_emit_0 15 rfl rfl)
theorem dX13_emit_18 : decode cX13_emit 18 = .ok (.iload_n 2, 1) := dk_28 (dk_at dksX13_emit_0 18 rfl rfl)
theorem dX13_emit_19 : decode cX13_emit 19 = .ok (.iastore, 1) := dk_79 (dk_at dksX13_emit_0 19 rfl rfl)
theorem dX13_emit_20 : decode cX13_emit 20 = .ok (.aload_n 0, 1) := dk_42 (dk_at dksX13_emit_0 20 rfl rfl)
theorem dX13_emit_21 : decode cX13_emit 21 = .ok (.dup, 1) := dk_89 (dk_at dksX13_emit_0 21 rfl rfl)
theorem dX13_emit_22 : decode cX13_emit 22 = .ok (.getfield 273, 3) := dk_180 1 17 (dk_at dksX13_emit_1 0 rfl rfl)
theorem dX13_emit_25 : decode cX13_emit 25 = .ok (.iconst 1, 1) := dk_4 (dk_at dksX13_emit_1 3 rfl rfl)
theorem dX13_emit_26 : decode cX13_emit 26 = .ok (.iadd, 1) := dk_96 (dk_at dksX13_emit_1 4 rfl rfl)
theorem dX13_emit_27 : decode cX13_emit 27 = .ok (.putfield 273, 3) := dk_181 1 17 (dk_at dksX13_emit_1 5 rfl rfl)
theorem dX13_emit_30 : decode cX13_emit 30 = .ok (.return_, 1) := dk_177 (dk_at dksX13_emit_1 8 rfl rfl)
abbrev cX13_comesOut : ByteArray := prog_21_method_34_code
def yX13_comesOut : MethodName := ⟨RX13, "comesOut", "(Z)V"⟩
def dkwX13_comesOut_4 : List UInt8 := [167, 255, 168, 177]
abbrev dktX13_comesOut_4 : List UInt8 := dkwX13_comesOut_4 ++ []
def dkwX13_comesOut_3 : List UInt8 := [160, 0, 7, 6, 167, 0, 14, 28, 16, 10, 160, 0, 7, 7, 167, 0, 4, 8, 3, 182, 1, 75]
abbrev dktX13_comesOut_3 : List UInt8 := dkwX13_comesOut_3 ++ dktX13_comesOut_4
def dkwX13_comesOut_2 : List UInt8 := [180, 1, 72, 4, 100, 181, 1, 72, 42, 28, 16, 8, 160, 0, 7, 5, 167, 0, 24, 28, 16, 9]
abbrev dktX13_comesOut_2 : List UInt8 := dkwX13_comesOut_2 ++ dktX13_comesOut_3
def dkwX13_comesOut_1 : List UInt8 := [159, 0, 19, 27, 153, 0, 16, 28, 16, 8, 159, 0, 9, 28, 16, 9, 160, 0, 4, 177, 42, 89]
abbrev dktX13_comesOut_1 : List UInt8 := dkwX13_comesOut_1 ++ dktX13_comesOut_2
def dkwX13_comesOut_0 : List UInt8 := [42, 180, 1, 72, 158, 0, 87, 42, 180, 0, 119, 42, 180, 1, 72, 4, 100, 46, 61, 28, 16, 6]
abbrev dktX13_comesOut_0 : List UInt8 := dkwX13_comesOut_0 ++ dktX13_comesOut_1
theorem dksX13_comesOut_0 : cX13_comesOut.data.toList.drop 0 = dktX13_comesOut_0 := by decide +kernel
theorem dksX13_comesOut_1 : cX13_comesOut.data.toList.drop 22 = dktX13_comesOut_1 := dk_seg dksX13_comesOut_0 22 rfl rfl
theorem dksX13_comesOut_2 : cX13_comesOut.data.toList.drop 44 = dktX13_comesOut_2 := dk_seg dksX13_comesOut_1 22 rfl rfl
theorem dksX13_comesOut_3 : cX13_comesOut.data.toList.drop 66 = dktX13_comesOut_3 := dk_seg dksX13_comesOut_2 22 rfl rfl
theorem dksX13_comesOut_4 : cX13_comesOut.data.toList.drop 88 = dktX13_comesOut_4 := dk_seg dksX13_comesOut_3 22 rfl rfl
theorem dX13_comesOut_0 : decode cX13_comesOut 0 = .ok (.aload_n 0, 1) := dk_42 (dk_at dksX13_comesOut_0 0 rfl rfl)
theorem dX13_comesOut_1 : decode cX13_comesOut 1 = .ok (.getfield 328, 3) := dk_180 1 72 (dk_at dksX13_comesOut_0 1 rfl rfl)
theorem dX13_comesOut_4 : decode cX13_comesOut 4 = .ok (.ifCond .le 87, 3) := dk_158 0 87 (dk_at dksX13_comesOut_0 4 rfl rfl)
theorem dX13_comesOut_7 : decode cX13_comesOut 7 = .ok (.aload_n 0, 1) := dk_42 (dk_at dksX13_comesOut_0 7 rfl rfl)
theorem dX13_comesOut_8 : decode cX13_comesOut 8 = .ok (.getfield 119, 3) := dk_180 0 119 (dk_at dksX13_comesOut_0 8 rfl rfl)
theorem dX13_comesOut_11 : decode cX13_comesOut 11 = .ok (.aload_n 0, 1) := dk_42 (dk_at dksX13_comesOut_0 11 rfl rfl)
theorem dX13_comesOut_12 : decode cX13_comesOut 12 = .ok (.getfield 328, 3) := dk_180 1 72 (dk_at dksX13_comesOut_0 12 rfl rfl)
theorem dX13_comesOut_15 : decode cX13_comesOut 15 = .ok (.iconst 1, 1) := dk_4 (dk_at dksX13_comesOut_0 15 rfl rfl)
theorem dX13_comesOut_16 : decode cX13_comesOut 16 = .ok (.isub, 1) := dk_100 (dk_at dksX13_comesOut_0 16 rfl rfl)
theorem dX13_comesOut_17 : decode cX13_comesOut 17 = .ok (.iaload, 1) := dk_46 (dk_at dksX13_comesOut_0 17 rfl rfl)
theorem dX13_comesOut_18 : decode cX13_comesOut 18 = .ok (.istore_n 2, 1) := dk_61 (dk_at dksX13_comesOut_0 18 rfl rfl)
theorem dX13_comesOut_19 : decode cX13_comesOut 19 = .ok (.iload_n 2, 1) := dk_28 (dk_at dksX13_comesOut_0 19 rfl rfl)
theorem dX13_comesOut_20 : decode cX13_comesOut 20 = .ok (.bipush 6, 2) := dk_16 6 (dk_at dksX13_comesOut_0 20 rfl rfl)
theorem dX13_comesOut_22 : decode cX13_comesOut 22 = .ok (.if_icmp .eq 19, 3) := dk_159 0 19 (dk_at dksX13_comesOut_1 0 rfl rfl)
theorem dX13_comesOut_25 : decode cX13_comesOut 25 = .ok (.iload_n 1, 1) := dk_27 (dk_at dksX13_comesOut_1 3 rfl rfl)
theorem dX13_comesOut_26 : decode cX13_comesOut 26 = .ok (.ifCond .eq 16, 3) := dk_153 0 16 (dk_at dksX13_comesOut_1 4 rfl rfl)
theorem dX13_comesOut_29 : decode cX13_comesOut 29 = .ok (.iload_n 2, 1) := dk_28 (dk_at dksX13_comesOut_1 7 rfl rfl)
theorem dX13_comesOut_30 : decode cX13_comesOut 30 = .ok (.bipush 8, 2) := dk_16 8 (dk_at dksX13_comesOut_1 8 rfl rfl)
theorem dX13_comesOut_32 : decode cX13_comesOut 32 = .ok (.if_icmp .eq 9, 3) := dk_159 0 9 (dk_at dksX13_comesOut_1 10 rfl rfl)
theorem dX13_comesOut_35 : decode cX13_comesOut 35 = .ok (.iload_n 2, 1) := dk_28 (dk_at dksX13_comesOut_1 13 rfl rfl)
theorem dX13_comesOut_36 : decode cX13_comesOut 36 = .ok (.bipush 9, 2) := dk_16 9 (dk_at dksX13_comesOut_1 14 rfl rfl)
theorem dX13_comesOut_38 : decode cX13_comesOut 38 = .ok (.if_icmp .ne 4, 3) := dk_160 0 4 (dk_at dksX13_comesOut_1 16 rfl rfl)
theorem dX13_comesOut_41 : decode cX13_comesOut 41 = .ok (.return_, 1) := dk_177 (dk_at dksX13_comesOut_1 19 rfl rfl)
theorem dX13_comesOut_42 : decode cX13_comesOut 42 = .ok (.aload_n 0, 1) := dk_42 (dk_at dksX13_comesOut_1 20 rfl rfl)
theorem dX13_comesOut_43 : decode cX13_comesOut 43 = .ok (.dup, 1) := dk_89 (dk_at dksX13_comesOut_1 21 rfl rfl)
theorem dX13_comesOut_44 : decode cX13_comesOut 44 = .ok (.getfield 328, 3) := dk_180 1 72 (dk_at dksX13_comesOut_2 0 rfl rfl)
theorem dX13_comesOut_47 : decode cX13_comesOut 47 = .ok (.iconst 1, 1) := dk_4 (dk_at dksX13_comesOut_2 3 rfl rfl)
theorem dX13_comesOut_48 : decode cX13_comesOut 48 = .ok (.isub, 1) := dk_100 (dk_at dksX13_comesOut_2 4 rfl rfl)
theorem dX13_comesOut_49 : decode cX13_comesOut 49 = .ok (.putfield 328, 3) := dk_181 1 72 (dk_at dksX13_comesOut_2 5 rfl rfl)
theorem dX13_comesOut_52 : decode cX13_comesOut 52 = .ok (.aload_n 0, 1) := dk_42 (dk_at dksX13_comesOut_2 8 rfl rfl)
theorem dX13_comesOut_53 : decode cX13_comesOut 53 = .ok (.iload_n 2, 1) := dk_28 (dk_at dksX13_comesOut_2 9 rfl rfl)
theorem dX13_comesOut_54 : decode cX13_comesOut 54 = .ok (.bipush 8, 2) := dk_16 8 (dk_at dksX13_comesOut_2 10 rfl rfl)
theorem dX13_comesOut_56 : decode cX13_comesOut 56 = .ok (.if_icmp .ne 7, 3) := dk_160 0 7 (dk_at dksX13_comesOut_2 12 rfl rfl)
theorem dX13_comesOut_59 : decode cX13_comesOut 59 = .ok (.iconst 2, 1) := dk_5 (dk_at dksX13_comesOut_2 15 rfl rfl)
theorem dX13_comesOut_60 : decode cX13_comesOut 60 = .ok (.goto 24, 3) := dk_167 0 24 (dk_at dksX13_comesOut_2 16 rfl rfl)
theorem dX13_comesOut_63 : decode cX13_comesOut 63 = .ok (.iload_n 2, 1) := dk_28 (dk_at dksX13_comesOut_2 19 rfl rfl)
theorem dX13_comesOut_64 : decode cX13_comesOut 64 = .ok (.bipush 9, 2) := dk_16 9 (dk_at dksX13_comesOut_2 20 rfl rfl)
theorem dX13_comesOut_66 : decode cX13_comesOut 66 = .ok (.if_icmp .ne 7, 3) := dk_160 0 7 (dk_at dksX13_comesOut_3 0 rfl rfl)
theorem dX13_comesOut_69 : decode cX13_comesOut 69 = .ok (.iconst 3, 1) := dk_6 (dk_at dksX13_comesOut_3 3 rfl rfl)
theorem dX13_comesOut_70 : decode cX13_comesOut 70 = .ok (.goto 14, 3) := dk_167 0 14 (dk_at dksX13_comesOut_3 4 rfl rfl)
theorem dX13_comesOut_73 : decode cX13_comesOut 73 = .ok (.iload_n 2, 1) := dk_28 (dk_at dksX13_comesOut_3 7 rfl rfl)
theorem dX13_comesOut_74 : decode cX13_comesOut 74 = .ok (.bipush 10, 2) := dk_16 10 (dk_at dksX13_comesOut_3 8 rfl rfl)
theorem dX13_comesOut_76 : decode cX13_comesOut 76 = .ok (.if_icmp .ne 7, 3) := dk_160 0 7 (dk_at dksX13_comesOut_3 10 rfl rfl)
theorem dX13_comesOut_79 : decode cX13_comesOut 79 = .ok (.iconst 4, 1) := dk_7 (dk_at dksX13_comesOut_3 13 rfl rfl)
theorem dX13_comesOut_80 : decode cX13_comesOut 80 = .ok (.goto 4, 3) := dk_167 0 4 (dk_at dksX13_comesOut_3 14 rfl rfl)
theorem dX13_comesOut_83 : decode cX13_comesOut 83 = .ok (.iconst 5, 1) := dk_8 (dk_at dksX13_comesOut_3 17 rfl rfl)
theorem dX13_comesOut_84 : decode cX13_comesOut 84 = .ok (.iconst 0, 1) := dk_3 (dk_at dksX13_comesOut_3 18 rfl rfl)
theorem dX13_comesOut_85 : decode cX13_comesOut 85 = .ok (.invokevirtual 331, 3) := dk_182 1 75 (dk_at dksX13_comesOut_3 19 rfl rfl)
theorem dX13_comesOut_88 : decode cX13_comesOut 88 = .ok (.goto (-88), 3) := dk_167 255 168 (dk_at dksX13_comesOut_4 0 rfl rfl)
theorem dX13_comesOut_91 : decode cX13_comesOut 91 = .ok (.return_, 1) := dk_177 (dk_at dksX13_comesOut_4 3 rfl rfl)
abbrev cX13_term : ByteArray := prog_21_method_32_code
def yX13_term : MethodName := ⟨RX13, "term", "()V"⟩
def dkwX13_term_1 : List UInt8 := [42, 180, 0, 110, 42, 180, 1, 14, 42, 180, 1, 17, 79, 42, 89, 180, 1, 14, 4, 96, 181, 1, 14, 177]
abbrev dktX13_term_1 : List UInt8 := dkwX13_term_1 ++ []
def dkwX13_term_0 : List UInt8 := [42, 180, 0, 107, 42, 180, 1, 14, 42, 180, 1, 17, 79, 42, 180, 0, 228, 154, 0, 7, 42, 182, 1, 66]
abbrev dktX13_term_0 : List UInt8 := dkwX13_term_0 ++ dktX13_term_1
theorem dksX13_term_0 : cX13_term.data.toList.drop 0 = dktX13_term_0 := by decide +kernel
theorem dksX13_term_1 : cX13_term.data.toList.drop 24 = dktX13_term_1 := dk_seg dksX13_term_0 24 rfl rfl
theorem dX13_term_0 : decode cX13_term 0 = .ok (.aload_n 0, 1) := dk_42 (dk_at dksX13_term_0 0 rfl rfl)
theorem dX13_term_1 : decode cX13_term 1 = .ok (.getfield 107, 3) := dk_180 0 107 (dk_at dksX13_term_0 1 rfl rfl)
theorem dX13_term_4 : decode cX13_term 4 = .ok (.aload_n 0, 1) := dk_42 (dk_at dksX13_term_0 4 rfl rfl)
theorem dX13_term_5 : decode cX13_term 5 = .ok (.getfield 270, 3) := dk_180 1 14 (dk_at dksX13_term_0 5 rfl rfl)
theorem dX13_term_8 : decode cX13_term 8 = .ok (.aload_n 0, 1) := dk_42 (dk_at dksX13_term_0 8 rfl rfl)
theorem dX13_term_9 : decode cX13_term 9 = .ok (.getfield 273, 3) := dk_180 1 17 (dk_at dksX13_term_0 9 rfl rfl)
theorem dX13_term_12 : decode cX13_term 12 = .ok (.iastore, 1) := dk_79 (dk_at dksX13_term_0 12 rfl rfl)
theorem dX13_term_13 : decode cX13_term 13 = .ok (.aload_n 0, 1) := dk_42 (dk_at dksX13_term_0 13 rfl rfl)
theorem dX13_term_14 : decode cX13_term 14 = .ok (.getfield 228, 3) := dk_180 0 228 (dk_at dksX13_term_0 14 rfl rfl)
theorem dX13_term_17 : decode cX13_term 17 = .ok (.ifCond .ne 7, 3) := dk_154 0 7 (dk_at dksX13_term_0 17 rfl rfl)
theorem dX13_term_20 : decode cX13_term 20 = .ok (.aload_n 0, 1) := dk_42 (dk_at dksX13_term_0 20 rfl rfl)
theorem dX13_term_21 : decode cX13_term 21 = .ok (.invokevirtual 322, 3) := dk_182 1 66 (dk_at dksX13_term_0 21 rfl rfl)
theorem dX13_term_24 : decode cX13_term 24 = .ok (.aload_n 0, 1) := dk_42 (dk_at dksX13_term_1 0 rfl rfl)
theorem dX13_term_25 : decode cX13_term 25 = .ok (.getfield 110, 3) := dk_180 0 110 (dk_at dksX13_term_1 1 rfl rfl)
theorem dX13_term_28 : decode cX13_term 28 = .ok (.aload_n 0, 1) := dk_42 (dk_at dksX13_term_1 4 rfl rfl)
theorem dX13_term_29 : decode cX13_term 29 = .ok (.getfield 270, 3) := dk_180 1 14 (dk_at dksX13_term_1 5 rfl rfl)
theorem dX13_term_32 : decode cX13_term 32 = .ok (.aload_n 0, 1) := dk_42 (dk_at dksX13_term_1 8 rfl rfl)
theorem dX13_term_33 : decode cX13_term 33 = .ok (.getfield 273, 3) := dk_180 1 17 (dk_at dksX13_term_1 9 rfl rfl)
theorem dX13_term_36 : decode cX13_term 36 = .ok (.iastore, 1) := dk_79 (dk_at dksX13_term_1 12 rfl rfl)
theorem dX13_term_37 : decode cX13_term 37 = .ok (.aload_n 0, 1) := dk_42 (dk_at dksX13_term_1 13 rfl rfl)
theorem dX13_term_38 : decode cX13_term 38 = .ok (.dup, 1) := dk_89 (dk_at dksX13_term_1 14 rfl rfl)
theorem dX13_term_39 : decode cX13_term 39 = .ok (.getfield 270, 3) := dk_180 1 14 (dk_at dksX13_term_1 15 rfl rfl)
theorem dX13_term_42 : decode cX13_term 42 = .ok (.iconst 1, 1) := dk_4 (dk_at dksX13_term_1 18 rfl rfl)
theorem dX13_term_43 : decode cX13_term 43 = .ok (.iadd, 1) := dk_96 (dk_at dksX13_term_1 19 rfl rfl)
theorem dX13_term_44 : decode cX13_term 44 = .ok (.putfield 270, 3) := dk_181 1 14 (dk_at dksX13_term_1 20 rfl rfl)
theorem dX13_term_47 : decode cX13_term 47 = .ok (.return_, 1) := dk_177 (dk_at dksX13_term_1 23 rfl rfl)
abbrev cX13_tellErrand : ByteArray := prog_21_method_29_code
def yX13_tellErrand : MethodName := ⟨RX13, "tellErrand", "()V"⟩
def dkwX13_tellErrand_7 : List UInt8 := [182, 1, 62, 177]
abbrev dktX13_tellErrand_7 : List UInt8 := dkwX13_tellErrand_7 ++ []
def dkwX13_tellErrand_6 : List UInt8 := [180, 0, 61, 16, 7, 42, 180, 1, 5, 104, 27, 96, 92, 46, 4, 96, 79, 42, 28, 29, 21, 4]
abbrev dktX13_tellErrand_6 : List UInt8 := dkwX13_tellErrand_6 ++ dktX13_tellErrand_7
def dkwX13_tellErrand_5 : List UInt8 := [27, 96, 46, 96, 54, 5, 42, 180, 0, 64, 21, 5, 29, 79, 42, 180, 0, 67, 21, 5, 21, 4, 79, 42]
abbrev dktX13_tellErrand_5 : List UInt8 := dkwX13_tellErrand_5 ++ dktX13_tellErrand_6
def dkwX13_tellErrand_4 : List UInt8 := [177, 16, 42, 42, 180, 1, 5, 104, 16, 6, 27, 104, 96, 42, 180, 0, 61, 16, 7, 42, 180, 1, 5, 104]
abbrev dktX13_tellErrand_4 : List UInt8 := dkwX13_tellErrand_4 ++ dktX13_tellErrand_5
def dkwX13_tellErrand_3 : List UInt8 := [3, 16, 11, 182, 1, 33, 54, 4, 42, 7, 182, 1, 37, 42, 180, 0, 228, 157, 0, 7, 27, 156, 0, 4]
abbrev dktX13_tellErrand_3 : List UInt8 := dkwX13_tellErrand_3 ++ dktX13_tellErrand_4
def dkwX13_tellErrand_2 : List UInt8 := [177, 42, 182, 0, 249, 42, 182, 1, 46, 87, 42, 180, 0, 231, 61, 42, 3, 16, 11, 182, 1, 33, 62, 42]
abbrev dktX13_tellErrand_2 : List UInt8 := dkwX13_tellErrand_2 ++ dktX13_tellErrand_3
def dkwX13_tellErrand_1 : List UInt8 := [180, 1, 5, 104, 27, 96, 46, 16, 6, 160, 0, 8, 42, 5, 182, 0, 243, 42, 180, 0, 228, 158, 0, 4]
abbrev dktX13_tellErrand_1 : List UInt8 := dkwX13_tellErrand_1 ++ dktX13_tellErrand_2
def dkwX13_tellErrand_0 : List UInt8 := [42, 42, 180, 0, 231, 4, 96, 182, 1, 59, 60, 27, 155, 0, 27, 42, 180, 0, 61, 16, 7, 42]
abbrev dktX13_tellErrand_0 : List UInt8 := dkwX13_tellErrand_0 ++ dktX13_tellErrand_1
theorem dksX13_tellErrand_0 : cX13_tellErrand.data.toList.drop 0 = dktX13_tellErrand_0 := by decide +kernel
theorem dksX13_tellErrand_1 : cX13_tellErrand.data.toList.drop 22 = dktX13_tellErrand_1 := dk_seg dksX13_tellErrand_0 22 rfl rfl
theorem dksX13_tellErrand_2 : cX13_tellErrand.data.toList.drop 46 = dktX13_tellErrand_2 := dk_seg dksX13_tellErrand_1 24 rfl rfl
theorem dksX13_tellErrand_3 : cX13_tellErrand.data.toList.drop 70 = dktX13_tellErrand_3 := dk_seg dksX13_tellErrand_2 24 rfl rfl
theorem dksX13_tellErrand_4 : cX13_tellErrand.data.toList.drop 94 = dktX13_tellErrand_4 := dk_seg dksX13_tellErrand_3 24 rfl rfl
theorem dksX13_tellErrand_5 : cX13_tellErrand.data.toList.drop 118 = dktX13_tellErrand_5 := dk_seg dksX13_tellErrand_4 24 rfl rfl
theorem dksX13_tellErrand_6 : cX13_tellErrand.data.toList.drop 142 = dktX13_tellErrand_6 := dk_seg dksX13_tellErrand_5 24 rfl rfl
theorem dksX13_tellErrand_7 : cX13_tellErrand.data.toList.drop 164 = dktX13_tellErrand_7 := dk_seg dksX13_tellErrand_6 22 rfl rfl
theorem dX13_tellErrand_0 : decode cX13_tellErrand 0 = .ok (.aload_n 0, 1) := dk_42 (dk_at dksX13_tellErrand_0 0 rfl rfl)
theorem dX13_tellErrand_1 : decode cX13_tellErrand 1 = .ok (.aload_n 0, 1) := dk_42 (dk_at dksX13_tellErrand_0 1 rfl rfl)
theorem dX13_tellErrand_2 : decode cX13_tellErrand 2 = .ok (.getfield 231, 3) := dk_180 0 231 (dk_at dksX13_tellErrand_0 2 rfl rfl)
theorem dX13_tellErrand_5 : decode cX13_tellErrand 5 = .ok (.iconst 1, 1) := dk_4 (dk_at dksX13_tellErrand_0 5 rfl rfl)
theorem dX13_tellErrand_6 : decode cX13_tellErrand 6 = .ok (.iadd, 1) := dk_96 (dk_at dksX13_tellErrand_0 6 rfl rfl)
theorem dX13_tellErrand_7 : decode cX13_tellErrand 7 = .ok (.invokevirtual 315, 3) := dk_182 1 59 (dk_at dksX13_tellErrand_0 7 rfl rfl)
theorem dX13_tellErrand_10 : decode cX13_tellErrand 10 = .ok (.istore_n 1, 1) := dk_60 (dk_at dksX13_tellErrand_0 10 rfl rfl)
theorem dX13_tellErrand_11 : decode cX13_tellErrand 11 = .ok (.iload_n 1, 1) := dk_27 (dk_at dksX13_tellErrand_0 11 rfl rfl)
theorem dX13_tellErrand_12 : decode cX13_tellErrand 12 = .ok (.ifCond .lt 27, 3) := dk_155 0 27 (dk_at dksX13_tellErrand_0 12 rfl rfl)
theorem dX13_tellErrand_15 : decode cX13_tellErrand 15 = .ok (.aload_n 0, 1) := dk_42 (dk_at dksX13_tellErrand_0 15 rfl rfl)
theorem dX13_tellErrand_16 : decode cX13_tellErrand 16 = .ok (.getfield 61, 3) := dk_180 0 61 (dk_at dksX13_tellErrand_0 16 rfl rfl)
theorem dX13_tellErrand_19 : decode cX13_tellErrand 19 = .ok (.bipush 7, 2) := dk_16 7 (dk_at dksX13_tellErrand_0 19 rfl rfl)
theorem dX13_tellErrand_21 : decode cX13_tellErrand 21 = .ok (.aload_n 0, 1) := dk_42 (dk_at dksX13_tellErrand_0 21 rfl rfl)
theorem dX13_tellErrand_22 : decode cX13_tellErrand 22 = .ok (.getfield 261, 3) := dk_180 1 5 (dk_at dksX13_tellErrand_1 0 rfl rfl)
theorem dX13_tellErrand_25 : decode cX13_tellErrand 25 = .ok (.imul, 1) := dk_104 (dk_at dksX13_tellErrand_1 3 rfl rfl)
theorem dX13_tellErrand_26 : decode cX13_tellErrand 26 = .ok (.iload_n 1, 1) := dk_27 (dk_at dksX13_tellErrand_1 4 rfl rfl)
theorem dX13_tellErrand_27 : decode cX13_tellErrand 27 = .ok (.iadd, 1) := dk_96 (dk_at dksX13_tellErrand_1 5 rfl rfl)
theorem dX13_tellErrand_28 : decode cX13_tellErrand 28 = .ok (.iaload, 1) := dk_46 (dk_at dksX13_tellErrand_1 6 rfl rfl)
theorem dX13_tellErrand_29 : decode cX13_tellErrand 29 = .ok (.bipush 6, 2) := dk_16 6 (dk_at dksX13_tellErrand_1 7 rfl rfl)
theorem dX13_tellErrand_31 : decode cX13_tellErrand 31 = .ok (.if_icmp .ne 8, 3) := dk_160 0 8 (dk_at dksX13_tellErrand_1 9 rfl rfl)
theorem dX13_tellErrand_34 : decode cX13_tellErrand 34 = .ok (.aload_n 0, 1) := dk_42 (dk_at dksX13_tellErrand_1 12 rfl rfl)
theorem dX13_tellErrand_35 : decode cX13_tellErrand 35 = .ok (.iconst 2, 1) := dk_5 (dk_at dksX13_tellErrand_1 13 rfl rfl)
theorem dX13_tellErrand_36 : decode cX13_tellErrand 36 = .ok (.invokevirtual 243, 3) := dk_182 0 243 (dk_at dksX13_tellErrand_1 14 rfl rfl)
theorem dX13_tellErrand_39 : decode cX13_tellErrand 39 = .ok (.aload_n 0, 1) := dk_42 (dk_at dksX13_tellErrand_1 17 rfl rfl)
theorem dX13_tellErrand_40 : decode cX13_tellErrand 40 = .ok (.getfield 228, 3) := dk_180 0 228 (dk_at dksX13_tellErrand_1 18 rfl rfl)
theorem dX13_tellErrand_43 : decode cX13_tellErrand 43 = .ok (.ifCond .le 4, 3) := dk_158 0 4 (dk_at dksX13_tellErrand_1 21 rfl rfl)
theorem dX13_tellErrand_46 : decode cX13_tellErrand 46 = .ok (.return_, 1) := dk_177 (dk_at dksX13_tellErrand_2 0 rfl rfl)
theorem dX13_tellErrand_47 : decode cX13_tellErrand 47 = .ok (.aload_n 0, 1) := dk_42 (dk_at dksX13_tellErrand_2 1 rfl rfl)
theorem dX13_tellErrand_48 : decode cX13_tellErrand 48 = .ok (.invokevirtual 249, 3) := dk_182 0 249 (dk_at dksX13_tellErrand_2 2 rfl rfl)
theorem dX13_tellErrand_51 : decode cX13_tellErrand 51 = .ok (.aload_n 0, 1) := dk_42 (dk_at dksX13_tellErrand_2 5 rfl rfl)
theorem dX13_tellErrand_52 : decode cX13_tellErrand 52 = .ok (.invokevirtual 302, 3) := dk_182 1 46 (dk_at dksX13_tellErrand_2 6 rfl rfl)
theorem dX13_tellErrand_55 : decode cX13_tellErrand 55 = .ok (.pop, 1) := dk_87 (dk_at dksX13_tellErrand_2 9 rfl rfl)
theorem dX13_tellErrand_56 : decode cX13_tellErrand 56 = .ok (.aload_n 0, 1) := dk_42 (dk_at dksX13_tellErrand_2 10 rfl rfl)
theorem dX13_tellErrand_57 : decode cX13_tellErrand 57 = .ok (.getfield 231, 3) := dk_180 0 231 (dk_at dksX13_tellErrand_2 11 rfl rfl)
theorem dX13_tellErrand_60 : decode cX13_tellErrand 60 = .ok (.istore_n 2, 1) := dk_61 (dk_at dksX13_tellErrand_2 14 rfl rfl)
theorem dX13_tellErrand_61 : decode cX13_tellErrand 61 = .ok (.aload_n 0, 1) := dk_42 (dk_at dksX13_tellErrand_2 15 rfl rfl)
theorem dX13_tellErrand_62 : decode cX13_tellErrand 62 = .ok (.iconst 0, 1) := dk_3 (dk_at dksX13_tellErrand_2 16 rfl rfl)
theorem dX13_tellErrand_63 : decode cX13_tellErrand 63 = .ok (.bipush 11, 2) := dk_16 11 (dk_at dksX13_tellErrand_2 17 rfl rfl)
theorem dX13_tellErrand_65 : decode cX13_tellErrand 65 = .ok (.invokevirtual 289, 3) := dk_182 1 33 (dk_at dksX13_tellErrand_2 19 rfl rfl)
theorem dX13_tellErrand_68 : decode cX13_tellErrand 68 = .ok (.istore_n 3, 1) := dk_62 (dk_at dksX13_tellErrand_2 22 rfl rfl)
theorem dX13_tellErrand_69 : decode cX13_tellErrand 69 = .ok (.aload_n 0, 1) := dk_42 (dk_at dksX13_tellErrand_2 23 rfl rfl)
theorem dX13_tellErrand_70 : decode cX13_tellErrand 70 = .ok (.iconst 0, 1) := dk_3 (dk_at dksX13_tellErrand_3 0 rfl rfl)
theorem dX13_tellErrand_71 : decode cX13_tellErrand 71 = .ok (.bipush 11, 2) := dk_16 11 (dk_at dksX13_tellErrand_3 1 rfl rfl)
theorem dX13_tellErrand_73 : decode cX13_tellErrand 73 = .ok (.invokevirtual 289, 3) := dk_182 1 33 (dk_at dksX13_tellErrand_3 3 rfl rfl)
theorem dX13_tellErrand_76 : decode cX13_tellErrand 76 = .ok (.istore 4, 2) := dk_54 4 (dk_at dksX13_tellErrand_3 6 rfl rfl)
theorem dX13_tellErrand_78 : decode cX13_tellErrand 78 = .ok (.aload_n 0, 1) := dk_42 (dk_at dksX13_tellErrand_3 8 rfl rfl)
theorem dX13_tellErrand_79 : decode cX13_tellErrand 79 = .ok (.iconst 4, 1) := dk_7 (dk_at dksX13_tellErrand_3 9 rfl rfl)
theorem dX13_tellErrand_80 : decode cX13_tellErrand 80 = .ok (.invokevirtual 293, 3) := dk_182 1 37 (dk_at dksX13_tellErrand_3 10 rfl rfl)
theorem dX13_tellErrand_83 : decode cX13_tellErrand 83 = .ok (.aload_n 0, 1) := dk_42 (dk_at dksX13_tellErrand_3 13 rfl rfl)
theorem dX13_tellErrand_84 : decode cX13_tellErrand 84 = .ok (.getfield 228, 3) := dk_180 0 228 (dk_at dksX13_tellErrand_3 14 rfl rfl)
theorem dX13_tellErrand_87 : decode cX13_tellErrand 87 = .ok (.ifCond .gt 7, 3) := dk_157 0 7 (dk_at dksX13_tellErrand_3 17 rfl rfl)
theorem dX13_tellErrand_90 : decode cX13_tellErrand 90 = .ok (.iload_n 1, 1) := dk_27 (dk_at dksX13_tellErrand_3 20 rfl rfl)
theorem dX13_tellErrand_91 : decode cX13_tellErrand 91 = .ok (.ifCond .ge 4, 3) := dk_156 0 4 (dk_at dksX13_tellErrand_3 21 rfl rfl)
theorem dX13_tellErrand_94 : decode cX13_tellErrand 94 = .ok (.return_, 1) := dk_177 (dk_at dksX13_tellErrand_4 0 rfl rfl)
theorem dX13_tellErrand_95 : decode cX13_tellErrand 95 = .ok (.bipush 42, 2) := dk_16 42 (dk_at dksX13_tellErrand_4 1 rfl rfl)
theorem dX13_tellErrand_97 : decode cX13_tellErrand 97 = .ok (.aload_n 0, 1) := dk_42 (dk_at dksX13_tellErrand_4 3 rfl rfl)
theorem dX13_tellErrand_98 : decode cX13_tellErrand 98 = .ok (.getfield 261, 3) := dk_180 1 5 (dk_at dksX13_tellErrand_4 4 rfl rfl)
theorem dX13_tellErrand_101 : decode cX13_tellErrand 101 = .ok (.imul, 1) := dk_104 (dk_at dksX13_tellErrand_4 7 rfl rfl)
theorem dX13_tellErrand_102 : decode cX13_tellErrand 102 = .ok (.bipush 6, 2) := dk_16 6 (dk_at dksX13_tellErrand_4 8 rfl rfl)
theorem dX13_tellErrand_104 : decode cX13_tellErrand 104 = .ok (.iload_n 1, 1) := dk_27 (dk_at dksX13_tellErrand_4 10 rfl rfl)
theorem dX13_tellErrand_105 : decode cX13_tellErrand 105 = .ok (.imul, 1) := dk_104 (dk_at dksX13_tellErrand_4 11 rfl rfl)
theorem dX13_tellErrand_106 : decode cX13_tellErrand 106 = .ok (.iadd, 1) := dk_96 (dk_at dksX13_tellErrand_4 12 rfl rfl)
theorem dX13_tellErrand_107 : decode cX13_tellErrand 107 = .ok (.aload_n 0, 1) := dk_42 (dk_at dksX13_tellErrand_4 13 rfl rfl)
theorem dX13_tellErrand_108 : decode cX13_tellErrand 108 = .ok (.getfield 61, 3) := dk_180 0 61 (dk_at dksX13_tellErrand_4 14 rfl rfl)
theorem dX13_tellErrand_111 : decode cX13_tellErrand 111 = .ok (.bipush 7, 2) := dk_16 7 (dk_at dksX13_tellErrand_4 17 rfl rfl)
theorem dX13_tellErrand_113 : decode cX13_tellErrand 113 = .ok (.aload_n 0, 1) := dk_42 (dk_at dksX13_tellErrand_4 19 rfl rfl)
theorem dX13_tellErrand_114 : decode cX13_tellErrand 114 = .ok (.getfield 261, 3) := dk_180 1 5 (dk_at dksX13_tellErrand_4 20 rfl rfl)
theorem dX13_tellErrand_117 : decode cX13_tellErrand 117 = .ok (.imul, 1) := dk_104 (dk_at dksX13_tellErrand_4 23 rfl rfl)
theorem dX13_tellErrand_118 : decode cX13_tellErrand 118 = .ok (.iload_n 1, 1) := dk_27 (dk_at dksX13_tellErrand_5 0 rfl rfl)
theorem dX13_tellErrand_119 : decode cX13_tellErrand 119 = .ok (.iadd, 1) := dk_96 (dk_at dksX13_tellErrand_5 1 rfl rfl)
theorem dX13_tellErrand_120 : decode cX13_tellErrand 120 = .ok (.iaload, 1) := dk_46 (dk_at dksX13_tellErrand_5 2 rfl rfl)
theorem dX13_tellErrand_121 : decode cX13_tellErrand 121 = .ok (.iadd, 1) := dk_96 (dk_at dksX13_tellErrand_5 3 rfl rfl)
theorem dX13_tellErrand_122 : decode cX13_tellErrand 122 = .ok (.istore 5, 2) := dk_54 5 (dk_at dksX13_tellErrand_5 4 rfl rfl)
theorem dX13_tellErrand_124 : decode cX13_tellErrand 124 = .ok (.aload_n 0, 1) := dk_42 (dk_at dksX13_tellErrand_5 6 rfl rfl)
theorem dX13_tellErrand_125 : decode cX13_tellErrand 125 = .ok (.getfield 64, 3) := dk_180 0 64 (dk_at dksX13_tellErrand_5 7 rfl rfl)
theorem dX13_tellErrand_128 : decode cX13_tellErrand 128 = .ok (.iload 5, 2) := dk_21 5 (dk_at dksX13_tellErrand_5 10 rfl rfl)
theorem dX13_tellErrand_130 : decode cX13_tellErrand 130 = .ok (.iload_n 3, 1) := dk_29 (dk_at dksX13_tellErrand_5 12 rfl rfl)
theorem dX13_tellErrand_131 : decode cX13_tellErrand 131 = .ok (.iastore, 1) := dk_79 (dk_at dksX13_tellErrand_5 13 rfl rfl)
theorem dX13_tellErrand_132 : decode cX13_tellErrand 132 = .ok (.aload_n 0, 1) := dk_42 (dk_at dksX13_tellErrand_5 14 rfl rfl)
theorem dX13_tellErrand_133 : decode cX13_tellErrand 133 = .ok (.getfield 67, 3) := dk_180 0 67 (dk_at dksX13_tellErrand_5 15 rfl rfl)
theorem dX13_tellErrand_136 : decode cX13_tellErrand 136 = .ok (.iload 5, 2) := dk_21 5 (dk_at dksX13_tellErrand_5 18 rfl rfl)
theorem dX13_tellErrand_138 : decode cX13_tellErrand 138 = .ok (.iload 4, 2) := dk_21 4 (dk_at dksX13_tellErrand_5 20 rfl rfl)
theorem dX13_tellErrand_140 : decode cX13_tellErrand 140 = .ok (.iastore, 1) := dk_79 (dk_at dksX13_tellErrand_5 22 rfl rfl)
theorem dX13_tellErrand_141 : decode cX13_tellErrand 141 = .ok (.aload_n 0, 1) := dk_42 (dk_at dksX13_tellErrand_5 23 rfl rfl)
theorem dX13_tellErrand_142 : decode cX13_tellErrand 142 = .ok (.getfield 61, 3) := dk_180 0 61 (dk_at dksX13_tellErrand_6 0 rfl rfl)
theorem dX13_tellErrand_145 : decode cX13_tellErrand 145 = .ok (.bipush 7, 2) := dk_16 7 (dk_at dksX13_tellErrand_6 3 rfl rfl)
theorem dX13_tellErrand_147 : decode cX13_tellErrand 147 = .ok (.aload_n 0, 1) := dk_42 (dk_at dksX13_tellErrand_6 5 rfl rfl)
theorem dX13_tellErrand_148 : decode cX13_tellErrand 148 = .ok (.getfield 261, 3) := dk_180 1 5 (dk_at dksX13_tellErrand_6 6 rfl rfl)
theorem dX13_tellErrand_151 : decode cX13_tellErrand 151 = .ok (.imul, 1) := dk_104 (dk_at dksX13_tellErrand_6 9 rfl rfl)
theorem dX13_tellErrand_152 : decode cX13_tellErrand 152 = .ok (.iload_n 1, 1) := dk_27 (dk_at dksX13_tellErrand_6 10 rfl rfl)
theorem dX13_tellErrand_153 : decode cX13_tellErrand 153 = .ok (.iadd, 1) := dk_96 (dk_at dksX13_tellErrand_6 11 rfl rfl)
theorem dX13_tellErrand_154 : decode cX13_tellErrand 154 = .ok (.dup2, 1) := dk_92 (dk_at dksX13_tellErrand_6 12 rfl rfl)
theorem dX13_tellErrand_155 : decode cX13_tellErrand 155 = .ok (.iaload, 1) := dk_46 (dk_at dksX13_tellErrand_6 13 rfl rfl)
theorem dX13_tellErrand_156 : decode cX13_tellErrand 156 = .ok (.iconst 1, 1) := dk_4 (dk_at dksX13_tellErrand_6 14 rfl rfl)
theorem dX13_tellErrand_157 : decode cX13_tellErrand 157 = .ok (.iadd, 1) := dk_96 (dk_at dksX13_tellErrand_6 15 rfl rfl)
theorem dX13_tellErrand_158 : decode cX13_tellErrand 158 = .ok (.iastore, 1) := dk_79 (dk_at dksX13_tellErrand_6 16 rfl rfl)
theorem dX13_tellErrand_159 : decode cX13_tellErrand 159 = .ok (.aload_n 0, 1) := dk_42 (dk_at dksX13_tellErrand_6 17 rfl rfl)
theorem dX13_tellErrand_160 : decode cX13_tellErrand 160 = .ok (.iload_n 2, 1) := dk_28 (dk_at dksX13_tellErrand_6 18 rfl rfl)
theorem dX13_tellErrand_161 : decode cX13_tellErrand 161 = .ok (.iload_n 3, 1) := dk_29 (dk_at dksX13_tellErrand_6 19 rfl rfl)
theorem dX13_tellErrand_162 : decode cX13_tellErrand 162 = .ok (.iload 4, 2) := dk_21 4 (dk_at dksX13_tellErrand_6 20 rfl rfl)
theorem dX13_tellErrand_164 : decode cX13_tellErrand 164 = .ok (.invokevirtual 318, 3) := dk_182 1 62 (dk_at dksX13_tellErrand_7 0 rfl rfl)
theorem dX13_tellErrand_167 : decode cX13_tellErrand 167 = .ok (.return_, 1) := dk_177 (dk_at dksX13_tellErrand_7 3 rfl rfl)
abbrev cX13_tellPillar : ByteArray := prog_21_method_30_code
def yX13_tellPillar : MethodName := ⟨RX13, "tellPillar", "()V"⟩
def dkwX13_tellPillar_2 : List UInt8 := [182, 1, 37, 42, 180, 0, 228, 154, 0, 16, 42, 180, 0, 70, 42, 180, 1, 5, 92, 46, 4, 96, 79, 177]
abbrev dktX13_tellPillar_2 : List UInt8 := dkwX13_tellPillar_2 ++ []
def dkwX13_tellPillar_1 : List UInt8 := [3, 16, 10, 182, 1, 33, 79, 42, 180, 0, 76, 27, 42, 3, 16, 10, 182, 1, 33, 79, 42, 7]
abbrev dktX13_tellPillar_1 : List UInt8 := dkwX13_tellPillar_1 ++ dktX13_tellPillar_2
def dkwX13_tellPillar_0 : List UInt8 := [16, 6, 42, 180, 1, 5, 104, 42, 180, 0, 70, 42, 180, 1, 5, 46, 96, 60, 42, 180, 0, 73, 27, 42]
abbrev dktX13_tellPillar_0 : List UInt8 := dkwX13_tellPillar_0 ++ dktX13_tellPillar_1
theorem dksX13_tellPillar_0 : cX13_tellPillar.data.toList.drop 0 = dktX13_tellPillar_0 := by decide +kernel
theorem dksX13_tellPillar_1 : cX13_tellPillar.data.toList.drop 24 = dktX13_tellPillar_1 := dk_seg dksX13_tellPillar_0 24 rfl rfl
theorem dksX13_tellPillar_2 : cX13_tellPillar.data.toList.drop 46 = dktX13_tellPillar_2 := dk_seg dksX13_tellPillar_1 22 rfl rfl
theorem dX13_tellPillar_0 : decode cX13_tellPillar 0 = .ok (.bipush 6, 2) := dk_16 6 (dk_at dksX13_tellPillar_0 0 rfl rfl)
theorem dX13_tellPillar_2 : decode cX13_tellPillar 2 = .ok (.aload_n 0, 1) := dk_42 (dk_at dksX13_tellPillar_0 2 rfl rfl)
theorem dX13_tellPillar_3 : decode cX13_tellPillar 3 = .ok (.getfield 261, 3) := dk_180 1 5 (dk_at dksX13_tellPillar_0 3 rfl rfl)
theorem dX13_tellPillar_6 : decode cX13_tellPillar 6 = .ok (.imul, 1) := dk_104 (dk_at dksX13_tellPillar_0 6 rfl rfl)
theorem dX13_tellPillar_7 : decode cX13_tellPillar 7 = .ok (.aload_n 0, 1) := dk_42 (dk_at dksX13_tellPillar_0 7 rfl rfl)
theorem dX13_tellPillar_8 : decode cX13_tellPillar 8 = .ok (.getfield 70, 3) := dk_180 0 70 (dk_at dksX13_tellPillar_0 8 rfl rfl)
theorem dX13_tellPillar_11 : decode cX13_tellPillar 11 = .ok (.aload_n 0, 1) := dk_42 (dk_at dksX13_tellPillar_0 11 rfl rfl)
theorem dX13_tellPillar_12 : decode cX13_tellPillar 12 = .ok (.getfield 261, 3) := dk_180 1 5 (dk_at dksX13_tellPillar_0 12 rfl rfl)
theorem dX13_tellPillar_15 : decode cX13_tellPillar 15 = .ok (.iaload, 1) := dk_46 (dk_at dksX13_tellPillar_0 15 rfl rfl)
theorem dX13_tellPillar_16 : decode cX13_tellPillar 16 = .ok (.iadd, 1) := dk_96 (dk_at dksX13_tellPillar_0 16 rfl rfl)
theorem dX13_tellPillar_17 : decode cX13_tellPillar 17 = .ok (.istore_n 1, 1) := dk_60 (dk_at dksX13_tellPillar_0 17 rfl rfl)
theorem dX13_tellPillar_18 : decode cX13_tellPillar 18 = .ok (.aload_n 0, 1) := dk_42 (dk_at dksX13_tellPillar_0 18 rfl rfl)
theorem dX13_tellPillar_19 : decode cX13_tellPillar 19 = .ok (.getfield 73, 3) := dk_180 0 73 (dk_at dksX13_tellPillar_0 19 rfl rfl)
theorem dX13_tellPillar_22 : decode cX13_tellPillar 22 = .ok (.iload_n 1, 1) := dk_27 (dk_at dksX13_tellPillar_0 22 rfl rfl)
theorem dX13_tellPillar_23 : decode cX13_tellPillar 23 = .ok (.aload_n 0, 1) := dk_42 (dk_at dksX13_tellPillar_0 23 rfl rfl)
theorem dX13_tellPillar_24 : decode cX13_tellPillar 24 = .ok (.iconst 0, 1) := dk_3 (dk_at dksX13_tellPillar_1 0 rfl rfl)
theorem dX13_tellPillar_25 : decode cX13_tellPillar 25 = .ok (.bipush 10, 2) := dk_16 10 (dk_at dksX13_tellPillar_1 1 rfl rfl)
theorem dX13_tellPillar_27 : decode cX13_tellPillar 27 = .ok (.invokevirtual 289, 3) := dk_182 1 33 (dk_at dksX13_tellPillar_1 3 rfl rfl)
theorem dX13_tellPillar_30 : decode cX13_tellPillar 30 = .ok (.iastore, 1) := dk_79 (dk_at dksX13_tellPillar_1 6 rfl rfl)
theorem dX13_tellPillar_31 : decode cX13_tellPillar 31 = .ok (.aload_n 0, 1) := dk_42 (dk_at dksX13_tellPillar_1 7 rfl rfl)
theorem dX13_tellPillar_32 : decode cX13_tellPillar 32 = .ok (.getfield 76, 3) := dk_180 0 76 (dk_at dksX13_tellPillar_1 8 rfl rfl)
theorem dX13_tellPillar_35 : decode cX13_tellPillar 35 = .ok (.iload_n 1, 1) := dk_27 (dk_at dksX13_tellPillar_1 11 rfl rfl)
theorem dX13_tellPillar_36 : decode cX13_tellPillar 36 = .ok (.aload_n 0, 1) := dk_42 (dk_at dksX13_tellPillar_1 12 rfl rfl)
theorem dX13_tellPillar_37 : decode cX13_tellPillar 37 = .ok (.iconst 0, 1) := dk_3 (dk_at dksX13_tellPillar_1 13 rfl rfl)
theorem dX13_tellPillar_38 : decode cX13_tellPillar 38 = .ok (.bipush 10, 2) := dk_16 10 (dk_at dksX13_tellPillar_1 14 rfl rfl)
theorem dX13_tellPillar_40 : decode cX13_tellPillar 40 = .ok (.invokevirtual 289, 3) := dk_182 1 33 (dk_at dksX13_tellPillar_1 16 rfl rfl)
theorem dX13_tellPillar_43 : decode cX13_tellPillar 43 = .ok (.iastore, 1) := dk_79 (dk_at dksX13_tellPillar_1 19 rfl rfl)
theorem dX13_tellPillar_44 : decode cX13_tellPillar 44 = .ok (.aload_n 0, 1) := dk_42 (dk_at dksX13_tellPillar_1 20 rfl rfl)
theorem dX13_tellPillar_45 : decode cX13_tellPillar 45 = .ok (.iconst 4, 1) := dk_7 (dk_at dksX13_tellPillar_1 21 rfl rfl)
theorem dX13_tellPillar_46 : decode cX13_tellPillar 46 = .ok (.invokevirtual 293, 3) := dk_182 1 37 (dk_at dksX13_tellPillar_2 0 rfl rfl)
theorem dX13_tellPillar_49 : decode cX13_tellPillar 49 = .ok (.aload_n 0, 1) := dk_42 (dk_at dksX13_tellPillar_2 3 rfl rfl)
theorem dX13_tellPillar_50 : decode cX13_tellPillar 50 = .ok (.getfield 228, 3) := dk_180 0 228 (dk_at dksX13_tellPillar_2 4 rfl rfl)
theorem dX13_tellPillar_53 : decode cX13_tellPillar 53 = .ok (.ifCond .ne 16, 3) := dk_154 0 16 (dk_at dksX13_tellPillar_2 7 rfl rfl)
theorem dX13_tellPillar_56 : decode cX13_tellPillar 56 = .ok (.aload_n 0, 1) := dk_42 (dk_at dksX13_tellPillar_2 10 rfl rfl)
theorem dX13_tellPillar_57 : decode cX13_tellPillar 57 = .ok (.getfield 70, 3) := dk_180 0 70 (dk_at dksX13_tellPillar_2 11 rfl rfl)
theorem dX13_tellPillar_60 : decode cX13_tellPillar 60 = .ok (.aload_n 0, 1) := dk_42 (dk_at dksX13_tellPillar_2 14 rfl rfl)
theorem dX13_tellPillar_61 : decode cX13_tellPillar 61 = .ok (.getfield 261, 3) := dk_180 1 5 (dk_at dksX13_tellPillar_2 15 rfl rfl)
theorem dX13_tellPillar_64 : decode cX13_tellPillar 64 = .ok (.dup2, 1) := dk_92 (dk_at dksX13_tellPillar_2 18 rfl rfl)
theorem dX13_tellPillar_65 : decode cX13_tellPillar 65 = .ok (.iaload, 1) := dk_46 (dk_at dksX13_tellPillar_2 19 rfl rfl)
theorem dX13_tellPillar_66 : decode cX13_tellPillar 66 = .ok (.iconst 1, 1) := dk_4 (dk_at dksX13_tellPillar_2 20 rfl rfl)
theorem dX13_tellPillar_67 : decode cX13_tellPillar 67 = .ok (.iadd, 1) := dk_96 (dk_at dksX13_tellPillar_2 21 rfl rfl)
theorem dX13_tellPillar_68 : decode cX13_tellPillar 68 = .ok (.iastore, 1) := dk_79 (dk_at dksX13_tellPillar_2 22 rfl rfl)
theorem dX13_tellPillar_69 : decode cX13_tellPillar 69 = .ok (.return_, 1) := dk_177 (dk_at dksX13_tellPillar_2 23 rfl rfl)
abbrev cX13_place : ByteArray := prog_21_method_21_code
def yX13_place : MethodName := ⟨RX13, "place", "()I"⟩
theorem dX13_place_0 : decode cX13_place 0 = .ok (.aload_n 0, 1) := by decide +kernel
theorem dX13_place_1 : decode cX13_place 1 = .ok (.getfield 37, 3) := by decide +kernel
theorem dX13_place_4 : decode cX13_place 4 = .ok (.ireturn, 1) := by decide +kernel
abbrev cX13_man : ByteArray := prog_21_method_57_code
def yX13_man : MethodName := ⟨RX13, "man", "(II)I"⟩
def dkwX13_man_7 : List UInt8 := [180, 0, 58, 16, 7, 42, 180, 1, 2, 104, 27, 96, 46, 172, 2, 172]
abbrev dktX13_man_7 : List UInt8 := dkwX13_man_7 ++ []
def dkwX13_man_6 : List UInt8 := [180, 0, 131, 16, 21, 27, 96, 46, 4, 160, 0, 7, 3, 167, 0, 8, 42, 27, 182, 1, 129, 172, 42]
abbrev dktX13_man_6 : List UInt8 := dkwX13_man_6 ++ dktX13_man_7
def dkwX13_man_5 : List UInt8 := [27, 96, 46, 42, 180, 0, 55, 16, 7, 42, 180, 1, 2, 104, 27, 96, 46, 184, 1, 144, 96, 172, 42]
abbrev dktX13_man_5 : List UInt8 := dkwX13_man_5 ++ dktX13_man_6
def dkwX13_man_4 : List UInt8 := [46, 42, 180, 0, 52, 16, 7, 42, 180, 1, 2, 104, 27, 96, 46, 184, 1, 144, 42, 180, 0, 131, 16, 7]
abbrev dktX13_man_4 : List UInt8 := dkwX13_man_4 ++ dktX13_man_5
def dkwX13_man_3 : List UInt8 := [96, 46, 172, 42, 27, 182, 1, 106, 172, 42, 180, 0, 131, 16, 21, 27, 96, 46, 172, 42, 180, 0, 131, 27]
abbrev dktX13_man_3 : List UInt8 := dkwX13_man_3 ++ dktX13_man_4
def dkwX13_man_2 : List UInt8 := [42, 180, 0, 131, 27, 46, 172, 42, 180, 0, 131, 16, 7, 27, 96, 46, 172, 42, 180, 0, 131, 16, 14, 27]
abbrev dktX13_man_2 : List UInt8 := dkwX13_man_2 ++ dktX13_man_3
def dkwX13_man_1 : List UInt8 := [170, 0, 0, 0, 177, 0, 0, 0, 0, 0, 0, 0, 7, 0, 0, 0, 45, 0, 0, 0, 52, 0, 0, 0, 62, 0, 0, 0, 72, 0, 0, 0, 78, 0, 0, 0, 88, 0, 0, 0, 139, 0, 0, 0, 162]
abbrev dktX13_man_1 : List UInt8 := dkwX13_man_1 ++ dktX13_man_2
def dkwX13_man_0 : List UInt8 := [42, 27, 182, 1, 138, 154, 0, 5, 2, 172, 42, 182, 1, 141, 28]
abbrev dktX13_man_0 : List UInt8 := dkwX13_man_0 ++ dktX13_man_1
theorem dksX13_man_0 : cX13_man.data.toList.drop 0 = dktX13_man_0 := by decide +kernel
theorem dksX13_man_1 : cX13_man.data.toList.drop 15 = dktX13_man_1 := dk_seg dksX13_man_0 15 rfl rfl
theorem dksX13_man_2 : cX13_man.data.toList.drop 60 = dktX13_man_2 := dk_seg dksX13_man_1 45 rfl rfl
theorem dksX13_man_3 : cX13_man.data.toList.drop 84 = dktX13_man_3 := dk_seg dksX13_man_2 24 rfl rfl
theorem dksX13_man_4 : cX13_man.data.toList.drop 108 = dktX13_man_4 := dk_seg dksX13_man_3 24 rfl rfl
theorem dksX13_man_5 : cX13_man.data.toList.drop 132 = dktX13_man_5 := dk_seg dksX13_man_4 24 rfl rfl
theorem dksX13_man_6 : cX13_man.data.toList.drop 155 = dktX13_man_6 := dk_seg dksX13_man_5 23 rfl rfl
theorem dksX13_man_7 : cX13_man.data.toList.drop 178 = dktX13_man_7 := dk_seg dksX13_man_6 23 rfl rfl
theorem dX13_man_0 : decode cX13_man 0 = .ok (.aload_n 0, 1) := dk_42 (dk_at dksX13_man_0 0 rfl rfl)
theorem dX13_man_1 : decode cX13_man 1 = .ok (.iload_n 1, 1) := dk_27 (dk_at dksX13_man_0 1 rfl rfl)
theorem dX13_man_2 : decode cX13_man 2 = .ok (.invokevirtual 394, 3) := dk_182 1 138 (dk_at dksX13_man_0 2 rfl rfl)
theorem dX13_man_5 : decode cX13_man 5 = .ok (.ifCond .ne 5, 3) := dk_154 0 5 (dk_at dksX13_man_0 5 rfl rfl)
theorem dX13_man_8 : decode cX13_man 8 = .ok (.iconst (-1), 1) := dk_2 (dk_at dksX13_man_0 8 rfl rfl)
theorem dX13_man_9 : decode cX13_man 9 = .ok (.ireturn, 1) := dk_172 (dk_at dksX13_man_0 9 rfl rfl)
theorem dX13_man_10 : decode cX13_man 10 = .ok (.aload_n 0, 1) := dk_42 (dk_at dksX13_man_0 10 rfl rfl)
theorem dX13_man_11 : decode cX13_man 11 = .ok (.invokevirtual 397, 3) := dk_182 1 141 (dk_at dksX13_man_0 11 rfl rfl)
theorem dX13_man_14 : decode cX13_man 14 = .ok (.iload_n 2, 1) := dk_28 (dk_at dksX13_man_0 14 rfl rfl)
theorem dX13_man_15 : decode cX13_man 15 = .ok (.tableswitch 177 0 7 #[45, 52, 62, 72, 78, 88, 139, 162], 45) := by decide +kernel
theorem dX13_man_60 : decode cX13_man 60 = .ok (.aload_n 0, 1) := dk_42 (dk_at dksX13_man_2 0 rfl rfl)
theorem dX13_man_61 : decode cX13_man 61 = .ok (.getfield 131, 3) := dk_180 0 131 (dk_at dksX13_man_2 1 rfl rfl)
theorem dX13_man_64 : decode cX13_man 64 = .ok (.iload_n 1, 1) := dk_27 (dk_at dksX13_man_2 4 rfl rfl)
theorem dX13_man_65 : decode cX13_man 65 = .ok (.iaload, 1) := dk_46 (dk_at dksX13_man_2 5 rfl rfl)
theorem dX13_man_66 : decode cX13_man 66 = .ok (.ireturn, 1) := dk_172 (dk_at dksX13_man_2 6 rfl rfl)
theorem dX13_man_67 : decode cX13_man 67 = .ok (.aload_n 0, 1) := dk_42 (dk_at dksX13_man_2 7 rfl rfl)
theorem dX13_man_68 : decode cX13_man 68 = .ok (.getfield 131, 3) := dk_180 0 131 (dk_at dksX13_man_2 8 rfl rfl)
theorem dX13_man_71 : decode cX13_man 71 = .ok (.bipush 7, 2) := dk_16 7 (dk_at dksX13_man_2 11 rfl rfl)
theorem dX13_man_73 : decode cX13_man 73 = .ok (.iload_n 1, 1) := dk_27 (dk_at dksX13_man_2 13 rfl rfl)
theorem dX13_man_74 : decode cX13_man 74 = .ok (.iadd, 1) := dk_96 (dk_at dksX13_man_2 14 rfl rfl)
theorem dX13_man_75 : decode cX13_man 75 = .ok (.iaload, 1) := dk_46 (dk_at dksX13_man_2 15 rfl rfl)
theorem dX13_man_76 : decode cX13_man 76 = .ok (.ireturn, 1) := dk_172 (dk_at dksX13_man_2 16 rfl rfl)
theorem dX13_man_77 : decode cX13_man 77 = .ok (.aload_n 0, 1) := dk_42 (dk_at dksX13_man_2 17 rfl rfl)
theorem dX13_man_78 : decode cX13_man 78 = .ok (.getfield 131, 3) := dk_180 0 131 (dk_at dksX13_man_2 18 rfl rfl)
theorem dX13_man_81 : decode cX13_man 81 = .ok (.bipush 14, 2) := dk_16 14 (dk_at dksX13_man_2 21 rfl rfl)
theorem dX13_man_83 : decode cX13_man 83 = .ok (.iload_n 1, 1) := dk_27 (dk_at dksX13_man_2 23 rfl rfl)
theorem dX13_man_84 : decode cX13_man 84 = .ok (.iadd, 1) := dk_96 (dk_at dksX13_man_3 0 rfl rfl)
theorem dX13_man_85 : decode cX13_man 85 = .ok (.iaload, 1) := dk_46 (dk_at dksX13_man_3 1 rfl rfl)
theorem dX13_man_86 : decode cX13_man 86 = .ok (.ireturn, 1) := dk_172 (dk_at dksX13_man_3 2 rfl rfl)
theorem dX13_man_87 : decode cX13_man 87 = .ok (.aload_n 0, 1) := dk_42 (dk_at dksX13_man_3 3 rfl rfl)
theorem dX13_man_88 : decode cX13_man 88 = .ok (.iload_n 1, 1) := dk_27 (dk_at dksX13_man_3 4 rfl rfl)
theorem dX13_man_89 : decode cX13_man 89 = .ok (.invokevirtual 362, 3) := dk_182 1 106 (dk_at dksX13_man_3 5 rfl rfl)
theorem dX13_man_92 : decode cX13_man 92 = .ok (.ireturn, 1) := dk_172 (dk_at dksX13_man_3 8 rfl rfl)
theorem dX13_man_93 : decode cX13_man 93 = .ok (.aload_n 0, 1) := dk_42 (dk_at dksX13_man_3 9 rfl rfl)
theorem dX13_man_94 : decode cX13_man 94 = .ok (.getfield 131, 3) := dk_180 0 131 (dk_at dksX13_man_3 10 rfl rfl)
theorem dX13_man_97 : decode cX13_man 97 = .ok (.bipush 21, 2) := dk_16 21 (dk_at dksX13_man_3 13 rfl rfl)
theorem dX13_man_99 : decode cX13_man 99 = .ok (.iload_n 1, 1) := dk_27 (dk_at dksX13_man_3 15 rfl rfl)
theorem dX13_man_100 : decode cX13_man 100 = .ok (.iadd, 1) := dk_96 (dk_at dksX13_man_3 16 rfl rfl)
theorem dX13_man_101 : decode cX13_man 101 = .ok (.iaload, 1) := dk_46 (dk_at dksX13_man_3 17 rfl rfl)
theorem dX13_man_102 : decode cX13_man 102 = .ok (.ireturn, 1) := dk_172 (dk_at dksX13_man_3 18 rfl rfl)
theorem dX13_man_103 : decode cX13_man 103 = .ok (.aload_n 0, 1) := dk_42 (dk_at dksX13_man_3 19 rfl rfl)
theorem dX13_man_104 : decode cX13_man 104 = .ok (.getfield 131, 3) := dk_180 0 131 (dk_at dksX13_man_3 20 rfl rfl)
theorem dX13_man_107 : decode cX13_man 107 = .ok (.iload_n 1, 1) := dk_27 (dk_at dksX13_man_3 23 rfl rfl)
theorem dX13_man_108 : decode cX13_man 108 = .ok (.iaload, 1) := dk_46 (dk_at dksX13_man_4 0 rfl rfl)
theorem dX13_man_109 : decode cX13_man 109 = .ok (.aload_n 0, 1) := dk_42 (dk_at dksX13_man_4 1 rfl rfl)
theorem dX13_man_110 : decode cX13_man 110 = .ok (.getfield 52, 3) := dk_180 0 52 (dk_at dksX13_man_4 2 rfl rfl)
theorem dX13_man_113 : decode cX13_man 113 = .ok (.bipush 7, 2) := dk_16 7 (dk_at dksX13_man_4 5 rfl rfl)
theorem dX13_man_115 : decode cX13_man 115 = .ok (.aload_n 0, 1) := dk_42 (dk_at dksX13_man_4 7 rfl rfl)
theorem dX13_man_116 : decode cX13_man 116 = .ok (.getfield 258, 3) := dk_180 1 2 (dk_at dksX13_man_4 8 rfl rfl)
theorem dX13_man_119 : decode cX13_man 119 = .ok (.imul, 1) := dk_104 (dk_at dksX13_man_4 11 rfl rfl)
theorem dX13_man_120 : decode cX13_man 120 = .ok (.iload_n 1, 1) := dk_27 (dk_at dksX13_man_4 12 rfl rfl)
theorem dX13_man_121 : decode cX13_man 121 = .ok (.iadd, 1) := dk_96 (dk_at dksX13_man_4 13 rfl rfl)
theorem dX13_man_122 : decode cX13_man 122 = .ok (.iaload, 1) := dk_46 (dk_at dksX13_man_4 14 rfl rfl)
theorem dX13_man_123 : decode cX13_man 123 = .ok (.invokestatic 400, 3) := dk_184 1 144 (dk_at dksX13_man_4 15 rfl rfl)
theorem dX13_man_126 : decode cX13_man 126 = .ok (.aload_n 0, 1) := dk_42 (dk_at dksX13_man_4 18 rfl rfl)
theorem dX13_man_127 : decode cX13_man 127 = .ok (.getfield 131, 3) := dk_180 0 131 (dk_at dksX13_man_4 19 rfl rfl)
theorem dX13_man_130 : decode cX13_man 130 = .ok (.bipush 7, 2) := dk_16 7 (dk_at dksX13_man_4 22 rfl rfl)
theorem dX13_man_132 : decode cX13_man 132 = .ok (.iload_n 1, 1) := dk_27 (dk_at dksX13_man_5 0 rfl rfl)
theorem dX13_man_133 : decode cX13_man 133 = .ok (.iadd, 1) := dk_96 (dk_at dksX13_man_5 1 rfl rfl)
theorem dX13_man_134 : decode cX13_man 134 = .ok (.iaload, 1) := dk_46 (dk_at dksX13_man_5 2 rfl rfl)
theorem dX13_man_135 : decode cX13_man 135 = .ok (.aload_n 0, 1) := dk_42 (dk_at dksX13_man_5 3 rfl rfl)
theorem dX13_man_136 : decode cX13_man 136 = .ok (.getfield 55, 3) := dk_180 0 55 (dk_at dksX13_man_5 4 rfl rfl)
theorem dX13_man_139 : decode cX13_man 139 = .ok (.bipush 7, 2) := dk_16 7 (dk_at dksX13_man_5 7 rfl rfl)
theorem dX13_man_141 : decode cX13_man 141 = .ok (.aload_n 0, 1) := dk_42 (dk_at dksX13_man_5 9 rfl rfl)
theorem dX13_man_142 : decode cX13_man 142 = .ok (.getfield 258, 3) := dk_180 1 2 (dk_at dksX13_man_5 10 rfl rfl)
theorem dX13_man_145 : decode cX13_man 145 = .ok (.imul, 1) := dk_104 (dk_at dksX13_man_5 13 rfl rfl)
theorem dX13_man_146 : decode cX13_man 146 = .ok (.iload_n 1, 1) := dk_27 (dk_at dksX13_man_5 14 rfl rfl)
theorem dX13_man_147 : decode cX13_man 147 = .ok (.iadd, 1) := dk_96 (dk_at dksX13_man_5 15 rfl rfl)
theorem dX13_man_148 : decode cX13_man 148 = .ok (.iaload, 1) := dk_46 (dk_at dksX13_man_5 16 rfl rfl)
theorem dX13_man_149 : decode cX13_man 149 = .ok (.invokestatic 400, 3) := dk_184 1 144 (dk_at dksX13_man_5 17 rfl rfl)
theorem dX13_man_152 : decode cX13_man 152 = .ok (.iadd, 1) := dk_96 (dk_at dksX13_man_5 20 rfl rfl)
theorem dX13_man_153 : decode cX13_man 153 = .ok (.ireturn, 1) := dk_172 (dk_at dksX13_man_5 21 rfl rfl)
theorem dX13_man_154 : decode cX13_man 154 = .ok (.aload_n 0, 1) := dk_42 (dk_at dksX13_man_5 22 rfl rfl)
theorem dX13_man_155 : decode cX13_man 155 = .ok (.getfield 131, 3) := dk_180 0 131 (dk_at dksX13_man_6 0 rfl rfl)
theorem dX13_man_158 : decode cX13_man 158 = .ok (.bipush 21, 2) := dk_16 21 (dk_at dksX13_man_6 3 rfl rfl)
theorem dX13_man_160 : decode cX13_man 160 = .ok (.iload_n 1, 1) := dk_27 (dk_at dksX13_man_6 5 rfl rfl)
theorem dX13_man_161 : decode cX13_man 161 = .ok (.iadd, 1) := dk_96 (dk_at dksX13_man_6 6 rfl rfl)
theorem dX13_man_162 : decode cX13_man 162 = .ok (.iaload, 1) := dk_46 (dk_at dksX13_man_6 7 rfl rfl)
theorem dX13_man_163 : decode cX13_man 163 = .ok (.iconst 1, 1) := dk_4 (dk_at dksX13_man_6 8 rfl rfl)
theorem dX13_man_164 : decode cX13_man 164 = .ok (.if_icmp .ne 7, 3) := dk_160 0 7 (dk_at dksX13_man_6 9 rfl rfl)
theorem dX13_man_167 : decode cX13_man 167 = .ok (.iconst 0, 1) := dk_3 (dk_at dksX13_man_6 12 rfl rfl)
theorem dX13_man_168 : decode cX13_man 168 = .ok (.goto 8, 3) := dk_167 0 8 (dk_at dksX13_man_6 13 rfl rfl)
theorem dX13_man_171 : decode cX13_man 171 = .ok (.aload_n 0, 1) := dk_42 (dk_at dksX13_man_6 16 rfl rfl)
theorem dX13_man_172 : decode cX13_man 172 = .ok (.iload_n 1, 1) := dk_27 (dk_at dksX13_man_6 17 rfl rfl)
theorem dX13_man_173 : decode cX13_man 173 = .ok (.invokevirtual 385, 3) := dk_182 1 129 (dk_at dksX13_man_6 18 rfl rfl)
theorem dX13_man_176 : decode cX13_man 176 = .ok (.ireturn, 1) := dk_172 (dk_at dksX13_man_6 21 rfl rfl)
theorem dX13_man_177 : decode cX13_man 177 = .ok (.aload_n 0, 1) := dk_42 (dk_at dksX13_man_6 22 rfl rfl)
theorem dX13_man_178 : decode cX13_man 178 = .ok (.getfield 58, 3) := dk_180 0 58 (dk_at dksX13_man_7 0 rfl rfl)
theorem dX13_man_181 : decode cX13_man 181 = .ok (.bipush 7, 2) := dk_16 7 (dk_at dksX13_man_7 3 rfl rfl)
theorem dX13_man_183 : decode cX13_man 183 = .ok (.aload_n 0, 1) := dk_42 (dk_at dksX13_man_7 5 rfl rfl)
theorem dX13_man_184 : decode cX13_man 184 = .ok (.getfield 258, 3) := dk_180 1 2 (dk_at dksX13_man_7 6 rfl rfl)
theorem dX13_man_187 : decode cX13_man 187 = .ok (.imul, 1) := dk_104 (dk_at dksX13_man_7 9 rfl rfl)
theorem dX13_man_188 : decode cX13_man 188 = .ok (.iload_n 1, 1) := dk_27 (dk_at dksX13_man_7 10 rfl rfl)
theorem dX13_man_189 : decode cX13_man 189 = .ok (.iadd, 1) := dk_96 (dk_at dksX13_man_7 11 rfl rfl)
theorem dX13_man_190 : decode cX13_man 190 = .ok (.iaload, 1) := dk_46 (dk_at dksX13_man_7 12 rfl rfl)
theorem dX13_man_191 : decode cX13_man 191 = .ok (.ireturn, 1) := dk_172 (dk_at dksX13_man_7 13 rfl rfl)
theorem dX13_man_192 : decode cX13_man 192 = .ok (.iconst (-1), 1) := dk_2 (dk_at dksX13_man_7 14 rfl rfl)
theorem dX13_man_193 : decode cX13_man 193 = .ok (.ireturn, 1) := dk_172 (dk_at dksX13_man_7 15 rfl rfl)
abbrev cX13_isMan : ByteArray := prog_21_method_39_code
def yX13_isMan : MethodName := ⟨RX13, "isMan", "(I)Z"⟩
def dkwX13_isMan_0 : List UInt8 := [27, 3, 42, 180, 0, 49, 42, 180, 1, 2, 46, 4, 100, 184, 1, 89, 172]
abbrev dktX13_isMan_0 : List UInt8 := dkwX13_isMan_0 ++ []
theorem dksX13_isMan_0 : cX13_isMan.data.toList.drop 0 = dktX13_isMan_0 := by decide +kernel
theorem dX13_isMan_0 : decode cX13_isMan 0 = .ok (.iload_n 1, 1) := dk_27 (dk_at dksX13_isMan_0 0 rfl rfl)
theorem dX13_isMan_1 : decode cX13_isMan 1 = .ok (.iconst 0, 1) := dk_3 (dk_at dksX13_isMan_0 1 rfl rfl)
theorem dX13_isMan_2 : decode cX13_isMan 2 = .ok (.aload_n 0, 1) := dk_42 (dk_at dksX13_isMan_0 2 rfl rfl)
theorem dX13_isMan_3 : decode cX13_isMan 3 = .ok (.getfield 49, 3) := dk_180 0 49 (dk_at dksX13_isMan_0 3 rfl rfl)
theorem dX13_isMan_6 : decode cX13_isMan 6 = .ok (.aload_n 0, 1) := dk_42 (dk_at dksX13_isMan_0 6 rfl rfl)
theorem dX13_isMan_7 : decode cX13_isMan 7 = .ok (.getfield 258, 3) := dk_180 1 2 (dk_at dksX13_isMan_0 7 rfl rfl)
theorem dX13_isMan_10 : decode cX13_isMan 10 = .ok (.iaload, 1) := dk_46 (dk_at dksX13_isMan_0 10 rfl rfl)
theorem dX13_isMan_11 : decode cX13_isMan 11 = .ok (.iconst 1, 1) := dk_4 (dk_at dksX13_isMan_0 11 rfl rfl)
theorem dX13_isMan_12 : decode cX13_isMan 12 = .ok (.isub, 1) := dk_100 (dk_at dksX13_isMan_0 12 rfl rfl)
theorem dX13_isMan_13 : decode cX13_isMan 13 = .ok (.invokestatic 345, 3) := dk_184 1 89 (dk_at dksX13_isMan_0 13 rfl rfl)
theorem dX13_isMan_16 : decode cX13_isMan 16 = .ok (.ireturn, 1) := dk_172 (dk_at dksX13_isMan_0 16 rfl rfl)
abbrev cX13_in : ByteArray := prog_21_method_38_code
def yX13_in : MethodName := ⟨RX13, "in", "(III)Z"⟩
def dkwX13_in_0 : List UInt8 := [26, 27, 161, 0, 12, 26, 28, 163, 0, 7, 4, 167, 0, 4, 3, 172]
abbrev dktX13_in_0 : List UInt8 := dkwX13_in_0 ++ []
theorem dksX13_in_0 : cX13_in.data.toList.drop 0 = dktX13_in_0 := by decide +kernel
theorem dX13_in_0 : decode cX13_in 0 = .ok (.iload_n 0, 1) := dk_26 (dk_at dksX13_in_0 0 rfl rfl)
theorem dX13_in_1 : decode cX13_in 1 = .ok (.iload_n 1, 1) := dk_27 (dk_at dksX13_in_0 1 rfl rfl)
theorem dX13_in_2 : decode cX13_in 2 = .ok (.if_icmp .lt 12, 3) := dk_161 0 12 (dk_at dksX13_in_0 2 rfl rfl)
theorem dX13_in_5 : decode cX13_in 5 = .ok (.iload_n 0, 1) := dk_26 (dk_at dksX13_in_0 5 rfl rfl)
theorem dX13_in_6 : decode cX13_in 6 = .ok (.iload_n 2, 1) := dk_28 (dk_at dksX13_in_0 6 rfl rfl)
theorem dX13_in_7 : decode cX13_in 7 = .ok (.if_icmp .gt 7, 3) := dk_163 0 7 (dk_at dksX13_in_0 7 rfl rfl)
theorem dX13_in_10 : decode cX13_in 10 = .ok (.iconst 1, 1) := dk_4 (dk_at dksX13_in_0 10 rfl rfl)
theorem dX13_in_11 : decode cX13_in 11 = .ok (.goto 4, 3) := dk_167 0 4 (dk_at dksX13_in_0 11 rfl rfl)
theorem dX13_in_14 : decode cX13_in 14 = .ok (.iconst 0, 1) := dk_3 (dk_at dksX13_in_0 14 rfl rfl)
theorem dX13_in_15 : decode cX13_in 15 = .ok (.ireturn, 1) := dk_172 (dk_at dksX13_in_0 15 rfl rfl)
abbrev cX13_copies : ByteArray := prog_21_method_42_code
def yX13_copies : MethodName := ⟨RX13, "copies", "()V"⟩
def dkwX13_copies_2 : List UInt8 := [177]
abbrev dktX13_copies_2 : List UInt8 := dkwX13_copies_2 ++ []
def dkwX13_copies_1 : List UInt8 := [167, 255, 234, 3, 60, 27, 16, 7, 162, 0, 16, 42, 180, 0, 134, 27, 3, 79, 132, 1, 1, 167, 255, 240]
abbrev dktX13_copies_1 : List UInt8 := dkwX13_copies_1 ++ dktX13_copies_2
def dkwX13_copies_0 : List UInt8 := [3, 60, 27, 17, 5, 10, 162, 0, 21, 42, 180, 0, 131, 27, 42, 180, 0, 128, 27, 46, 79, 132, 1, 1]
abbrev dktX13_copies_0 : List UInt8 := dkwX13_copies_0 ++ dktX13_copies_1
theorem dksX13_copies_0 : cX13_copies.data.toList.drop 0 = dktX13_copies_0 := by decide +kernel
theorem dksX13_copies_1 : cX13_copies.data.toList.drop 24 = dktX13_copies_1 := dk_seg dksX13_copies_0 24 rfl rfl
theorem dksX13_copies_2 : cX13_copies.data.toList.drop 48 = dktX13_copies_2 := dk_seg dksX13_copies_1 24 rfl rfl
theorem dX13_copies_0 : decode cX13_copies 0 = .ok (.iconst 0, 1) := dk_3 (dk_at dksX13_copies_0 0 rfl rfl)
theorem dX13_copies_1 : decode cX13_copies 1 = .ok (.istore_n 1, 1) := dk_60 (dk_at dksX13_copies_0 1 rfl rfl)
theorem dX13_copies_2 : decode cX13_copies 2 = .ok (.iload_n 1, 1) := dk_27 (dk_at dksX13_copies_0 2 rfl rfl)
theorem dX13_copies_3 : decode cX13_copies 3 = .ok (.sipush 1290, 3) := dk_17 5 10 (dk_at dksX13_copies_0 3 rfl rfl)
theorem dX13_copies_6 : decode cX13_copies 6 = .ok (.if_icmp .ge 21, 3) := dk_162 0 21 (dk_at dksX13_copies_0 6 rfl rfl)
theorem dX13_copies_9 : decode cX13_copies 9 = .ok (.aload_n 0, 1) := dk_42 (dk_at dksX13_copies_0 9 rfl rfl)
theorem dX13_copies_10 : decode cX13_copies 10 = .ok (.getfield 131, 3) := dk_180 0 131 (dk_at dksX13_copies_0 10 rfl rfl)
theorem dX13_copies_13 : decode cX13_copies 13 = .ok (.iload_n 1, 1) := dk_27 (dk_at dksX13_copies_0 13 rfl rfl)
theorem dX13_copies_14 : decode cX13_copies 14 = .ok (.aload_n 0, 1) := dk_42 (dk_at dksX13_copies_0 14 rfl rfl)
theorem dX13_copies_15 : decode cX13_copies 15 = .ok (.getfield 128, 3) := dk_180 0 128 (dk_at dksX13_copies_0 15 rfl rfl)
theorem dX13_copies_18 : decode cX13_copies 18 = .ok (.iload_n 1, 1) := dk_27 (dk_at dksX13_copies_0 18 rfl rfl)
theorem dX13_copies_19 : decode cX13_copies 19 = .ok (.iaload, 1) := dk_46 (dk_at dksX13_copies_0 19 rfl rfl)
theorem dX13_copies_20 : decode cX13_copies 20 = .ok (.iastore, 1) := dk_79 (dk_at dksX13_copies_0 20 rfl rfl)
theorem dX13_copies_21 : decode cX13_copies 21 = .ok (.iinc 1 1, 3) := dk_132 1 1 (dk_at dksX13_copies_0 21 rfl rfl)
theorem dX13_copies_24 : decode cX13_copies 24 = .ok (.goto (-22), 3) := dk_167 255 234 (dk_at dksX13_copies_1 0 rfl rfl)
theorem dX13_copies_27 : decode cX13_copies 27 = .ok (.iconst 0, 1) := dk_3 (dk_at dksX13_copies_1 3 rfl rfl)
theorem dX13_copies_28 : decode cX13_copies 28 = .ok (.istore_n 1, 1) := dk_60 (dk_at dksX13_copies_1 4 rfl rfl)
theorem dX13_copies_29 : decode cX13_copies 29 = .ok (.iload_n 1, 1) := dk_27 (dk_at dksX13_copies_1 5 rfl rfl)
theorem dX13_copies_30 : decode cX13_copies 30 = .ok (.bipush 7, 2) := dk_16 7 (dk_at dksX13_copies_1 6 rfl rfl)
theorem dX13_copies_32 : decode cX13_copies 32 = .ok (.if_icmp .ge 16, 3) := dk_162 0 16 (dk_at dksX13_copies_1 8 rfl rfl)
theorem dX13_copies_35 : decode cX13_copies 35 = .ok (.aload_n 0, 1) := dk_42 (dk_at dksX13_copies_1 11 rfl rfl)
theorem dX13_copies_36 : decode cX13_copies 36 = .ok (.getfield 134, 3) := dk_180 0 134 (dk_at dksX13_copies_1 12 rfl rfl)
theorem dX13_copies_39 : decode cX13_copies 39 = .ok (.iload_n 1, 1) := dk_27 (dk_at dksX13_copies_1 15 rfl rfl)
theorem dX13_copies_40 : decode cX13_copies 40 = .ok (.iconst 0, 1) := dk_3 (dk_at dksX13_copies_1 16 rfl rfl)
theorem dX13_copies_41 : decode cX13_copies 41 = .ok (.iastore, 1) := dk_79 (dk_at dksX13_copies_1 17 rfl rfl)
theorem dX13_copies_42 : decode cX13_copies 42 = .ok (.iinc 1 1, 3) := dk_132 1 1 (dk_at dksX13_copies_1 18 rfl rfl)
theorem dX13_copies_45 : decode cX13_copies 45 = .ok (.goto (-16), 3) := dk_167 255 240 (dk_at dksX13_copies_1 21 rfl rfl)
theorem dX13_copies_48 : decode cX13_copies 48 = .ok (.return_, 1) := dk_177 (dk_at dksX13_copies_2 0 rfl rfl)
abbrev cX13_leftOf : ByteArray := prog_21_method_47_code
def yX13_leftOf : MethodName := ⟨RX13, "leftOf", "(I)I"⟩
def dkwX13_leftOf_0 : List UInt8 := [42, 27, 182, 1, 103, 42, 180, 0, 131, 16, 14, 27, 96, 46, 100, 172]
abbrev dktX13_leftOf_0 : List UInt8 := dkwX13_leftOf_0 ++ []
theorem dksX13_leftOf_0 : cX13_leftOf.data.toList.drop 0 = dktX13_leftOf_0 := by decide +kernel
theorem dX13_leftOf_0 : decode cX13_leftOf 0 = .ok (.aload_n 0, 1) := dk_42 (dk_at dksX13_leftOf_0 0 rfl rfl)
theorem dX13_leftOf_1 : decode cX13_leftOf 1 = .ok (.iload_n 1, 1) := dk_27 (dk_at dksX13_leftOf_0 1 rfl rfl)
theorem dX13_leftOf_2 : decode cX13_leftOf 2 = .ok (.invokevirtual 359, 3) := dk_182 1 103 (dk_at dksX13_leftOf_0 2 rfl rfl)
theorem dX13_leftOf_5 : decode cX13_leftOf 5 = .ok (.aload_n 0, 1) := dk_42 (dk_at dksX13_leftOf_0 5 rfl rfl)
theorem dX13_leftOf_6 : decode cX13_leftOf 6 = .ok (.getfield 131, 3) := dk_180 0 131 (dk_at dksX13_leftOf_0 6 rfl rfl)
theorem dX13_leftOf_9 : decode cX13_leftOf 9 = .ok (.bipush 14, 2) := dk_16 14 (dk_at dksX13_leftOf_0 9 rfl rfl)
theorem dX13_leftOf_11 : decode cX13_leftOf 11 = .ok (.iload_n 1, 1) := dk_27 (dk_at dksX13_leftOf_0 11 rfl rfl)
theorem dX13_leftOf_12 : decode cX13_leftOf 12 = .ok (.iadd, 1) := dk_96 (dk_at dksX13_leftOf_0 12 rfl rfl)
theorem dX13_leftOf_13 : decode cX13_leftOf 13 = .ok (.iaload, 1) := dk_46 (dk_at dksX13_leftOf_0 13 rfl rfl)
theorem dX13_leftOf_14 : decode cX13_leftOf 14 = .ok (.isub, 1) := dk_100 (dk_at dksX13_leftOf_0 14 rfl rfl)
theorem dX13_leftOf_15 : decode cX13_leftOf 15 = .ok (.ireturn, 1) := dk_172 (dk_at dksX13_leftOf_0 15 rfl rfl)
abbrev cX13_longOf : ByteArray := prog_21_method_46_code
def yX13_longOf : MethodName := ⟨RX13, "longOf", "(I)I"⟩
def dkwX13_longOf_5 : List UInt8 := [167, 0, 4, 29, 172]
abbrev dktX13_longOf_5 : List UInt8 := dkwX13_longOf_5 ++ []
def dkwX13_longOf_4 : List UInt8 := [27, 79, 42, 28, 182, 1, 100, 62, 29, 156, 0, 7, 3, 167, 0, 15, 29, 16, 60, 164, 0, 8, 16, 60]
abbrev dktX13_longOf_4 : List UInt8 := dkwX13_longOf_4 ++ dktX13_longOf_5
def dkwX13_longOf_3 : List UInt8 := [180, 0, 122, 4, 42, 180, 0, 55, 16, 7, 42, 180, 1, 2, 104, 27, 96, 46, 79, 42, 180, 0, 122, 8]
abbrev dktX13_longOf_3 : List UInt8 := dkwX13_longOf_3 ++ dktX13_longOf_4
def dkwX13_longOf_2 : List UInt8 := [167, 255, 240, 42, 180, 0, 122, 3, 42, 180, 0, 52, 16, 7, 42, 180, 1, 2, 104, 27, 96, 46, 79, 42]
abbrev dktX13_longOf_2 : List UInt8 := dkwX13_longOf_2 ++ dktX13_longOf_3
def dkwX13_longOf_1 : List UInt8 := [160, 0, 6, 16, 30, 172, 3, 62, 29, 16, 6, 162, 0, 16, 42, 180, 0, 122, 29, 3, 79, 132, 3, 1]
abbrev dktX13_longOf_1 : List UInt8 := dkwX13_longOf_1 ++ dktX13_longOf_2
def dkwX13_longOf_0 : List UInt8 := [16, 8, 42, 180, 1, 2, 104, 16, 7, 96, 61, 42, 180, 0, 91, 28, 46, 42, 180, 0, 94, 28, 46]
abbrev dktX13_longOf_0 : List UInt8 := dkwX13_longOf_0 ++ dktX13_longOf_1
theorem dksX13_longOf_0 : cX13_longOf.data.toList.drop 0 = dktX13_longOf_0 := by decide +kernel
theorem dksX13_longOf_1 : cX13_longOf.data.toList.drop 23 = dktX13_longOf_1 := dk_seg dksX13_longOf_0 23 rfl rfl
theorem dksX13_longOf_2 : cX13_longOf.data.toList.drop 47 = dktX13_longOf_2 := dk_seg dksX13_longOf_1 24 rfl rfl
theorem dksX13_longOf_3 : cX13_longOf.data.toList.drop 71 = dktX13_longOf_3 := dk_seg dksX13_longOf_2 24 rfl rfl
theorem dksX13_longOf_4 : cX13_longOf.data.toList.drop 95 = dktX13_longOf_4 := dk_seg dksX13_longOf_3 24 rfl rfl
theorem dksX13_longOf_5 : cX13_longOf.data.toList.drop 119 = dktX13_longOf_5 := dk_seg dksX13_longOf_4 24 rfl rfl
theorem dX13_longOf_0 : decode cX13_longOf 0 = .ok (.bipush 8, 2) := dk_16 8 (dk_at dksX13_longOf_0 0 rfl rfl)
theorem dX13_longOf_2 : decode cX13_longOf 2 = .ok (.aload_n 0, 1) := dk_42 (dk_at dksX13_longOf_0 2 rfl rfl)
theorem dX13_longOf_3 : decode cX13_longOf 3 = .ok (.getfield 258, 3) := dk_180 1 2 (dk_at dksX13_longOf_0 3 rfl rfl)
theorem dX13_longOf_6 : decode cX13_longOf 6 = .ok (.imul, 1) := dk_104 (dk_at dksX13_longOf_0 6 rfl rfl)
theorem dX13_longOf_7 : decode cX13_longOf 7 = .ok (.bipush 7, 2) := dk_16 7 (dk_at dksX13_longOf_0 7 rfl rfl)
theorem dX13_longOf_9 : decode cX13_longOf 9 = .ok (.iadd, 1) := dk_96 (dk_at dksX13_longOf_0 9 rfl rfl)
theorem dX13_longOf_10 : decode cX13_longOf 10 = .ok (.istore_n 2, 1) := dk_61 (dk_at dksX13_longOf_0 10 rfl rfl)
theorem dX13_longOf_11 : decode cX13_longOf 11 = .ok (.aload_n 0, 1) := dk_42 (dk_at dksX13_longOf_0 11 rfl rfl)
theorem dX13_longOf_12 : decode cX13_longOf 12 = .ok (.getfield 91, 3) := dk_180 0 91 (dk_at dksX13_longOf_0 12 rfl rfl)
theorem dX13_longOf_15 : decode cX13_longOf 15 = .ok (.iload_n 2, 1) := dk_28 (dk_at dksX13_longOf_0 15 rfl rfl)
theorem dX13_longOf_16 : decode cX13_longOf 16 = .ok (.iaload, 1) := dk_46 (dk_at dksX13_longOf_0 16 rfl rfl)
theorem dX13_longOf_17 : decode cX13_longOf 17 = .ok (.aload_n 0, 1) := dk_42 (dk_at dksX13_longOf_0 17 rfl rfl)
theorem dX13_longOf_18 : decode cX13_longOf 18 = .ok (.getfield 94, 3) := dk_180 0 94 (dk_at dksX13_longOf_0 18 rfl rfl)
theorem dX13_longOf_21 : decode cX13_longOf 21 = .ok (.iload_n 2, 1) := dk_28 (dk_at dksX13_longOf_0 21 rfl rfl)
theorem dX13_longOf_22 : decode cX13_longOf 22 = .ok (.iaload, 1) := dk_46 (dk_at dksX13_longOf_0 22 rfl rfl)
theorem dX13_longOf_23 : decode cX13_longOf 23 = .ok (.if_icmp .ne 6, 3) := dk_160 0 6 (dk_at dksX13_longOf_1 0 rfl rfl)
theorem dX13_longOf_26 : decode cX13_longOf 26 = .ok (.bipush 30, 2) := dk_16 30 (dk_at dksX13_longOf_1 3 rfl rfl)
theorem dX13_longOf_28 : decode cX13_longOf 28 = .ok (.ireturn, 1) := dk_172 (dk_at dksX13_longOf_1 5 rfl rfl)
theorem dX13_longOf_29 : decode cX13_longOf 29 = .ok (.iconst 0, 1) := dk_3 (dk_at dksX13_longOf_1 6 rfl rfl)
theorem dX13_longOf_30 : decode cX13_longOf 30 = .ok (.istore_n 3, 1) := dk_62 (dk_at dksX13_longOf_1 7 rfl rfl)
theorem dX13_longOf_31 : decode cX13_longOf 31 = .ok (.iload_n 3, 1) := dk_29 (dk_at dksX13_longOf_1 8 rfl rfl)
theorem dX13_longOf_32 : decode cX13_longOf 32 = .ok (.bipush 6, 2) := dk_16 6 (dk_at dksX13_longOf_1 9 rfl rfl)
theorem dX13_longOf_34 : decode cX13_longOf 34 = .ok (.if_icmp .ge 16, 3) := dk_162 0 16 (dk_at dksX13_longOf_1 11 rfl rfl)
theorem dX13_longOf_37 : decode cX13_longOf 37 = .ok (.aload_n 0, 1) := dk_42 (dk_at dksX13_longOf_1 14 rfl rfl)
theorem dX13_longOf_38 : decode cX13_longOf 38 = .ok (.getfield 122, 3) := dk_180 0 122 (dk_at dksX13_longOf_1 15 rfl rfl)
theorem dX13_longOf_41 : decode cX13_longOf 41 = .ok (.iload_n 3, 1) := dk_29 (dk_at dksX13_longOf_1 18 rfl rfl)
theorem dX13_longOf_42 : decode cX13_longOf 42 = .ok (.iconst 0, 1) := dk_3 (dk_at dksX13_longOf_1 19 rfl rfl)
theorem dX13_longOf_43 : decode cX13_longOf 43 = .ok (.iastore, 1) := dk_79 (dk_at dksX13_longOf_1 20 rfl rfl)
theorem dX13_longOf_44 : decode cX13_longOf 44 = .ok (.iinc 3 1, 3) := dk_132 3 1 (dk_at dksX13_longOf_1 21 rfl rfl)
theorem dX13_longOf_47 : decode cX13_longOf 47 = .ok (.goto (-16), 3) := dk_167 255 240 (dk_at dksX13_longOf_2 0 rfl rfl)
theorem dX13_longOf_50 : decode cX13_longOf 50 = .ok (.aload_n 0, 1) := dk_42 (dk_at dksX13_longOf_2 3 rfl rfl)
theorem dX13_longOf_51 : decode cX13_longOf 51 = .ok (.getfield 122, 3) := dk_180 0 122 (dk_at dksX13_longOf_2 4 rfl rfl)
theorem dX13_longOf_54 : decode cX13_longOf 54 = .ok (.iconst 0, 1) := dk_3 (dk_at dksX13_longOf_2 7 rfl rfl)
theorem dX13_longOf_55 : decode cX13_longOf 55 = .ok (.aload_n 0, 1) := dk_42 (dk_at dksX13_longOf_2 8 rfl rfl)
theorem dX13_longOf_56 : decode cX13_longOf 56 = .ok (.getfield 52, 3) := dk_180 0 52 (dk_at dksX13_longOf_2 9 rfl rfl)
theorem dX13_longOf_59 : decode cX13_longOf 59 = .ok (.bipush 7, 2) := dk_16 7 (dk_at dksX13_longOf_2 12 rfl rfl)
theorem dX13_longOf_61 : decode cX13_longOf 61 = .ok (.aload_n 0, 1) := dk_42 (dk_at dksX13_longOf_2 14 rfl rfl)
theorem dX13_longOf_62 : decode cX13_longOf 62 = .ok (.getfield 258, 3) := dk_180 1 2 (dk_at dksX13_longOf_2 15 rfl rfl)
theorem dX13_longOf_65 : decode cX13_longOf 65 = .ok (.imul, 1) := dk_104 (dk_at dksX13_longOf_2 18 rfl rfl)
theorem dX13_longOf_66 : decode cX13_longOf 66 = .ok (.iload_n 1, 1) := dk_27 (dk_at dksX13_longOf_2 19 rfl rfl)
theorem dX13_longOf_67 : decode cX13_longOf 67 = .ok (.iadd, 1) := dk_96 (dk_at dksX13_longOf_2 20 rfl rfl)
theorem dX13_longOf_68 : decode cX13_longOf 68 = .ok (.iaload, 1) := dk_46 (dk_at dksX13_longOf_2 21 rfl rfl)
theorem dX13_longOf_69 : decode cX13_longOf 69 = .ok (.iastore, 1) := dk_79 (dk_at dksX13_longOf_2 22 rfl rfl)
theorem dX13_longOf_70 : decode cX13_longOf 70 = .ok (.aload_n 0, 1) := dk_42 (dk_at dksX13_longOf_2 23 rfl rfl)
theorem dX13_longOf_71 : decode cX13_longOf 71 = .ok (.getfield 122, 3) := dk_180 0 122 (dk_at dksX13_longOf_3 0 rfl rfl)
theorem dX13_longOf_74 : decode cX13_longOf 74 = .ok (.iconst 1, 1) := dk_4 (dk_at dksX13_longOf_3 3 rfl rfl)
theorem dX13_longOf_75 : decode cX13_longOf 75 = .ok (.aload_n 0, 1) := dk_42 (dk_at dksX13_longOf_3 4 rfl rfl)
theorem dX13_longOf_76 : decode cX13_longOf 76 = .ok (.getfield 55, 3) := dk_180 0 55 (dk_at dksX13_longOf_3 5 rfl rfl)
theorem dX13_longOf_79 : decode cX13_longOf 79 = .ok (.bipush 7, 2) := dk_16 7 (dk_at dksX13_longOf_3 8 rfl rfl)
theorem dX13_longOf_81 : decode cX13_longOf 81 = .ok (.aload_n 0, 1) := dk_42 (dk_at dksX13_longOf_3 10 rfl rfl)
theorem dX13_longOf_82 : decode cX13_longOf 82 = .ok (.getfield 258, 3) := dk_180 1 2 (dk_at dksX13_longOf_3 11 rfl rfl)
theorem dX13_longOf_85 : decode cX13_longOf 85 = .ok (.imul, 1) := dk_104 (dk_at dksX13_longOf_3 14 rfl rfl)
theorem dX13_longOf_86 : decode cX13_longOf 86 = .ok (.iload_n 1, 1) := dk_27 (dk_at dksX13_longOf_3 15 rfl rfl)
theorem dX13_longOf_87 : decode cX13_longOf 87 = .ok (.iadd, 1) := dk_96 (dk_at dksX13_longOf_3 16 rfl rfl)
theorem dX13_longOf_88 : decode cX13_longOf 88 = .ok (.iaload, 1) := dk_46 (dk_at dksX13_longOf_3 17 rfl rfl)
theorem dX13_longOf_89 : decode cX13_longOf 89 = .ok (.iastore, 1) := dk_79 (dk_at dksX13_longOf_3 18 rfl rfl)
theorem dX13_longOf_90 : decode cX13_longOf 90 = .ok (.aload_n 0, 1) := dk_42 (dk_at dksX13_longOf_3 19 rfl rfl)
theorem dX13_longOf_91 : decode cX13_longOf 91 = .ok (.getfield 122, 3) := dk_180 0 122 (dk_at dksX13_longOf_3 20 rfl rfl)
theorem dX13_longOf_94 : decode cX13_longOf 94 = .ok (.iconst 5, 1) := dk_8 (dk_at dksX13_longOf_3 23 rfl rfl)
theorem dX13_longOf_95 : decode cX13_longOf 95 = .ok (.iload_n 1, 1) := dk_27 (dk_at dksX13_longOf_4 0 rfl rfl)
theorem dX13_longOf_96 : decode cX13_longOf 96 = .ok (.iastore, 1) := dk_79 (dk_at dksX13_longOf_4 1 rfl rfl)
theorem dX13_longOf_97 : decode cX13_longOf 97 = .ok (.aload_n 0, 1) := dk_42 (dk_at dksX13_longOf_4 2 rfl rfl)
theorem dX13_longOf_98 : decode cX13_longOf 98 = .ok (.iload_n 2, 1) := dk_28 (dk_at dksX13_longOf_4 3 rfl rfl)
theorem dX13_longOf_99 : decode cX13_longOf 99 = .ok (.invokevirtual 356, 3) := dk_182 1 100 (dk_at dksX13_longOf_4 4 rfl rfl)
theorem dX13_longOf_102 : decode cX13_longOf 102 = .ok (.istore_n 3, 1) := dk_62 (dk_at dksX13_longOf_4 7 rfl rfl)
theorem dX13_longOf_103 : decode cX13_longOf 103 = .ok (.iload_n 3, 1) := dk_29 (dk_at dksX13_longOf_4 8 rfl rfl)
theorem dX13_longOf_104 : decode cX13_longOf 104 = .ok (.ifCond .ge 7, 3) := dk_156 0 7 (dk_at dksX13_longOf_4 9 rfl rfl)
theorem dX13_longOf_107 : decode cX13_longOf 107 = .ok (.iconst 0, 1) := dk_3 (dk_at dksX13_longOf_4 12 rfl rfl)
theorem dX13_longOf_108 : decode cX13_longOf 108 = .ok (.goto 15, 3) := dk_167 0 15 (dk_at dksX13_longOf_4 13 rfl rfl)
theorem dX13_longOf_111 : decode cX13_longOf 111 = .ok (.iload_n 3, 1) := dk_29 (dk_at dksX13_longOf_4 16 rfl rfl)
theorem dX13_longOf_112 : decode cX13_longOf 112 = .ok (.bipush 60, 2) := dk_16 60 (dk_at dksX13_longOf_4 17 rfl rfl)
theorem dX13_longOf_114 : decode cX13_longOf 114 = .ok (.if_icmp .le 8, 3) := dk_164 0 8 (dk_at dksX13_longOf_4 19 rfl rfl)
theorem dX13_longOf_117 : decode cX13_longOf 117 = .ok (.bipush 60, 2) := dk_16 60 (dk_at dksX13_longOf_4 22 rfl rfl)
theorem dX13_longOf_119 : decode cX13_longOf 119 = .ok (.goto 4, 3) := dk_167 0 4 (dk_at dksX13_longOf_5 0 rfl rfl)
theorem dX13_longOf_122 : decode cX13_longOf 122 = .ok (.iload_n 3, 1) := dk_29 (dk_at dksX13_longOf_5 3 rfl rfl)
theorem dX13_longOf_123 : decode cX13_longOf 123 = .ok (.ireturn, 1) := dk_172 (dk_at dksX13_longOf_5 4 rfl rfl)
abbrev cX13_tellsBy : ByteArray := prog_21_method_45_code
def yX13_tellsBy : MethodName := ⟨RX13, "tellsBy", "(I)I"⟩
def dkwX13_tellsBy_5 : List UInt8 := [132, 2, 1, 167, 255, 151, 3, 172]
abbrev dktX13_tellsBy_5 : List UInt8 := dkwX13_tellsBy_5 ++ []
def dkwX13_tellsBy_4 : List UInt8 := [180, 0, 110, 28, 46, 182, 1, 97, 62, 42, 180, 1, 85, 153, 0, 7, 3, 167, 0, 4, 29, 172]
abbrev dktX13_tellsBy_4 : List UInt8 := dkwX13_tellsBy_4 ++ dktX13_tellsBy_5
def dkwX13_tellsBy_3 : List UInt8 := [153, 0, 5, 3, 172, 29, 21, 4, 161, 0, 6, 167, 0, 33, 42, 42, 180, 0, 107, 28, 46, 42]
abbrev dktX13_tellsBy_3 : List UInt8 := dkwX13_tellsBy_3 ++ dktX13_tellsBy_4
def dkwX13_tellsBy_2 : List UInt8 := [62, 42, 42, 180, 0, 104, 28, 46, 42, 180, 0, 107, 28, 46, 182, 1, 97, 54, 4, 42, 180, 1, 85]
abbrev dktX13_tellsBy_2 : List UInt8 := dkwX13_tellsBy_2 ++ dktX13_tellsBy_3
def dkwX13_tellsBy_1 : List UInt8 := [180, 0, 97, 28, 51, 153, 0, 56, 42, 42, 180, 0, 101, 28, 46, 42, 180, 0, 104, 28, 46, 182, 1, 97]
abbrev dktX13_tellsBy_1 : List UInt8 := dkwX13_tellsBy_1 ++ dktX13_tellsBy_2
def dkwX13_tellsBy_0 : List UInt8 := [42, 3, 181, 1, 85, 42, 180, 0, 91, 27, 46, 61, 28, 42, 180, 0, 94, 27, 46, 162, 0, 101, 42]
abbrev dktX13_tellsBy_0 : List UInt8 := dkwX13_tellsBy_0 ++ dktX13_tellsBy_1
theorem dksX13_tellsBy_0 : cX13_tellsBy.data.toList.drop 0 = dktX13_tellsBy_0 := by decide +kernel
theorem dksX13_tellsBy_1 : cX13_tellsBy.data.toList.drop 23 = dktX13_tellsBy_1 := dk_seg dksX13_tellsBy_0 23 rfl rfl
theorem dksX13_tellsBy_2 : cX13_tellsBy.data.toList.drop 47 = dktX13_tellsBy_2 := dk_seg dksX13_tellsBy_1 24 rfl rfl
theorem dksX13_tellsBy_3 : cX13_tellsBy.data.toList.drop 70 = dktX13_tellsBy_3 := dk_seg dksX13_tellsBy_2 23 rfl rfl
theorem dksX13_tellsBy_4 : cX13_tellsBy.data.toList.drop 92 = dktX13_tellsBy_4 := dk_seg dksX13_tellsBy_3 22 rfl rfl
theorem dksX13_tellsBy_5 : cX13_tellsBy.data.toList.drop 114 = dktX13_tellsBy_5 := dk_seg dksX13_tellsBy_4 22 rfl rfl
theorem dX13_tellsBy_0 : decode cX13_tellsBy 0 = .ok (.aload_n 0, 1) := dk_42 (dk_at dksX13_tellsBy_0 0 rfl rfl)
theorem dX13_tellsBy_1 : decode cX13_tellsBy 1 = .ok (.iconst 0, 1) := dk_3 (dk_at dksX13_tellsBy_0 1 rfl rfl)
theorem dX13_tellsBy_2 : decode cX13_tellsBy 2 = .ok (.putfield 341, 3) := dk_181 1 85 (dk_at dksX13_tellsBy_0 2 rfl rfl)
theorem dX13_tellsBy_5 : decode cX13_tellsBy 5 = .ok (.aload_n 0, 1) := dk_42 (dk_at dksX13_tellsBy_0 5 rfl rfl)
theorem dX13_tellsBy_6 : decode cX13_tellsBy 6 = .ok (.getfield 91, 3) := dk_180 0 91 (dk_at dksX13_tellsBy_0 6 rfl rfl)
theorem dX13_tellsBy_9 : decode cX13_tellsBy 9 = .ok (.iload_n 1, 1) := dk_27 (dk_at dksX13_tellsBy_0 9 rfl rfl)
theorem dX13_tellsBy_10 : decode cX13_tellsBy 10 = .ok (.iaload, 1) := dk_46 (dk_at dksX13_tellsBy_0 10 rfl rfl)
theorem dX13_tellsBy_11 : decode cX13_tellsBy 11 = .ok (.istore_n 2, 1) := dk_61 (dk_at dksX13_tellsBy_0 11 rfl rfl)
theorem dX13_tellsBy_12 : decode cX13_tellsBy 12 = .ok (.iload_n 2, 1) := dk_28 (dk_at dksX13_tellsBy_0 12 rfl rfl)
theorem dX13_tellsBy_13 : decode cX13_tellsBy 13 = .ok (.aload_n 0, 1) := dk_42 (dk_at dksX13_tellsBy_0 13 rfl rfl)
theorem dX13_tellsBy_14 : decode cX13_tellsBy 14 = .ok (.getfield 94, 3) := dk_180 0 94 (dk_at dksX13_tellsBy_0 14 rfl rfl)
theorem dX13_tellsBy_17 : decode cX13_tellsBy 17 = .ok (.iload_n 1, 1) := dk_27 (dk_at dksX13_tellsBy_0 17 rfl rfl)
theorem dX13_tellsBy_18 : decode cX13_tellsBy 18 = .ok (.iaload, 1) := dk_46 (dk_at dksX13_tellsBy_0 18 rfl rfl)
theorem dX13_tellsBy_19 : decode cX13_tellsBy 19 = .ok (.if_icmp .ge 101, 3) := dk_162 0 101 (dk_at dksX13_tellsBy_0 19 rfl rfl)
theorem dX13_tellsBy_22 : decode cX13_tellsBy 22 = .ok (.aload_n 0, 1) := dk_42 (dk_at dksX13_tellsBy_0 22 rfl rfl)
theorem dX13_tellsBy_23 : decode cX13_tellsBy 23 = .ok (.getfield 97, 3) := dk_180 0 97 (dk_at dksX13_tellsBy_1 0 rfl rfl)
theorem dX13_tellsBy_26 : decode cX13_tellsBy 26 = .ok (.iload_n 2, 1) := dk_28 (dk_at dksX13_tellsBy_1 3 rfl rfl)
theorem dX13_tellsBy_27 : decode cX13_tellsBy 27 = .ok (.baload, 1) := dk_51 (dk_at dksX13_tellsBy_1 4 rfl rfl)
theorem dX13_tellsBy_28 : decode cX13_tellsBy 28 = .ok (.ifCond .eq 56, 3) := dk_153 0 56 (dk_at dksX13_tellsBy_1 5 rfl rfl)
theorem dX13_tellsBy_31 : decode cX13_tellsBy 31 = .ok (.aload_n 0, 1) := dk_42 (dk_at dksX13_tellsBy_1 8 rfl rfl)
theorem dX13_tellsBy_32 : decode cX13_tellsBy 32 = .ok (.aload_n 0, 1) := dk_42 (dk_at dksX13_tellsBy_1 9 rfl rfl)
theorem dX13_tellsBy_33 : decode cX13_tellsBy 33 = .ok (.getfield 101, 3) := dk_180 0 101 (dk_at dksX13_tellsBy_1 10 rfl rfl)
theorem dX13_tellsBy_36 : decode cX13_tellsBy 36 = .ok (.iload_n 2, 1) := dk_28 (dk_at dksX13_tellsBy_1 13 rfl rfl)
theorem dX13_tellsBy_37 : decode cX13_tellsBy 37 = .ok (.iaload, 1) := dk_46 (dk_at dksX13_tellsBy_1 14 rfl rfl)
theorem dX13_tellsBy_38 : decode cX13_tellsBy 38 = .ok (.aload_n 0, 1) := dk_42 (dk_at dksX13_tellsBy_1 15 rfl rfl)
theorem dX13_tellsBy_39 : decode cX13_tellsBy 39 = .ok (.getfield 104, 3) := dk_180 0 104 (dk_at dksX13_tellsBy_1 16 rfl rfl)
theorem dX13_tellsBy_42 : decode cX13_tellsBy 42 = .ok (.iload_n 2, 1) := dk_28 (dk_at dksX13_tellsBy_1 19 rfl rfl)
theorem dX13_tellsBy_43 : decode cX13_tellsBy 43 = .ok (.iaload, 1) := dk_46 (dk_at dksX13_tellsBy_1 20 rfl rfl)
theorem dX13_tellsBy_44 : decode cX13_tellsBy 44 = .ok (.invokevirtual 353, 3) := dk_182 1 97 (dk_at dksX13_tellsBy_1 21 rfl rfl)
theorem dX13_tellsBy_47 : decode cX13_tellsBy 47 = .ok (.istore_n 3, 1) := dk_62 (dk_at dksX13_tellsBy_2 0 rfl rfl)
theorem dX13_tellsBy_48 : decode cX13_tellsBy 48 = .ok (.aload_n 0, 1) := dk_42 (dk_at dksX13_tellsBy_2 1 rfl rfl)
theorem dX13_tellsBy_49 : decode cX13_tellsBy 49 = .ok (.aload_n 0, 1) := dk_42 (dk_at dksX13_tellsBy_2 2 rfl rfl)
theorem dX13_tellsBy_50 : decode cX13_tellsBy 50 = .ok (.getfield 104, 3) := dk_180 0 104 (dk_at dksX13_tellsBy_2 3 rfl rfl)
theorem dX13_tellsBy_53 : decode cX13_tellsBy 53 = .ok (.iload_n 2, 1) := dk_28 (dk_at dksX13_tellsBy_2 6 rfl rfl)
theorem dX13_tellsBy_54 : decode cX13_tellsBy 54 = .ok (.iaload, 1) := dk_46 (dk_at dksX13_tellsBy_2 7 rfl rfl)
theorem dX13_tellsBy_55 : decode cX13_tellsBy 55 = .ok (.aload_n 0, 1) := dk_42 (dk_at dksX13_tellsBy_2 8 rfl rfl)
theorem dX13_tellsBy_56 : decode cX13_tellsBy 56 = .ok (.getfield 107, 3) := dk_180 0 107 (dk_at dksX13_tellsBy_2 9 rfl rfl)
theorem dX13_tellsBy_59 : decode cX13_tellsBy 59 = .ok (.iload_n 2, 1) := dk_28 (dk_at dksX13_tellsBy_2 12 rfl rfl)
theorem dX13_tellsBy_60 : decode cX13_tellsBy 60 = .ok (.iaload, 1) := dk_46 (dk_at dksX13_tellsBy_2 13 rfl rfl)
theorem dX13_tellsBy_61 : decode cX13_tellsBy 61 = .ok (.invokevirtual 353, 3) := dk_182 1 97 (dk_at dksX13_tellsBy_2 14 rfl rfl)
theorem dX13_tellsBy_64 : decode cX13_tellsBy 64 = .ok (.istore 4, 2) := dk_54 4 (dk_at dksX13_tellsBy_2 17 rfl rfl)
theorem dX13_tellsBy_66 : decode cX13_tellsBy 66 = .ok (.aload_n 0, 1) := dk_42 (dk_at dksX13_tellsBy_2 19 rfl rfl)
theorem dX13_tellsBy_67 : decode cX13_tellsBy 67 = .ok (.getfield 341, 3) := dk_180 1 85 (dk_at dksX13_tellsBy_2 20 rfl rfl)
theorem dX13_tellsBy_70 : decode cX13_tellsBy 70 = .ok (.ifCond .eq 5, 3) := dk_153 0 5 (dk_at dksX13_tellsBy_3 0 rfl rfl)
theorem dX13_tellsBy_73 : decode cX13_tellsBy 73 = .ok (.iconst 0, 1) := dk_3 (dk_at dksX13_tellsBy_3 3 rfl rfl)
theorem dX13_tellsBy_74 : decode cX13_tellsBy 74 = .ok (.ireturn, 1) := dk_172 (dk_at dksX13_tellsBy_3 4 rfl rfl)
theorem dX13_tellsBy_75 : decode cX13_tellsBy 75 = .ok (.iload_n 3, 1) := dk_29 (dk_at dksX13_tellsBy_3 5 rfl rfl)
theorem dX13_tellsBy_76 : decode cX13_tellsBy 76 = .ok (.iload 4, 2) := dk_21 4 (dk_at dksX13_tellsBy_3 6 rfl rfl)
theorem dX13_tellsBy_78 : decode cX13_tellsBy 78 = .ok (.if_icmp .lt 6, 3) := dk_161 0 6 (dk_at dksX13_tellsBy_3 8 rfl rfl)
theorem dX13_tellsBy_81 : decode cX13_tellsBy 81 = .ok (.goto 33, 3) := dk_167 0 33 (dk_at dksX13_tellsBy_3 11 rfl rfl)
theorem dX13_tellsBy_84 : decode cX13_tellsBy 84 = .ok (.aload_n 0, 1) := dk_42 (dk_at dksX13_tellsBy_3 14 rfl rfl)
theorem dX13_tellsBy_85 : decode cX13_tellsBy 85 = .ok (.aload_n 0, 1) := dk_42 (dk_at dksX13_tellsBy_3 15 rfl rfl)
theorem dX13_tellsBy_86 : decode cX13_tellsBy 86 = .ok (.getfield 107, 3) := dk_180 0 107 (dk_at dksX13_tellsBy_3 16 rfl rfl)
theorem dX13_tellsBy_89 : decode cX13_tellsBy 89 = .ok (.iload_n 2, 1) := dk_28 (dk_at dksX13_tellsBy_3 19 rfl rfl)
theorem dX13_tellsBy_90 : decode cX13_tellsBy 90 = .ok (.iaload, 1) := dk_46 (dk_at dksX13_tellsBy_3 20 rfl rfl)
theorem dX13_tellsBy_91 : decode cX13_tellsBy 91 = .ok (.aload_n 0, 1) := dk_42 (dk_at dksX13_tellsBy_3 21 rfl rfl)
theorem dX13_tellsBy_92 : decode cX13_tellsBy 92 = .ok (.getfield 110, 3) := dk_180 0 110 (dk_at dksX13_tellsBy_4 0 rfl rfl)
theorem dX13_tellsBy_95 : decode cX13_tellsBy 95 = .ok (.iload_n 2, 1) := dk_28 (dk_at dksX13_tellsBy_4 3 rfl rfl)
theorem dX13_tellsBy_96 : decode cX13_tellsBy 96 = .ok (.iaload, 1) := dk_46 (dk_at dksX13_tellsBy_4 4 rfl rfl)
theorem dX13_tellsBy_97 : decode cX13_tellsBy 97 = .ok (.invokevirtual 353, 3) := dk_182 1 97 (dk_at dksX13_tellsBy_4 5 rfl rfl)
theorem dX13_tellsBy_100 : decode cX13_tellsBy 100 = .ok (.istore_n 3, 1) := dk_62 (dk_at dksX13_tellsBy_4 8 rfl rfl)
theorem dX13_tellsBy_101 : decode cX13_tellsBy 101 = .ok (.aload_n 0, 1) := dk_42 (dk_at dksX13_tellsBy_4 9 rfl rfl)
theorem dX13_tellsBy_102 : decode cX13_tellsBy 102 = .ok (.getfield 341, 3) := dk_180 1 85 (dk_at dksX13_tellsBy_4 10 rfl rfl)
theorem dX13_tellsBy_105 : decode cX13_tellsBy 105 = .ok (.ifCond .eq 7, 3) := dk_153 0 7 (dk_at dksX13_tellsBy_4 13 rfl rfl)
theorem dX13_tellsBy_108 : decode cX13_tellsBy 108 = .ok (.iconst 0, 1) := dk_3 (dk_at dksX13_tellsBy_4 16 rfl rfl)
theorem dX13_tellsBy_109 : decode cX13_tellsBy 109 = .ok (.goto 4, 3) := dk_167 0 4 (dk_at dksX13_tellsBy_4 17 rfl rfl)
theorem dX13_tellsBy_112 : decode cX13_tellsBy 112 = .ok (.iload_n 3, 1) := dk_29 (dk_at dksX13_tellsBy_4 20 rfl rfl)
theorem dX13_tellsBy_113 : decode cX13_tellsBy 113 = .ok (.ireturn, 1) := dk_172 (dk_at dksX13_tellsBy_4 21 rfl rfl)
theorem dX13_tellsBy_114 : decode cX13_tellsBy 114 = .ok (.iinc 2 1, 3) := dk_132 2 1 (dk_at dksX13_tellsBy_5 0 rfl rfl)
theorem dX13_tellsBy_117 : decode cX13_tellsBy 117 = .ok (.goto (-105), 3) := dk_167 255 151 (dk_at dksX13_tellsBy_5 3 rfl rfl)
theorem dX13_tellsBy_120 : decode cX13_tellsBy 120 = .ok (.iconst 0, 1) := dk_3 (dk_at dksX13_tellsBy_5 6 rfl rfl)
theorem dX13_tellsBy_121 : decode cX13_tellsBy 121 = .ok (.ireturn, 1) := dk_172 (dk_at dksX13_tellsBy_5 7 rfl rfl)
abbrev cX13_termOf : ByteArray := prog_21_method_37_code
def yX13_termOf : MethodName := ⟨RX13, "termOf", "(II)I"⟩
def dkwX13_termOf_7 : List UInt8 := [132, 4, 1, 167, 255, 99, 42, 180, 0, 125, 3, 46, 172]
abbrev dktX13_termOf_7 : List UInt8 := dkwX13_termOf_7 ++ []
def dkwX13_termOf_6 : List UInt8 := [167, 0, 22, 21, 5, 7, 160, 0, 11, 21, 6, 21, 7, 104, 167, 0, 8, 21, 6, 21, 7, 108, 79]
abbrev dktX13_termOf_6 : List UInt8 := dkwX13_termOf_6 ++ dktX13_termOf_7
def dkwX13_termOf_5 : List UInt8 := [160, 0, 11, 21, 6, 21, 7, 96, 167, 0, 36, 21, 5, 6, 160, 0, 11, 21, 6, 21, 7, 100]
abbrev dktX13_termOf_5 : List UInt8 := dkwX13_termOf_5 ++ dktX13_termOf_6
def dkwX13_termOf_4 : List UInt8 := [21, 7, 154, 0, 10, 42, 4, 181, 1, 85, 3, 172, 42, 180, 0, 125, 29, 4, 100, 21, 5, 5]
abbrev dktX13_termOf_4 : List UInt8 := dkwX13_termOf_4 ++ dktX13_termOf_5
def dkwX13_termOf_3 : List UInt8 := [180, 0, 125, 29, 4, 100, 46, 54, 6, 42, 180, 0, 125, 29, 46, 54, 7, 21, 5, 8, 160, 0, 15]
abbrev dktX13_termOf_3 : List UInt8 := dkwX13_termOf_3 ++ dktX13_termOf_4
def dkwX13_termOf_2 : List UInt8 := [180, 0, 122, 42, 180, 0, 116, 21, 4, 46, 46, 79, 132, 3, 1, 167, 0, 97, 132, 3, 255, 42]
abbrev dktX13_termOf_2 : List UInt8 := dkwX13_termOf_2 ++ dktX13_termOf_3
def dkwX13_termOf_1 : List UInt8 := [162, 0, 42, 42, 180, 0, 125, 29, 21, 5, 154, 0, 13, 42, 180, 0, 116, 21, 4, 46, 167, 0, 15, 42]
abbrev dktX13_termOf_1 : List UInt8 := dkwX13_termOf_1 ++ dktX13_termOf_2
def dkwX13_termOf_0 : List UInt8 := [3, 62, 27, 54, 4, 21, 4, 28, 162, 0, 157, 42, 180, 0, 113, 21, 4, 46, 54, 5, 21, 5, 5]
abbrev dktX13_termOf_0 : List UInt8 := dkwX13_termOf_0 ++ dktX13_termOf_1
theorem dksX13_termOf_0 : cX13_termOf.data.toList.drop 0 = dktX13_termOf_0 := by decide +kernel
theorem dksX13_termOf_1 : cX13_termOf.data.toList.drop 23 = dktX13_termOf_1 := dk_seg dksX13_termOf_0 23 rfl rfl
theorem dksX13_termOf_2 : cX13_termOf.data.toList.drop 47 = dktX13_termOf_2 := dk_seg dksX13_termOf_1 24 rfl rfl
theorem dksX13_termOf_3 : cX13_termOf.data.toList.drop 69 = dktX13_termOf_3 := dk_seg dksX13_termOf_2 22 rfl rfl
theorem dksX13_termOf_4 : cX13_termOf.data.toList.drop 92 = dktX13_termOf_4 := dk_seg dksX13_termOf_3 23 rfl rfl
theorem dksX13_termOf_5 : cX13_termOf.data.toList.drop 114 = dktX13_termOf_5 := dk_seg dksX13_termOf_4 22 rfl rfl
theorem dksX13_termOf_6 : cX13_termOf.data.toList.drop 136 = dktX13_termOf_6 := dk_seg dksX13_termOf_5 22 rfl rfl
theorem dksX13_termOf_7 : cX13_termOf.data.toList.drop 159 = dktX13_termOf_7 := dk_seg dksX13_termOf_6 23 rfl rfl
theorem dX13_termOf_0 : decode cX13_termOf 0 = .ok (.iconst 0, 1) := dk_3 (dk_at dksX13_termOf_0 0 rfl rfl)
theorem dX13_termOf_1 : decode cX13_termOf 1 = .ok (.istore_n 3, 1) := dk_62 (dk_at dksX13_termOf_0 1 rfl rfl)
theorem dX13_termOf_2 : decode cX13_termOf 2 = .ok (.iload_n 1, 1) := dk_27 (dk_at dksX13_termOf_0 2 rfl rfl)
theorem dX13_termOf_3 : decode cX13_termOf 3 = .ok (.istore 4, 2) := dk_54 4 (dk_at dksX13_termOf_0 3 rfl rfl)
theorem dX13_termOf_5 : decode cX13_termOf 5 = .ok (.iload 4, 2) := dk_21 4 (dk_at dksX13_termOf_0 5 rfl rfl)
theorem dX13_termOf_7 : decode cX13_termOf 7 = .ok (.iload_n 2, 1) := dk_28 (dk_at dksX13_termOf_0 7 rfl rfl)
theorem dX13_termOf_8 : decode cX13_termOf 8 = .ok (.if_icmp .ge 157, 3) := dk_162 0 157 (dk_at dksX13_termOf_0 8 rfl rfl)
theorem dX13_termOf_11 : decode cX13_termOf 11 = .ok (.aload_n 0, 1) := dk_42 (dk_at dksX13_termOf_0 11 rfl rfl)
theorem dX13_termOf_12 : decode cX13_termOf 12 = .ok (.getfield 113, 3) := dk_180 0 113 (dk_at dksX13_termOf_0 12 rfl rfl)
theorem dX13_termOf_15 : decode cX13_termOf 15 = .ok (.iload 4, 2) := dk_21 4 (dk_at dksX13_termOf_0 15 rfl rfl)
theorem dX13_termOf_17 : decode cX13_termOf 17 = .ok (.iaload, 1) := dk_46 (dk_at dksX13_termOf_0 17 rfl rfl)
theorem dX13_termOf_18 : decode cX13_termOf 18 = .ok (.istore 5, 2) := dk_54 5 (dk_at dksX13_termOf_0 18 rfl rfl)
theorem dX13_termOf_20 : decode cX13_termOf 20 = .ok (.iload 5, 2) := dk_21 5 (dk_at dksX13_termOf_0 20 rfl rfl)
theorem dX13_termOf_22 : decode cX13_termOf 22 = .ok (.iconst 2, 1) := dk_5 (dk_at dksX13_termOf_0 22 rfl rfl)
theorem dX13_termOf_23 : decode cX13_termOf 23 = .ok (.if_icmp .ge 42, 3) := dk_162 0 42 (dk_at dksX13_termOf_1 0 rfl rfl)
theorem dX13_termOf_26 : decode cX13_termOf 26 = .ok (.aload_n 0, 1) := dk_42 (dk_at dksX13_termOf_1 3 rfl rfl)
theorem dX13_termOf_27 : decode cX13_termOf 27 = .ok (.getfield 125, 3) := dk_180 0 125 (dk_at dksX13_termOf_1 4 rfl rfl)
theorem dX13_termOf_30 : decode cX13_termOf 30 = .ok (.iload_n 3, 1) := dk_29 (dk_at dksX13_termOf_1 7 rfl rfl)
theorem dX13_termOf_31 : decode cX13_termOf 31 = .ok (.iload 5, 2) := dk_21 5 (dk_at dksX13_termOf_1 8 rfl rfl)
theorem dX13_termOf_33 : decode cX13_termOf 33 = .ok (.ifCond .ne 13, 3) := dk_154 0 13 (dk_at dksX13_termOf_1 10 rfl rfl)
theorem dX13_termOf_36 : decode cX13_termOf 36 = .ok (.aload_n 0, 1) := dk_42 (dk_at dksX13_termOf_1 13 rfl rfl)
theorem dX13_termOf_37 : decode cX13_termOf 37 = .ok (.getfield 116, 3) := dk_180 0 116 (dk_at dksX13_termOf_1 14 rfl rfl)
theorem dX13_termOf_40 : decode cX13_termOf 40 = .ok (.iload 4, 2) := dk_21 4 (dk_at dksX13_termOf_1 17 rfl rfl)
theorem dX13_termOf_42 : decode cX13_termOf 42 = .ok (.iaload, 1) := dk_46 (dk_at dksX13_termOf_1 19 rfl rfl)
theorem dX13_termOf_43 : decode cX13_termOf 43 = .ok (.goto 15, 3) := dk_167 0 15 (dk_at dksX13_termOf_1 20 rfl rfl)
theorem dX13_termOf_46 : decode cX13_termOf 46 = .ok (.aload_n 0, 1) := dk_42 (dk_at dksX13_termOf_1 23 rfl rfl)
theorem dX13_termOf_47 : decode cX13_termOf 47 = .ok (.getfield 122, 3) := dk_180 0 122 (dk_at dksX13_termOf_2 0 rfl rfl)
theorem dX13_termOf_50 : decode cX13_termOf 50 = .ok (.aload_n 0, 1) := dk_42 (dk_at dksX13_termOf_2 3 rfl rfl)
theorem dX13_termOf_51 : decode cX13_termOf 51 = .ok (.getfield 116, 3) := dk_180 0 116 (dk_at dksX13_termOf_2 4 rfl rfl)
theorem dX13_termOf_54 : decode cX13_termOf 54 = .ok (.iload 4, 2) := dk_21 4 (dk_at dksX13_termOf_2 7 rfl rfl)
theorem dX13_termOf_56 : decode cX13_termOf 56 = .ok (.iaload, 1) := dk_46 (dk_at dksX13_termOf_2 9 rfl rfl)
theorem dX13_termOf_57 : decode cX13_termOf 57 = .ok (.iaload, 1) := dk_46 (dk_at dksX13_termOf_2 10 rfl rfl)
theorem dX13_termOf_58 : decode cX13_termOf 58 = .ok (.iastore, 1) := dk_79 (dk_at dksX13_termOf_2 11 rfl rfl)
theorem dX13_termOf_59 : decode cX13_termOf 59 = .ok (.iinc 3 1, 3) := dk_132 3 1 (dk_at dksX13_termOf_2 12 rfl rfl)
theorem dX13_termOf_62 : decode cX13_termOf 62 = .ok (.goto 97, 3) := dk_167 0 97 (dk_at dksX13_termOf_2 15 rfl rfl)
theorem dX13_termOf_65 : decode cX13_termOf 65 = .ok (.iinc 3 (-1), 3) := dk_132 3 255 (dk_at dksX13_termOf_2 18 rfl rfl)
theorem dX13_termOf_68 : decode cX13_termOf 68 = .ok (.aload_n 0, 1) := dk_42 (dk_at dksX13_termOf_2 21 rfl rfl)
theorem dX13_termOf_69 : decode cX13_termOf 69 = .ok (.getfield 125, 3) := dk_180 0 125 (dk_at dksX13_termOf_3 0 rfl rfl)
theorem dX13_termOf_72 : decode cX13_termOf 72 = .ok (.iload_n 3, 1) := dk_29 (dk_at dksX13_termOf_3 3 rfl rfl)
theorem dX13_termOf_73 : decode cX13_termOf 73 = .ok (.iconst 1, 1) := dk_4 (dk_at dksX13_termOf_3 4 rfl rfl)
theorem dX13_termOf_74 : decode cX13_termOf 74 = .ok (.isub, 1) := dk_100 (dk_at dksX13_termOf_3 5 rfl rfl)
theorem dX13_termOf_75 : decode cX13_termOf 75 = .ok (.iaload, 1) := dk_46 (dk_at dksX13_termOf_3 6 rfl rfl)
theorem dX13_termOf_76 : decode cX13_termOf 76 = .ok (.istore 6, 2) := dk_54 6 (dk_at dksX13_termOf_3 7 rfl rfl)
theorem dX13_termOf_78 : decode cX13_termOf 78 = .ok (.aload_n 0, 1) := dk_42 (dk_at dksX13_termOf_3 9 rfl rfl)
theorem dX13_termOf_79 : decode cX13_termOf 79 = .ok (.getfield 125, 3) := dk_180 0 125 (dk_at dksX13_termOf_3 10 rfl rfl)
theorem dX13_termOf_82 : decode cX13_termOf 82 = .ok (.iload_n 3, 1) := dk_29 (dk_at dksX13_termOf_3 13 rfl rfl)
theorem dX13_termOf_83 : decode cX13_termOf 83 = .ok (.iaload, 1) := dk_46 (dk_at dksX13_termOf_3 14 rfl rfl)
theorem dX13_termOf_84 : decode cX13_termOf 84 = .ok (.istore 7, 2) := dk_54 7 (dk_at dksX13_termOf_3 15 rfl rfl)
theorem dX13_termOf_86 : decode cX13_termOf 86 = .ok (.iload 5, 2) := dk_21 5 (dk_at dksX13_termOf_3 17 rfl rfl)
theorem dX13_termOf_88 : decode cX13_termOf 88 = .ok (.iconst 5, 1) := dk_8 (dk_at dksX13_termOf_3 19 rfl rfl)
theorem dX13_termOf_89 : decode cX13_termOf 89 = .ok (.if_icmp .ne 15, 3) := dk_160 0 15 (dk_at dksX13_termOf_3 20 rfl rfl)
theorem dX13_termOf_92 : decode cX13_termOf 92 = .ok (.iload 7, 2) := dk_21 7 (dk_at dksX13_termOf_4 0 rfl rfl)
theorem dX13_termOf_94 : decode cX13_termOf 94 = .ok (.ifCond .ne 10, 3) := dk_154 0 10 (dk_at dksX13_termOf_4 2 rfl rfl)
theorem dX13_termOf_97 : decode cX13_termOf 97 = .ok (.aload_n 0, 1) := dk_42 (dk_at dksX13_termOf_4 5 rfl rfl)
theorem dX13_termOf_98 : decode cX13_termOf 98 = .ok (.iconst 1, 1) := dk_4 (dk_at dksX13_termOf_4 6 rfl rfl)
theorem dX13_termOf_99 : decode cX13_termOf 99 = .ok (.putfield 341, 3) := dk_181 1 85 (dk_at dksX13_termOf_4 7 rfl rfl)
theorem dX13_termOf_102 : decode cX13_termOf 102 = .ok (.iconst 0, 1) := dk_3 (dk_at dksX13_termOf_4 10 rfl rfl)
theorem dX13_termOf_103 : decode cX13_termOf 103 = .ok (.ireturn, 1) := dk_172 (dk_at dksX13_termOf_4 11 rfl rfl)
theorem dX13_termOf_104 : decode cX13_termOf 104 = .ok (.aload_n 0, 1) := dk_42 (dk_at dksX13_termOf_4 12 rfl rfl)
theorem dX13_termOf_105 : decode cX13_termOf 105 = .ok (.getfield 125, 3) := dk_180 0 125 (dk_at dksX13_termOf_4 13 rfl rfl)
theorem dX13_termOf_108 : decode cX13_termOf 108 = .ok (.iload_n 3, 1) := dk_29 (dk_at dksX13_termOf_4 16 rfl rfl)
theorem dX13_termOf_109 : decode cX13_termOf 109 = .ok (.iconst 1, 1) := dk_4 (dk_at dksX13_termOf_4 17 rfl rfl)
theorem dX13_termOf_110 : decode cX13_termOf 110 = .ok (.isub, 1) := dk_100 (dk_at dksX13_termOf_4 18 rfl rfl)
theorem dX13_termOf_111 : decode cX13_termOf 111 = .ok (.iload 5, 2) := dk_21 5 (dk_at dksX13_termOf_4 19 rfl rfl)
theorem dX13_termOf_113 : decode cX13_termOf 113 = .ok (.iconst 2, 1) := dk_5 (dk_at dksX13_termOf_4 21 rfl rfl)
theorem dX13_termOf_114 : decode cX13_termOf 114 = .ok (.if_icmp .ne 11, 3) := dk_160 0 11 (dk_at dksX13_termOf_5 0 rfl rfl)
theorem dX13_termOf_117 : decode cX13_termOf 117 = .ok (.iload 6, 2) := dk_21 6 (dk_at dksX13_termOf_5 3 rfl rfl)
theorem dX13_termOf_119 : decode cX13_termOf 119 = .ok (.iload 7, 2) := dk_21 7 (dk_at dksX13_termOf_5 5 rfl rfl)
theorem dX13_termOf_121 : decode cX13_termOf 121 = .ok (.iadd, 1) := dk_96 (dk_at dksX13_termOf_5 7 rfl rfl)
theorem dX13_termOf_122 : decode cX13_termOf 122 = .ok (.goto 36, 3) := dk_167 0 36 (dk_at dksX13_termOf_5 8 rfl rfl)
theorem dX13_termOf_125 : decode cX13_termOf 125 = .ok (.iload 5, 2) := dk_21 5 (dk_at dksX13_termOf_5 11 rfl rfl)
theorem dX13_termOf_127 : decode cX13_termOf 127 = .ok (.iconst 3, 1) := dk_6 (dk_at dksX13_termOf_5 13 rfl rfl)
theorem dX13_termOf_128 : decode cX13_termOf 128 = .ok (.if_icmp .ne 11, 3) := dk_160 0 11 (dk_at dksX13_termOf_5 14 rfl rfl)
theorem dX13_termOf_131 : decode cX13_termOf 131 = .ok (.iload 6, 2) := dk_21 6 (dk_at dksX13_termOf_5 17 rfl rfl)
theorem dX13_termOf_133 : decode cX13_termOf 133 = .ok (.iload 7, 2) := dk_21 7 (dk_at dksX13_termOf_5 19 rfl rfl)
theorem dX13_termOf_135 : decode cX13_termOf 135 = .ok (.isub, 1) := dk_100 (dk_at dksX13_termOf_5 21 rfl rfl)
theorem dX13_termOf_136 : decode cX13_termOf 136 = .ok (.goto 22, 3) := dk_167 0 22 (dk_at dksX13_termOf_6 0 rfl rfl)
theorem dX13_termOf_139 : decode cX13_termOf 139 = .ok (.iload 5, 2) := dk_21 5 (dk_at dksX13_termOf_6 3 rfl rfl)
theorem dX13_termOf_141 : decode cX13_termOf 141 = .ok (.iconst 4, 1) := dk_7 (dk_at dksX13_termOf_6 5 rfl rfl)
theorem dX13_termOf_142 : decode cX13_termOf 142 = .ok (.if_icmp .ne 11, 3) := dk_160 0 11 (dk_at dksX13_termOf_6 6 rfl rfl)
theorem dX13_termOf_145 : decode cX13_termOf 145 = .ok (.iload 6, 2) := dk_21 6 (dk_at dksX13_termOf_6 9 rfl rfl)
theorem dX13_termOf_147 : decode cX13_termOf 147 = .ok (.iload 7, 2) := dk_21 7 (dk_at dksX13_termOf_6 11 rfl rfl)
theorem dX13_termOf_149 : decode cX13_termOf 149 = .ok (.imul, 1) := dk_104 (dk_at dksX13_termOf_6 13 rfl rfl)
theorem dX13_termOf_150 : decode cX13_termOf 150 = .ok (.goto 8, 3) := dk_167 0 8 (dk_at dksX13_termOf_6 14 rfl rfl)
theorem dX13_termOf_153 : decode cX13_termOf 153 = .ok (.iload 6, 2) := dk_21 6 (dk_at dksX13_termOf_6 17 rfl rfl)
theorem dX13_termOf_155 : decode cX13_termOf 155 = .ok (.iload 7, 2) := dk_21 7 (dk_at dksX13_termOf_6 19 rfl rfl)
theorem dX13_termOf_157 : decode cX13_termOf 157 = .ok (.idiv, 1) := dk_108 (dk_at dksX13_termOf_6 21 rfl rfl)
theorem dX13_termOf_158 : decode cX13_termOf 158 = .ok (.iastore, 1) := dk_79 (dk_at dksX13_termOf_6 22 rfl rfl)
theorem dX13_termOf_159 : decode cX13_termOf 159 = .ok (.iinc 4 1, 3) := dk_132 4 1 (dk_at dksX13_termOf_7 0 rfl rfl)
theorem dX13_termOf_162 : decode cX13_termOf 162 = .ok (.goto (-157), 3) := dk_167 255 99 (dk_at dksX13_termOf_7 3 rfl rfl)
theorem dX13_termOf_165 : decode cX13_termOf 165 = .ok (.aload_n 0, 1) := dk_42 (dk_at dksX13_termOf_7 6 rfl rfl)
theorem dX13_termOf_166 : decode cX13_termOf 166 = .ok (.getfield 125, 3) := dk_180 0 125 (dk_at dksX13_termOf_7 7 rfl rfl)
theorem dX13_termOf_169 : decode cX13_termOf 169 = .ok (.iconst 0, 1) := dk_3 (dk_at dksX13_termOf_7 10 rfl rfl)
theorem dX13_termOf_170 : decode cX13_termOf 170 = .ok (.iaload, 1) := dk_46 (dk_at dksX13_termOf_7 11 rfl rfl)
theorem dX13_termOf_171 : decode cX13_termOf 171 = .ok (.ireturn, 1) := dk_172 (dk_at dksX13_termOf_7 12 rfl rfl)
abbrev cX13_apart : ByteArray := prog_21_method_58_code
def yX13_apart : MethodName := ⟨RX13, "apart", "(II)I"⟩
def dkwX13_apart_0 : List UInt8 := [26, 27, 162, 0, 9, 27, 26, 100, 167, 0, 6, 26, 27, 100, 172]
abbrev dktX13_apart_0 : List UInt8 := dkwX13_apart_0 ++ []
theorem dksX13_apart_0 : cX13_apart.data.toList.drop 0 = dktX13_apart_0 := by decide +kernel
theorem dX13_apart_0 : decode cX13_apart 0 = .ok (.iload_n 0, 1) := dk_26 (dk_at dksX13_apart_0 0 rfl rfl)
theorem dX13_apart_1 : decode cX13_apart 1 = .ok (.iload_n 1, 1) := dk_27 (dk_at dksX13_apart_0 1 rfl rfl)
theorem dX13_apart_2 : decode cX13_apart 2 = .ok (.if_icmp .ge 9, 3) := dk_162 0 9 (dk_at dksX13_apart_0 2 rfl rfl)
theorem dX13_apart_5 : decode cX13_apart 5 = .ok (.iload_n 1, 1) := dk_27 (dk_at dksX13_apart_0 5 rfl rfl)
theorem dX13_apart_6 : decode cX13_apart 6 = .ok (.iload_n 0, 1) := dk_26 (dk_at dksX13_apart_0 6 rfl rfl)
theorem dX13_apart_7 : decode cX13_apart 7 = .ok (.isub, 1) := dk_100 (dk_at dksX13_apart_0 7 rfl rfl)
theorem dX13_apart_8 : decode cX13_apart 8 = .ok (.goto 6, 3) := dk_167 0 6 (dk_at dksX13_apart_0 8 rfl rfl)
theorem dX13_apart_11 : decode cX13_apart 11 = .ok (.iload_n 0, 1) := dk_26 (dk_at dksX13_apart_0 11 rfl rfl)
theorem dX13_apart_12 : decode cX13_apart 12 = .ok (.iload_n 1, 1) := dk_27 (dk_at dksX13_apart_0 12 rfl rfl)
theorem dX13_apart_13 : decode cX13_apart 13 = .ok (.isub, 1) := dk_100 (dk_at dksX13_apart_0 13 rfl rfl)
theorem dX13_apart_14 : decode cX13_apart 14 = .ok (.ireturn, 1) := dk_172 (dk_at dksX13_apart_0 14 rfl rfl)
abbrev cX13_goesOf : ByteArray := prog_21_method_48_code
def yX13_goesOf : MethodName := ⟨RX13, "goesOf", "(I)I"⟩
def dkwX13_goesOf_5 : List UInt8 := [167, 0, 8, 21, 4, 16, 6, 112, 172]
abbrev dktX13_goesOf_5 : List UInt8 := dkwX13_goesOf_5 ++ []
def dkwX13_goesOf_4 : List UInt8 := [8, 27, 79, 42, 16, 8, 42, 180, 1, 2, 104, 27, 96, 182, 1, 100, 54, 4, 21, 4, 156, 0, 7, 3]
abbrev dktX13_goesOf_4 : List UInt8 := dkwX13_goesOf_4 ++ dktX13_goesOf_5
def dkwX13_goesOf_3 : List UInt8 := [180, 0, 79, 42, 180, 1, 2, 46, 16, 8, 28, 104, 27, 96, 16, 100, 184, 1, 109, 79, 42, 180, 0, 122]
abbrev dktX13_goesOf_3 : List UInt8 := dkwX13_goesOf_3 ++ dktX13_goesOf_4
def dkwX13_goesOf_2 : List UInt8 := [46, 79, 42, 180, 0, 122, 5, 28, 79, 42, 180, 0, 122, 6, 29, 79, 42, 180, 0, 122, 7, 42]
abbrev dktX13_goesOf_2 : List UInt8 := dkwX13_goesOf_2 ++ dktX13_goesOf_3
def dkwX13_goesOf_1 : List UInt8 := [180, 0, 122, 3, 42, 180, 0, 131, 27, 46, 79, 42, 180, 0, 122, 4, 42, 180, 0, 131, 16, 7, 27, 96]
abbrev dktX13_goesOf_1 : List UInt8 := dkwX13_goesOf_1 ++ dktX13_goesOf_2
def dkwX13_goesOf_0 : List UInt8 := [42, 180, 0, 131, 16, 28, 46, 42, 180, 0, 134, 27, 46, 100, 61, 42, 27, 182, 1, 106, 62, 42]
abbrev dktX13_goesOf_0 : List UInt8 := dkwX13_goesOf_0 ++ dktX13_goesOf_1
theorem dksX13_goesOf_0 : cX13_goesOf.data.toList.drop 0 = dktX13_goesOf_0 := by decide +kernel
theorem dksX13_goesOf_1 : cX13_goesOf.data.toList.drop 22 = dktX13_goesOf_1 := dk_seg dksX13_goesOf_0 22 rfl rfl
theorem dksX13_goesOf_2 : cX13_goesOf.data.toList.drop 46 = dktX13_goesOf_2 := dk_seg dksX13_goesOf_1 24 rfl rfl
theorem dksX13_goesOf_3 : cX13_goesOf.data.toList.drop 68 = dktX13_goesOf_3 := dk_seg dksX13_goesOf_2 22 rfl rfl
theorem dksX13_goesOf_4 : cX13_goesOf.data.toList.drop 92 = dktX13_goesOf_4 := dk_seg dksX13_goesOf_3 24 rfl rfl
theorem dksX13_goesOf_5 : cX13_goesOf.data.toList.drop 116 = dktX13_goesOf_5 := dk_seg dksX13_goesOf_4 24 rfl rfl
theorem dX13_goesOf_0 : decode cX13_goesOf 0 = .ok (.aload_n 0, 1) := dk_42 (dk_at dksX13_goesOf_0 0 rfl rfl)
theorem dX13_goesOf_1 : decode cX13_goesOf 1 = .ok (.getfield 131, 3) := dk_180 0 131 (dk_at dksX13_goesOf_0 1 rfl rfl)
theorem dX13_goesOf_4 : decode cX13_goesOf 4 = .ok (.bipush 28, 2) := dk_16 28 (dk_at dksX13_goesOf_0 4 rfl rfl)
theorem dX13_goesOf_6 : decode cX13_goesOf 6 = .ok (.iaload, 1) := dk_46 (dk_at dksX13_goesOf_0 6 rfl rfl)
theorem dX13_goesOf_7 : decode cX13_goesOf 7 = .ok (.aload_n 0, 1) := dk_42 (dk_at dksX13_goesOf_0 7 rfl rfl)
theorem dX13_goesOf_8 : decode cX13_goesOf 8 = .ok (.getfield 134, 3) := dk_180 0 134 (dk_at dksX13_goesOf_0 8 rfl rfl)
theorem dX13_goesOf_11 : decode cX13_goesOf 11 = .ok (.iload_n 1, 1) := dk_27 (dk_at dksX13_goesOf_0 11 rfl rfl)
theorem dX13_goesOf_12 : decode cX13_goesOf 12 = .ok (.iaload, 1) := dk_46 (dk_at dksX13_goesOf_0 12 rfl rfl)
theorem dX13_goesOf_13 : decode cX13_goesOf 13 = .ok (.isub, 1) := dk_100 (dk_at dksX13_goesOf_0 13 rfl rfl)
theorem dX13_goesOf_14 : decode cX13_goesOf 14 = .ok (.istore_n 2, 1) := dk_61 (dk_at dksX13_goesOf_0 14 rfl rfl)
theorem dX13_goesOf_15 : decode cX13_goesOf 15 = .ok (.aload_n 0, 1) := dk_42 (dk_at dksX13_goesOf_0 15 rfl rfl)
theorem dX13_goesOf_16 : decode cX13_goesOf 16 = .ok (.iload_n 1, 1) := dk_27 (dk_at dksX13_goesOf_0 16 rfl rfl)
theorem dX13_goesOf_17 : decode cX13_goesOf 17 = .ok (.invokevirtual 362, 3) := dk_182 1 106 (dk_at dksX13_goesOf_0 17 rfl rfl)
theorem dX13_goesOf_20 : decode cX13_goesOf 20 = .ok (.istore_n 3, 1) := dk_62 (dk_at dksX13_goesOf_0 20 rfl rfl)
theorem dX13_goesOf_21 : decode cX13_goesOf 21 = .ok (.aload_n 0, 1) := dk_42 (dk_at dksX13_goesOf_0 21 rfl rfl)
theorem dX13_goesOf_22 : decode cX13_goesOf 22 = .ok (.getfield 122, 3) := dk_180 0 122 (dk_at dksX13_goesOf_1 0 rfl rfl)
theorem dX13_goesOf_25 : decode cX13_goesOf 25 = .ok (.iconst 0, 1) := dk_3 (dk_at dksX13_goesOf_1 3 rfl rfl)
theorem dX13_goesOf_26 : decode cX13_goesOf 26 = .ok (.aload_n 0, 1) := dk_42 (dk_at dksX13_goesOf_1 4 rfl rfl)
theorem dX13_goesOf_27 : decode cX13_goesOf 27 = .ok (.getfield 131, 3) := dk_180 0 131 (dk_at dksX13_goesOf_1 5 rfl rfl)
theorem dX13_goesOf_30 : decode cX13_goesOf 30 = .ok (.iload_n 1, 1) := dk_27 (dk_at dksX13_goesOf_1 8 rfl rfl)
theorem dX13_goesOf_31 : decode cX13_goesOf 31 = .ok (.iaload, 1) := dk_46 (dk_at dksX13_goesOf_1 9 rfl rfl)
theorem dX13_goesOf_32 : decode cX13_goesOf 32 = .ok (.iastore, 1) := dk_79 (dk_at dksX13_goesOf_1 10 rfl rfl)
theorem dX13_goesOf_33 : decode cX13_goesOf 33 = .ok (.aload_n 0, 1) := dk_42 (dk_at dksX13_goesOf_1 11 rfl rfl)
theorem dX13_goesOf_34 : decode cX13_goesOf 34 = .ok (.getfield 122, 3) := dk_180 0 122 (dk_at dksX13_goesOf_1 12 rfl rfl)
theorem dX13_goesOf_37 : decode cX13_goesOf 37 = .ok (.iconst 1, 1) := dk_4 (dk_at dksX13_goesOf_1 15 rfl rfl)
theorem dX13_goesOf_38 : decode cX13_goesOf 38 = .ok (.aload_n 0, 1) := dk_42 (dk_at dksX13_goesOf_1 16 rfl rfl)
theorem dX13_goesOf_39 : decode cX13_goesOf 39 = .ok (.getfield 131, 3) := dk_180 0 131 (dk_at dksX13_goesOf_1 17 rfl rfl)
theorem dX13_goesOf_42 : decode cX13_goesOf 42 = .ok (.bipush 7, 2) := dk_16 7 (dk_at dksX13_goesOf_1 20 rfl rfl)
theorem dX13_goesOf_44 : decode cX13_goesOf 44 = .ok (.iload_n 1, 1) := dk_27 (dk_at dksX13_goesOf_1 22 rfl rfl)
theorem dX13_goesOf_45 : decode cX13_goesOf 45 = .ok (.iadd, 1) := dk_96 (dk_at dksX13_goesOf_1 23 rfl rfl)
theorem dX13_goesOf_46 : decode cX13_goesOf 46 = .ok (.iaload, 1) := dk_46 (dk_at dksX13_goesOf_2 0 rfl rfl)
theorem dX13_goesOf_47 : decode cX13_goesOf 47 = .ok (.iastore, 1) := dk_79 (dk_at dksX13_goesOf_2 1 rfl rfl)
theorem dX13_goesOf_48 : decode cX13_goesOf 48 = .ok (.aload_n 0, 1) := dk_42 (dk_at dksX13_goesOf_2 2 rfl rfl)
theorem dX13_goesOf_49 : decode cX13_goesOf 49 = .ok (.getfield 122, 3) := dk_180 0 122 (dk_at dksX13_goesOf_2 3 rfl rfl)
theorem dX13_goesOf_52 : decode cX13_goesOf 52 = .ok (.iconst 2, 1) := dk_5 (dk_at dksX13_goesOf_2 6 rfl rfl)
theorem dX13_goesOf_53 : decode cX13_goesOf 53 = .ok (.iload_n 2, 1) := dk_28 (dk_at dksX13_goesOf_2 7 rfl rfl)
theorem dX13_goesOf_54 : decode cX13_goesOf 54 = .ok (.iastore, 1) := dk_79 (dk_at dksX13_goesOf_2 8 rfl rfl)
theorem dX13_goesOf_55 : decode cX13_goesOf 55 = .ok (.aload_n 0, 1) := dk_42 (dk_at dksX13_goesOf_2 9 rfl rfl)
theorem dX13_goesOf_56 : decode cX13_goesOf 56 = .ok (.getfield 122, 3) := dk_180 0 122 (dk_at dksX13_goesOf_2 10 rfl rfl)
theorem dX13_goesOf_59 : decode cX13_goesOf 59 = .ok (.iconst 3, 1) := dk_6 (dk_at dksX13_goesOf_2 13 rfl rfl)
theorem dX13_goesOf_60 : decode cX13_goesOf 60 = .ok (.iload_n 3, 1) := dk_29 (dk_at dksX13_goesOf_2 14 rfl rfl)
theorem dX13_goesOf_61 : decode cX13_goesOf 61 = .ok (.iastore, 1) := dk_79 (dk_at dksX13_goesOf_2 15 rfl rfl)
theorem dX13_goesOf_62 : decode cX13_goesOf 62 = .ok (.aload_n 0, 1) := dk_42 (dk_at dksX13_goesOf_2 16 rfl rfl)
theorem dX13_goesOf_63 : decode cX13_goesOf 63 = .ok (.getfield 122, 3) := dk_180 0 122 (dk_at dksX13_goesOf_2 17 rfl rfl)
theorem dX13_goesOf_66 : decode cX13_goesOf 66 = .ok (.iconst 4, 1) := dk_7 (dk_at dksX13_goesOf_2 20 rfl rfl)
theorem dX13_goesOf_67 : decode cX13_goesOf 67 = .ok (.aload_n 0, 1) := dk_42 (dk_at dksX13_goesOf_2 21 rfl rfl)
theorem dX13_goesOf_68 : decode cX13_goesOf 68 = .ok (.getfield 79, 3) := dk_180 0 79 (dk_at dksX13_goesOf_3 0 rfl rfl)
theorem dX13_goesOf_71 : decode cX13_goesOf 71 = .ok (.aload_n 0, 1) := dk_42 (dk_at dksX13_goesOf_3 3 rfl rfl)
theorem dX13_goesOf_72 : decode cX13_goesOf 72 = .ok (.getfield 258, 3) := dk_180 1 2 (dk_at dksX13_goesOf_3 4 rfl rfl)
theorem dX13_goesOf_75 : decode cX13_goesOf 75 = .ok (.iaload, 1) := dk_46 (dk_at dksX13_goesOf_3 7 rfl rfl)
theorem dX13_goesOf_76 : decode cX13_goesOf 76 = .ok (.bipush 8, 2) := dk_16 8 (dk_at dksX13_goesOf_3 8 rfl rfl)
theorem dX13_goesOf_78 : decode cX13_goesOf 78 = .ok (.iload_n 2, 1) := dk_28 (dk_at dksX13_goesOf_3 10 rfl rfl)
theorem dX13_goesOf_79 : decode cX13_goesOf 79 = .ok (.imul, 1) := dk_104 (dk_at dksX13_goesOf_3 11 rfl rfl)
theorem dX13_goesOf_80 : decode cX13_goesOf 80 = .ok (.iload_n 1, 1) := dk_27 (dk_at dksX13_goesOf_3 12 rfl rfl)
theorem dX13_goesOf_81 : decode cX13_goesOf 81 = .ok (.iadd, 1) := dk_96 (dk_at dksX13_goesOf_3 13 rfl rfl)
theorem dX13_goesOf_82 : decode cX13_goesOf 82 = .ok (.bipush 100, 2) := dk_16 100 (dk_at dksX13_goesOf_3 14 rfl rfl)
theorem dX13_goesOf_84 : decode cX13_goesOf 84 = .ok (.invokestatic 365, 3) := dk_184 1 109 (dk_at dksX13_goesOf_3 16 rfl rfl)
theorem dX13_goesOf_87 : decode cX13_goesOf 87 = .ok (.iastore, 1) := dk_79 (dk_at dksX13_goesOf_3 19 rfl rfl)
theorem dX13_goesOf_88 : decode cX13_goesOf 88 = .ok (.aload_n 0, 1) := dk_42 (dk_at dksX13_goesOf_3 20 rfl rfl)
theorem dX13_goesOf_89 : decode cX13_goesOf 89 = .ok (.getfield 122, 3) := dk_180 0 122 (dk_at dksX13_goesOf_3 21 rfl rfl)
theorem dX13_goesOf_92 : decode cX13_goesOf 92 = .ok (.iconst 5, 1) := dk_8 (dk_at dksX13_goesOf_4 0 rfl rfl)
theorem dX13_goesOf_93 : decode cX13_goesOf 93 = .ok (.iload_n 1, 1) := dk_27 (dk_at dksX13_goesOf_4 1 rfl rfl)
theorem dX13_goesOf_94 : decode cX13_goesOf 94 = .ok (.iastore, 1) := dk_79 (dk_at dksX13_goesOf_4 2 rfl rfl)
theorem dX13_goesOf_95 : decode cX13_goesOf 95 = .ok (.aload_n 0, 1) := dk_42 (dk_at dksX13_goesOf_4 3 rfl rfl)
theorem dX13_goesOf_96 : decode cX13_goesOf 96 = .ok (.bipush 8, 2) := dk_16 8 (dk_at dksX13_goesOf_4 4 rfl rfl)
theorem dX13_goesOf_98 : decode cX13_goesOf 98 = .ok (.aload_n 0, 1) := dk_42 (dk_at dksX13_goesOf_4 6 rfl rfl)
theorem dX13_goesOf_99 : decode cX13_goesOf 99 = .ok (.getfield 258, 3) := dk_180 1 2 (dk_at dksX13_goesOf_4 7 rfl rfl)
theorem dX13_goesOf_102 : decode cX13_goesOf 102 = .ok (.imul, 1) := dk_104 (dk_at dksX13_goesOf_4 10 rfl rfl)
theorem dX13_goesOf_103 : decode cX13_goesOf 103 = .ok (.iload_n 1, 1) := dk_27 (dk_at dksX13_goesOf_4 11 rfl rfl)
theorem dX13_goesOf_104 : decode cX13_goesOf 104 = .ok (.iadd, 1) := dk_96 (dk_at dksX13_goesOf_4 12 rfl rfl)
theorem dX13_goesOf_105 : decode cX13_goesOf 105 = .ok (.invokevirtual 356, 3) := dk_182 1 100 (dk_at dksX13_goesOf_4 13 rfl rfl)
theorem dX13_goesOf_108 : decode cX13_goesOf 108 = .ok (.istore 4, 2) := dk_54 4 (dk_at dksX13_goesOf_4 16 rfl rfl)
theorem dX13_goesOf_110 : decode cX13_goesOf 110 = .ok (.iload 4, 2) := dk_21 4 (dk_at dksX13_goesOf_4 18 rfl rfl)
theorem dX13_goesOf_112 : decode cX13_goesOf 112 = .ok (.ifCond .ge 7, 3) := dk_156 0 7 (dk_at dksX13_goesOf_4 20 rfl rfl)
theorem dX13_goesOf_115 : decode cX13_goesOf 115 = .ok (.iconst 0, 1) := dk_3 (dk_at dksX13_goesOf_4 23 rfl rfl)
theorem dX13_goesOf_116 : decode cX13_goesOf 116 = .ok (.goto 8, 3) := dk_167 0 8 (dk_at dksX13_goesOf_5 0 rfl rfl)
theorem dX13_goesOf_119 : decode cX13_goesOf 119 = .ok (.iload 4, 2) := dk_21 4 (dk_at dksX13_goesOf_5 3 rfl rfl)
theorem dX13_goesOf_121 : decode cX13_goesOf 121 = .ok (.bipush 6, 2) := dk_16 6 (dk_at dksX13_goesOf_5 5 rfl rfl)
theorem dX13_goesOf_123 : decode cX13_goesOf 123 = .ok (.irem, 1) := dk_112 (dk_at dksX13_goesOf_5 7 rfl rfl)
theorem dX13_goesOf_124 : decode cX13_goesOf 124 = .ok (.ireturn, 1) := dk_172 (dk_at dksX13_goesOf_5 8 rfl rfl)
abbrev cX13_lotOf : ByteArray := prog_21_method_44_code
def yX13_lotOf : MethodName := ⟨RX13, "lotOf", "(III)I"⟩
def dkwX13_lotOf_0 : List UInt8 := [26, 16, 28, 184, 1, 94, 27, 184, 1, 94, 4, 124, 28, 112, 172]
abbrev dktX13_lotOf_0 : List UInt8 := dkwX13_lotOf_0 ++ []
theorem dksX13_lotOf_0 : cX13_lotOf.data.toList.drop 0 = dktX13_lotOf_0 := by decide +kernel
theorem dX13_lotOf_0 : decode cX13_lotOf 0 = .ok (.iload_n 0, 1) := dk_26 (dk_at dksX13_lotOf_0 0 rfl rfl)
theorem dX13_lotOf_1 : decode cX13_lotOf 1 = .ok (.bipush 28, 2) := dk_16 28 (dk_at dksX13_lotOf_0 1 rfl rfl)
theorem dX13_lotOf_3 : decode cX13_lotOf 3 = .ok (.invokestatic 350, 3) := dk_184 1 94 (dk_at dksX13_lotOf_0 3 rfl rfl)
theorem dX13_lotOf_6 : decode cX13_lotOf 6 = .ok (.iload_n 1, 1) := dk_27 (dk_at dksX13_lotOf_0 6 rfl rfl)
theorem dX13_lotOf_7 : decode cX13_lotOf 7 = .ok (.invokestatic 350, 3) := dk_184 1 94 (dk_at dksX13_lotOf_0 7 rfl rfl)
theorem dX13_lotOf_10 : decode cX13_lotOf 10 = .ok (.iconst 1, 1) := dk_4 (dk_at dksX13_lotOf_0 10 rfl rfl)
theorem dX13_lotOf_11 : decode cX13_lotOf 11 = .ok (.iushr, 1) := dk_124 (dk_at dksX13_lotOf_0 11 rfl rfl)
theorem dX13_lotOf_12 : decode cX13_lotOf 12 = .ok (.iload_n 2, 1) := dk_28 (dk_at dksX13_lotOf_0 12 rfl rfl)
theorem dX13_lotOf_13 : decode cX13_lotOf 13 = .ok (.irem, 1) := dk_112 (dk_at dksX13_lotOf_0 13 rfl rfl)
theorem dX13_lotOf_14 : decode cX13_lotOf 14 = .ok (.ireturn, 1) := dk_172 (dk_at dksX13_lotOf_0 14 rfl rfl)
abbrev cX13_mixed : ByteArray := prog_21_method_43_code
def yX13_mixed : MethodName := ⟨RX13, "mixed", "(II)I"⟩
def dkwX13_mixed_0 : List UInt8 := [26, 27, 130, 19, 1, 93, 104, 17, 48, 57, 96, 61, 28, 28, 16, 15, 124, 130, 172]
abbrev dktX13_mixed_0 : List UInt8 := dkwX13_mixed_0 ++ []
theorem dksX13_mixed_0 : cX13_mixed.data.toList.drop 0 = dktX13_mixed_0 := by decide +kernel
theorem dX13_mixed_0 : decode cX13_mixed 0 = .ok (.iload_n 0, 1) := dk_26 (dk_at dksX13_mixed_0 0 rfl rfl)
theorem dX13_mixed_1 : decode cX13_mixed 1 = .ok (.iload_n 1, 1) := dk_27 (dk_at dksX13_mixed_0 1 rfl rfl)
theorem dX13_mixed_2 : decode cX13_mixed 2 = .ok (.ixor, 1) := dk_130 (dk_at dksX13_mixed_0 2 rfl rfl)
theorem dX13_mixed_3 : decode cX13_mixed 3 = .ok (.ldc_w 349, 3) := dk_19 1 93 (dk_at dksX13_mixed_0 3 rfl rfl)
theorem dX13_mixed_6 : decode cX13_mixed 6 = .ok (.imul, 1) := dk_104 (dk_at dksX13_mixed_0 6 rfl rfl)
theorem dX13_mixed_7 : decode cX13_mixed 7 = .ok (.sipush 12345, 3) := dk_17 48 57 (dk_at dksX13_mixed_0 7 rfl rfl)
theorem dX13_mixed_10 : decode cX13_mixed 10 = .ok (.iadd, 1) := dk_96 (dk_at dksX13_mixed_0 10 rfl rfl)
theorem dX13_mixed_11 : decode cX13_mixed 11 = .ok (.istore_n 2, 1) := dk_61 (dk_at dksX13_mixed_0 11 rfl rfl)
theorem dX13_mixed_12 : decode cX13_mixed 12 = .ok (.iload_n 2, 1) := dk_28 (dk_at dksX13_mixed_0 12 rfl rfl)
theorem dX13_mixed_13 : decode cX13_mixed 13 = .ok (.iload_n 2, 1) := dk_28 (dk_at dksX13_mixed_0 13 rfl rfl)
theorem dX13_mixed_14 : decode cX13_mixed 14 = .ok (.bipush 15, 2) := dk_16 15 (dk_at dksX13_mixed_0 14 rfl rfl)
theorem dX13_mixed_16 : decode cX13_mixed 16 = .ok (.iushr, 1) := dk_124 (dk_at dksX13_mixed_0 16 rfl rfl)
theorem dX13_mixed_17 : decode cX13_mixed 17 = .ok (.ixor, 1) := dk_130 (dk_at dksX13_mixed_0 17 rfl rfl)
theorem dX13_mixed_18 : decode cX13_mixed 18 = .ok (.ireturn, 1) := dk_172 (dk_at dksX13_mixed_0 18 rfl rfl)
abbrev cX13_piece : ByteArray := prog_21_method_59_code
def yX13_piece : MethodName := ⟨RX13, "piece", "(III)I"⟩
def dkwX13_piece_4 : List UInt8 := [167, 0, 4, 3, 182, 1, 125, 172]
abbrev dktX13_piece_4 : List UInt8 := dkwX13_piece_4 ++ []
def dkwX13_piece_3 : List UInt8 := [17, 3, 102, 21, 4, 96, 46, 42, 180, 0, 131, 17, 1, 194, 21, 4, 96, 46, 29, 5, 160, 0, 7, 4]
abbrev dktX13_piece_3 : List UInt8 := dkwX13_piece_3 ++ dktX13_piece_4
def dkwX13_piece_2 : List UInt8 := [54, 4, 29, 154, 0, 16, 42, 180, 0, 131, 16, 30, 21, 4, 96, 46, 167, 0, 39, 42, 42, 180, 0, 131]
abbrev dktX13_piece_2 : List UInt8 := dkwX13_piece_2 ++ dktX13_piece_3
def dkwX13_piece_1 : List UInt8 := [153, 0, 12, 29, 3, 5, 184, 1, 89, 154, 0, 5, 2, 172, 42, 182, 1, 141, 16, 60, 27, 104, 28, 96]
abbrev dktX13_piece_1 : List UInt8 := dkwX13_piece_1 ++ dktX13_piece_2
def dkwX13_piece_0 : List UInt8 := [42, 27, 182, 1, 138, 153, 0, 31, 28, 3, 42, 180, 0, 128, 16, 14, 27, 96, 46, 4, 100, 184, 1, 89]
abbrev dktX13_piece_0 : List UInt8 := dkwX13_piece_0 ++ dktX13_piece_1
theorem dksX13_piece_0 : cX13_piece.data.toList.drop 0 = dktX13_piece_0 := by decide +kernel
theorem dksX13_piece_1 : cX13_piece.data.toList.drop 24 = dktX13_piece_1 := dk_seg dksX13_piece_0 24 rfl rfl
theorem dksX13_piece_2 : cX13_piece.data.toList.drop 48 = dktX13_piece_2 := dk_seg dksX13_piece_1 24 rfl rfl
theorem dksX13_piece_3 : cX13_piece.data.toList.drop 72 = dktX13_piece_3 := dk_seg dksX13_piece_2 24 rfl rfl
theorem dksX13_piece_4 : cX13_piece.data.toList.drop 96 = dktX13_piece_4 := dk_seg dksX13_piece_3 24 rfl rfl
theorem dX13_piece_0 : decode cX13_piece 0 = .ok (.aload_n 0, 1) := dk_42 (dk_at dksX13_piece_0 0 rfl rfl)
theorem dX13_piece_1 : decode cX13_piece 1 = .ok (.iload_n 1, 1) := dk_27 (dk_at dksX13_piece_0 1 rfl rfl)
theorem dX13_piece_2 : decode cX13_piece 2 = .ok (.invokevirtual 394, 3) := dk_182 1 138 (dk_at dksX13_piece_0 2 rfl rfl)
theorem dX13_piece_5 : decode cX13_piece 5 = .ok (.ifCond .eq 31, 3) := dk_153 0 31 (dk_at dksX13_piece_0 5 rfl rfl)
theorem dX13_piece_8 : decode cX13_piece 8 = .ok (.iload_n 2, 1) := dk_28 (dk_at dksX13_piece_0 8 rfl rfl)
theorem dX13_piece_9 : decode cX13_piece 9 = .ok (.iconst 0, 1) := dk_3 (dk_at dksX13_piece_0 9 rfl rfl)
theorem dX13_piece_10 : decode cX13_piece 10 = .ok (.aload_n 0, 1) := dk_42 (dk_at dksX13_piece_0 10 rfl rfl)
theorem dX13_piece_11 : decode cX13_piece 11 = .ok (.getfield 128, 3) := dk_180 0 128 (dk_at dksX13_piece_0 11 rfl rfl)
theorem dX13_piece_14 : decode cX13_piece 14 = .ok (.bipush 14, 2) := dk_16 14 (dk_at dksX13_piece_0 14 rfl rfl)
theorem dX13_piece_16 : decode cX13_piece 16 = .ok (.iload_n 1, 1) := dk_27 (dk_at dksX13_piece_0 16 rfl rfl)
theorem dX13_piece_17 : decode cX13_piece 17 = .ok (.iadd, 1) := dk_96 (dk_at dksX13_piece_0 17 rfl rfl)
theorem dX13_piece_18 : decode cX13_piece 18 = .ok (.iaload, 1) := dk_46 (dk_at dksX13_piece_0 18 rfl rfl)
theorem dX13_piece_19 : decode cX13_piece 19 = .ok (.iconst 1, 1) := dk_4 (dk_at dksX13_piece_0 19 rfl rfl)
theorem dX13_piece_20 : decode cX13_piece 20 = .ok (.isub, 1) := dk_100 (dk_at dksX13_piece_0 20 rfl rfl)
theorem dX13_piece_21 : decode cX13_piece 21 = .ok (.invokestatic 345, 3) := dk_184 1 89 (dk_at dksX13_piece_0 21 rfl rfl)
theorem dX13_piece_24 : decode cX13_piece 24 = .ok (.ifCond .eq 12, 3) := dk_153 0 12 (dk_at dksX13_piece_1 0 rfl rfl)
theorem dX13_piece_27 : decode cX13_piece 27 = .ok (.iload_n 3, 1) := dk_29 (dk_at dksX13_piece_1 3 rfl rfl)
theorem dX13_piece_28 : decode cX13_piece 28 = .ok (.iconst 0, 1) := dk_3 (dk_at dksX13_piece_1 4 rfl rfl)
theorem dX13_piece_29 : decode cX13_piece 29 = .ok (.iconst 2, 1) := dk_5 (dk_at dksX13_piece_1 5 rfl rfl)
theorem dX13_piece_30 : decode cX13_piece 30 = .ok (.invokestatic 345, 3) := dk_184 1 89 (dk_at dksX13_piece_1 6 rfl rfl)
theorem dX13_piece_33 : decode cX13_piece 33 = .ok (.ifCond .ne 5, 3) := dk_154 0 5 (dk_at dksX13_piece_1 9 rfl rfl)
theorem dX13_piece_36 : decode cX13_piece 36 = .ok (.iconst (-1), 1) := dk_2 (dk_at dksX13_piece_1 12 rfl rfl)
theorem dX13_piece_37 : decode cX13_piece 37 = .ok (.ireturn, 1) := dk_172 (dk_at dksX13_piece_1 13 rfl rfl)
theorem dX13_piece_38 : decode cX13_piece 38 = .ok (.aload_n 0, 1) := dk_42 (dk_at dksX13_piece_1 14 rfl rfl)
theorem dX13_piece_39 : decode cX13_piece 39 = .ok (.invokevirtual 397, 3) := dk_182 1 141 (dk_at dksX13_piece_1 15 rfl rfl)
theorem dX13_piece_42 : decode cX13_piece 42 = .ok (.bipush 60, 2) := dk_16 60 (dk_at dksX13_piece_1 18 rfl rfl)
theorem dX13_piece_44 : decode cX13_piece 44 = .ok (.iload_n 1, 1) := dk_27 (dk_at dksX13_piece_1 20 rfl rfl)
theorem dX13_piece_45 : decode cX13_piece 45 = .ok (.imul, 1) := dk_104 (dk_at dksX13_piece_1 21 rfl rfl)
theorem dX13_piece_46 : decode cX13_piece 46 = .ok (.iload_n 2, 1) := dk_28 (dk_at dksX13_piece_1 22 rfl rfl)
theorem dX13_piece_47 : decode cX13_piece 47 = .ok (.iadd, 1) := dk_96 (dk_at dksX13_piece_1 23 rfl rfl)
theorem dX13_piece_48 : decode cX13_piece 48 = .ok (.istore 4, 2) := dk_54 4 (dk_at dksX13_piece_2 0 rfl rfl)
theorem dX13_piece_50 : decode cX13_piece 50 = .ok (.iload_n 3, 1) := dk_29 (dk_at dksX13_piece_2 2 rfl rfl)
theorem dX13_piece_51 : decode cX13_piece 51 = .ok (.ifCond .ne 16, 3) := dk_154 0 16 (dk_at dksX13_piece_2 3 rfl rfl)
theorem dX13_piece_54 : decode cX13_piece 54 = .ok (.aload_n 0, 1) := dk_42 (dk_at dksX13_piece_2 6 rfl rfl)
theorem dX13_piece_55 : decode cX13_piece 55 = .ok (.getfield 131, 3) := dk_180 0 131 (dk_at dksX13_piece_2 7 rfl rfl)
theorem dX13_piece_58 : decode cX13_piece 58 = .ok (.bipush 30, 2) := dk_16 30 (dk_at dksX13_piece_2 10 rfl rfl)
theorem dX13_piece_60 : decode cX13_piece 60 = .ok (.iload 4, 2) := dk_21 4 (dk_at dksX13_piece_2 12 rfl rfl)
theorem dX13_piece_62 : decode cX13_piece 62 = .ok (.iadd, 1) := dk_96 (dk_at dksX13_piece_2 14 rfl rfl)
theorem dX13_piece_63 : decode cX13_piece 63 = .ok (.iaload, 1) := dk_46 (dk_at dksX13_piece_2 15 rfl rfl)
theorem dX13_piece_64 : decode cX13_piece 64 = .ok (.goto 39, 3) := dk_167 0 39 (dk_at dksX13_piece_2 16 rfl rfl)
theorem dX13_piece_67 : decode cX13_piece 67 = .ok (.aload_n 0, 1) := dk_42 (dk_at dksX13_piece_2 19 rfl rfl)
theorem dX13_piece_68 : decode cX13_piece 68 = .ok (.aload_n 0, 1) := dk_42 (dk_at dksX13_piece_2 20 rfl rfl)
theorem dX13_piece_69 : decode cX13_piece 69 = .ok (.getfield 131, 3) := dk_180 0 131 (dk_at dksX13_piece_2 21 rfl rfl)
theorem dX13_piece_72 : decode cX13_piece 72 = .ok (.sipush 870, 3) := dk_17 3 102 (dk_at dksX13_piece_3 0 rfl rfl)
theorem dX13_piece_75 : decode cX13_piece 75 = .ok (.iload 4, 2) := dk_21 4 (dk_at dksX13_piece_3 3 rfl rfl)
theorem dX13_piece_77 : decode cX13_piece 77 = .ok (.iadd, 1) := dk_96 (dk_at dksX13_piece_3 5 rfl rfl)
theorem dX13_piece_78 : decode cX13_piece 78 = .ok (.iaload, 1) := dk_46 (dk_at dksX13_piece_3 6 rfl rfl)
theorem dX13_piece_79 : decode cX13_piece 79 = .ok (.aload_n 0, 1) := dk_42 (dk_at dksX13_piece_3 7 rfl rfl)
theorem dX13_piece_80 : decode cX13_piece 80 = .ok (.getfield 131, 3) := dk_180 0 131 (dk_at dksX13_piece_3 8 rfl rfl)
theorem dX13_piece_83 : decode cX13_piece 83 = .ok (.sipush 450, 3) := dk_17 1 194 (dk_at dksX13_piece_3 11 rfl rfl)
theorem dX13_piece_86 : decode cX13_piece 86 = .ok (.iload 4, 2) := dk_21 4 (dk_at dksX13_piece_3 14 rfl rfl)
theorem dX13_piece_88 : decode cX13_piece 88 = .ok (.iadd, 1) := dk_96 (dk_at dksX13_piece_3 16 rfl rfl)
theorem dX13_piece_89 : decode cX13_piece 89 = .ok (.iaload, 1) := dk_46 (dk_at dksX13_piece_3 17 rfl rfl)
theorem dX13_piece_90 : decode cX13_piece 90 = .ok (.iload_n 3, 1) := dk_29 (dk_at dksX13_piece_3 18 rfl rfl)
theorem dX13_piece_91 : decode cX13_piece 91 = .ok (.iconst 2, 1) := dk_5 (dk_at dksX13_piece_3 19 rfl rfl)
theorem dX13_piece_92 : decode cX13_piece 92 = .ok (.if_icmp .ne 7, 3) := dk_160 0 7 (dk_at dksX13_piece_3 20 rfl rfl)
theorem dX13_piece_95 : decode cX13_piece 95 = .ok (.iconst 1, 1) := dk_4 (dk_at dksX13_piece_3 23 rfl rfl)
theorem dX13_piece_96 : decode cX13_piece 96 = .ok (.goto 4, 3) := dk_167 0 4 (dk_at dksX13_piece_4 0 rfl rfl)
theorem dX13_piece_99 : decode cX13_piece 99 = .ok (.iconst 0, 1) := dk_3 (dk_at dksX13_piece_4 3 rfl rfl)
theorem dX13_piece_100 : decode cX13_piece 100 = .ok (.invokevirtual 381, 3) := dk_182 1 125 (dk_at dksX13_piece_4 4 rfl rfl)
theorem dX13_piece_103 : decode cX13_piece 103 = .ok (.ireturn, 1) := dk_172 (dk_at dksX13_piece_4 7 rfl rfl)
abbrev cX13_others : ByteArray := prog_21_method_54_code
def yX13_others : MethodName := ⟨RX13, "others", "(IIZ)I"⟩
def dkwX13_others_5 : List UInt8 := [21, 4, 172]
abbrev dktX13_others_5 : List UInt8 := dkwX13_others_5 ++ []
def dkwX13_others_4 : List UInt8 := [21, 7, 96, 46, 28, 162, 0, 6, 132, 4, 1, 132, 6, 1, 167, 255, 173, 132, 5, 1, 167, 255, 150]
abbrev dktX13_others_4 : List UInt8 := dkwX13_others_4 ++ dktX13_others_5
def dkwX13_others_3 : List UInt8 := [180, 0, 131, 17, 1, 194, 21, 7, 96, 46, 28, 164, 0, 24, 167, 0, 18, 42, 180, 0, 131, 17, 1, 194]
abbrev dktX13_others_3 : List UInt8 := dkwX13_others_3 ++ dktX13_others_4
def dkwX13_others_2 : List UInt8 := [54, 7, 42, 180, 0, 131, 17, 3, 102, 21, 7, 96, 46, 27, 160, 0, 43, 29, 153, 0, 21, 42]
abbrev dktX13_others_2 : List UInt8 := dkwX13_others_2 ++ dktX13_others_3
def dkwX13_others_1 : List UInt8 := [21, 6, 42, 180, 0, 131, 16, 14, 21, 5, 96, 46, 162, 0, 74, 16, 60, 21, 5, 104, 21, 6, 96]
abbrev dktX13_others_1 : List UInt8 := dkwX13_others_1 ++ dktX13_others_2
def dkwX13_others_0 : List UInt8 := [3, 54, 4, 3, 54, 5, 21, 5, 42, 180, 0, 49, 42, 180, 1, 2, 46, 162, 0, 98, 3, 54, 6]
abbrev dktX13_others_0 : List UInt8 := dkwX13_others_0 ++ dktX13_others_1
theorem dksX13_others_0 : cX13_others.data.toList.drop 0 = dktX13_others_0 := by decide +kernel
theorem dksX13_others_1 : cX13_others.data.toList.drop 23 = dktX13_others_1 := dk_seg dksX13_others_0 23 rfl rfl
theorem dksX13_others_2 : cX13_others.data.toList.drop 46 = dktX13_others_2 := dk_seg dksX13_others_1 23 rfl rfl
theorem dksX13_others_3 : cX13_others.data.toList.drop 68 = dktX13_others_3 := dk_seg dksX13_others_2 22 rfl rfl
theorem dksX13_others_4 : cX13_others.data.toList.drop 92 = dktX13_others_4 := dk_seg dksX13_others_3 24 rfl rfl
theorem dksX13_others_5 : cX13_others.data.toList.drop 115 = dktX13_others_5 := dk_seg dksX13_others_4 23 rfl rfl
theorem dX13_others_0 : decode cX13_others 0 = .ok (.iconst 0, 1) := dk_3 (dk_at dksX13_others_0 0 rfl rfl)
theorem dX13_others_1 : decode cX13_others 1 = .ok (.istore 4, 2) := dk_54 4 (dk_at dksX13_others_0 1 rfl rfl)
theorem dX13_others_3 : decode cX13_others 3 = .ok (.iconst 0, 1) := dk_3 (dk_at dksX13_others_0 3 rfl rfl)
theorem dX13_others_4 : decode cX13_others 4 = .ok (.istore 5, 2) := dk_54 5 (dk_at dksX13_others_0 4 rfl rfl)
theorem dX13_others_6 : decode cX13_others 6 = .ok (.iload 5, 2) := dk_21 5 (dk_at dksX13_others_0 6 rfl rfl)
theorem dX13_others_8 : decode cX13_others 8 = .ok (.aload_n 0, 1) := dk_42 (dk_at dksX13_others_0 8 rfl rfl)
theorem dX13_others_9 : decode cX13_others 9 = .ok (.getfield 49, 3) := dk_180 0 49 (dk_at dksX13_others_0 9 rfl rfl)
theorem dX13_others_12 : decode cX13_others 12 = .ok (.aload_n 0, 1) := dk_42 (dk_at dksX13_others_0 12 rfl rfl)
theorem dX13_others_13 : decode cX13_others 13 = .ok (.getfield 258, 3) := dk_180 1 2 (dk_at dksX13_others_0 13 rfl rfl)
theorem dX13_others_16 : decode cX13_others 16 = .ok (.iaload, 1) := dk_46 (dk_at dksX13_others_0 16 rfl rfl)
theorem dX13_others_17 : decode cX13_others 17 = .ok (.if_icmp .ge 98, 3) := dk_162 0 98 (dk_at dksX13_others_0 17 rfl rfl)
theorem dX13_others_20 : decode cX13_others 20 = .ok (.iconst 0, 1) := dk_3 (dk_at dksX13_others_0 20 rfl rfl)
theorem dX13_others_21 : decode cX13_others 21 = .ok (.istore 6, 2) := dk_54 6 (dk_at dksX13_others_0 21 rfl rfl)
theorem dX13_others_23 : decode cX13_others 23 = .ok (.iload 6, 2) := dk_21 6 (dk_at dksX13_others_1 0 rfl rfl)
theorem dX13_others_25 : decode cX13_others 25 = .ok (.aload_n 0, 1) := dk_42 (dk_at dksX13_others_1 2 rfl rfl)
theorem dX13_others_26 : decode cX13_others 26 = .ok (.getfield 131, 3) := dk_180 0 131 (dk_at dksX13_others_1 3 rfl rfl)
theorem dX13_others_29 : decode cX13_others 29 = .ok (.bipush 14, 2) := dk_16 14 (dk_at dksX13_others_1 6 rfl rfl)
theorem dX13_others_31 : decode cX13_others 31 = .ok (.iload 5, 2) := dk_21 5 (dk_at dksX13_others_1 8 rfl rfl)
theorem dX13_others_33 : decode cX13_others 33 = .ok (.iadd, 1) := dk_96 (dk_at dksX13_others_1 10 rfl rfl)
theorem dX13_others_34 : decode cX13_others 34 = .ok (.iaload, 1) := dk_46 (dk_at dksX13_others_1 11 rfl rfl)
theorem dX13_others_35 : decode cX13_others 35 = .ok (.if_icmp .ge 74, 3) := dk_162 0 74 (dk_at dksX13_others_1 12 rfl rfl)
theorem dX13_others_38 : decode cX13_others 38 = .ok (.bipush 60, 2) := dk_16 60 (dk_at dksX13_others_1 15 rfl rfl)
theorem dX13_others_40 : decode cX13_others 40 = .ok (.iload 5, 2) := dk_21 5 (dk_at dksX13_others_1 17 rfl rfl)
theorem dX13_others_42 : decode cX13_others 42 = .ok (.imul, 1) := dk_104 (dk_at dksX13_others_1 19 rfl rfl)
theorem dX13_others_43 : decode cX13_others 43 = .ok (.iload 6, 2) := dk_21 6 (dk_at dksX13_others_1 20 rfl rfl)
theorem dX13_others_45 : decode cX13_others 45 = .ok (.iadd, 1) := dk_96 (dk_at dksX13_others_1 22 rfl rfl)
theorem dX13_others_46 : decode cX13_others 46 = .ok (.istore 7, 2) := dk_54 7 (dk_at dksX13_others_2 0 rfl rfl)
theorem dX13_others_48 : decode cX13_others 48 = .ok (.aload_n 0, 1) := dk_42 (dk_at dksX13_others_2 2 rfl rfl)
theorem dX13_others_49 : decode cX13_others 49 = .ok (.getfield 131, 3) := dk_180 0 131 (dk_at dksX13_others_2 3 rfl rfl)
theorem dX13_others_52 : decode cX13_others 52 = .ok (.sipush 870, 3) := dk_17 3 102 (dk_at dksX13_others_2 6 rfl rfl)
theorem dX13_others_55 : decode cX13_others 55 = .ok (.iload 7, 2) := dk_21 7 (dk_at dksX13_others_2 9 rfl rfl)
theorem dX13_others_57 : decode cX13_others 57 = .ok (.iadd, 1) := dk_96 (dk_at dksX13_others_2 11 rfl rfl)
theorem dX13_others_58 : decode cX13_others 58 = .ok (.iaload, 1) := dk_46 (dk_at dksX13_others_2 12 rfl rfl)
theorem dX13_others_59 : decode cX13_others 59 = .ok (.iload_n 1, 1) := dk_27 (dk_at dksX13_others_2 13 rfl rfl)
theorem dX13_others_60 : decode cX13_others 60 = .ok (.if_icmp .ne 43, 3) := dk_160 0 43 (dk_at dksX13_others_2 14 rfl rfl)
theorem dX13_others_63 : decode cX13_others 63 = .ok (.iload_n 3, 1) := dk_29 (dk_at dksX13_others_2 17 rfl rfl)
theorem dX13_others_64 : decode cX13_others 64 = .ok (.ifCond .eq 21, 3) := dk_153 0 21 (dk_at dksX13_others_2 18 rfl rfl)
theorem dX13_others_67 : decode cX13_others 67 = .ok (.aload_n 0, 1) := dk_42 (dk_at dksX13_others_2 21 rfl rfl)
theorem dX13_others_68 : decode cX13_others 68 = .ok (.getfield 131, 3) := dk_180 0 131 (dk_at dksX13_others_3 0 rfl rfl)
theorem dX13_others_71 : decode cX13_others 71 = .ok (.sipush 450, 3) := dk_17 1 194 (dk_at dksX13_others_3 3 rfl rfl)
theorem dX13_others_74 : decode cX13_others 74 = .ok (.iload 7, 2) := dk_21 7 (dk_at dksX13_others_3 6 rfl rfl)
theorem dX13_others_76 : decode cX13_others 76 = .ok (.iadd, 1) := dk_96 (dk_at dksX13_others_3 8 rfl rfl)
theorem dX13_others_77 : decode cX13_others 77 = .ok (.iaload, 1) := dk_46 (dk_at dksX13_others_3 9 rfl rfl)
theorem dX13_others_78 : decode cX13_others 78 = .ok (.iload_n 2, 1) := dk_28 (dk_at dksX13_others_3 10 rfl rfl)
theorem dX13_others_79 : decode cX13_others 79 = .ok (.if_icmp .le 24, 3) := dk_164 0 24 (dk_at dksX13_others_3 11 rfl rfl)
theorem dX13_others_82 : decode cX13_others 82 = .ok (.goto 18, 3) := dk_167 0 18 (dk_at dksX13_others_3 14 rfl rfl)
theorem dX13_others_85 : decode cX13_others 85 = .ok (.aload_n 0, 1) := dk_42 (dk_at dksX13_others_3 17 rfl rfl)
theorem dX13_others_86 : decode cX13_others 86 = .ok (.getfield 131, 3) := dk_180 0 131 (dk_at dksX13_others_3 18 rfl rfl)
theorem dX13_others_89 : decode cX13_others 89 = .ok (.sipush 450, 3) := dk_17 1 194 (dk_at dksX13_others_3 21 rfl rfl)
theorem dX13_others_92 : decode cX13_others 92 = .ok (.iload 7, 2) := dk_21 7 (dk_at dksX13_others_4 0 rfl rfl)
theorem dX13_others_94 : decode cX13_others 94 = .ok (.iadd, 1) := dk_96 (dk_at dksX13_others_4 2 rfl rfl)
theorem dX13_others_95 : decode cX13_others 95 = .ok (.iaload, 1) := dk_46 (dk_at dksX13_others_4 3 rfl rfl)
theorem dX13_others_96 : decode cX13_others 96 = .ok (.iload_n 2, 1) := dk_28 (dk_at dksX13_others_4 4 rfl rfl)
theorem dX13_others_97 : decode cX13_others 97 = .ok (.if_icmp .ge 6, 3) := dk_162 0 6 (dk_at dksX13_others_4 5 rfl rfl)
theorem dX13_others_100 : decode cX13_others 100 = .ok (.iinc 4 1, 3) := dk_132 4 1 (dk_at dksX13_others_4 8 rfl rfl)
theorem dX13_others_103 : decode cX13_others 103 = .ok (.iinc 6 1, 3) := dk_132 6 1 (dk_at dksX13_others_4 11 rfl rfl)
theorem dX13_others_106 : decode cX13_others 106 = .ok (.goto (-83), 3) := dk_167 255 173 (dk_at dksX13_others_4 14 rfl rfl)
theorem dX13_others_109 : decode cX13_others 109 = .ok (.iinc 5 1, 3) := dk_132 5 1 (dk_at dksX13_others_4 17 rfl rfl)
theorem dX13_others_112 : decode cX13_others 112 = .ok (.goto (-106), 3) := dk_167 255 150 (dk_at dksX13_others_4 20 rfl rfl)
theorem dX13_others_115 : decode cX13_others 115 = .ok (.iload 4, 2) := dk_21 4 (dk_at dksX13_others_5 0 rfl rfl)
theorem dX13_others_117 : decode cX13_others 117 = .ok (.ireturn, 1) := dk_172 (dk_at dksX13_others_5 2 rfl rfl)
abbrev cX13_step : ByteArray := prog_21_method_61_code
def yX13_step : MethodName := ⟨RX13, "step", "(II)Z"⟩
def dkwX13_step_1 : List UInt8 := [27, 28, 182, 1, 132, 154, 0, 5, 3, 172, 42, 182, 1, 148, 4, 172]
abbrev dktX13_step_1 : List UInt8 := dkwX13_step_1 ++ []
def dkwX13_step_0 : List UInt8 := [42, 27, 182, 1, 138, 153, 0, 12, 28, 4, 7, 184, 1, 89, 154, 0, 5, 3, 172, 42, 182, 1, 141, 42]
abbrev dktX13_step_0 : List UInt8 := dkwX13_step_0 ++ dktX13_step_1
theorem dksX13_step_0 : cX13_step.data.toList.drop 0 = dktX13_step_0 := by decide +kernel
theorem dksX13_step_1 : cX13_step.data.toList.drop 24 = dktX13_step_1 := dk_seg dksX13_step_0 24 rfl rfl
theorem dX13_step_0 : decode cX13_step 0 = .ok (.aload_n 0, 1) := dk_42 (dk_at dksX13_step_0 0 rfl rfl)
theorem dX13_step_1 : decode cX13_step 1 = .ok (.iload_n 1, 1) := dk_27 (dk_at dksX13_step_0 1 rfl rfl)
theorem dX13_step_2 : decode cX13_step 2 = .ok (.invokevirtual 394, 3) := dk_182 1 138 (dk_at dksX13_step_0 2 rfl rfl)
theorem dX13_step_5 : decode cX13_step 5 = .ok (.ifCond .eq 12, 3) := dk_153 0 12 (dk_at dksX13_step_0 5 rfl rfl)
theorem dX13_step_8 : decode cX13_step 8 = .ok (.iload_n 2, 1) := dk_28 (dk_at dksX13_step_0 8 rfl rfl)
theorem dX13_step_9 : decode cX13_step 9 = .ok (.iconst 1, 1) := dk_4 (dk_at dksX13_step_0 9 rfl rfl)
theorem dX13_step_10 : decode cX13_step 10 = .ok (.iconst 4, 1) := dk_7 (dk_at dksX13_step_0 10 rfl rfl)
theorem dX13_step_11 : decode cX13_step 11 = .ok (.invokestatic 345, 3) := dk_184 1 89 (dk_at dksX13_step_0 11 rfl rfl)
theorem dX13_step_14 : decode cX13_step 14 = .ok (.ifCond .ne 5, 3) := dk_154 0 5 (dk_at dksX13_step_0 14 rfl rfl)
theorem dX13_step_17 : decode cX13_step 17 = .ok (.iconst 0, 1) := dk_3 (dk_at dksX13_step_0 17 rfl rfl)
theorem dX13_step_18 : decode cX13_step 18 = .ok (.ireturn, 1) := dk_172 (dk_at dksX13_step_0 18 rfl rfl)
theorem dX13_step_19 : decode cX13_step 19 = .ok (.aload_n 0, 1) := dk_42 (dk_at dksX13_step_0 19 rfl rfl)
theorem dX13_step_20 : decode cX13_step 20 = .ok (.invokevirtual 397, 3) := dk_182 1 141 (dk_at dksX13_step_0 20 rfl rfl)
theorem dX13_step_23 : decode cX13_step 23 = .ok (.aload_n 0, 1) := dk_42 (dk_at dksX13_step_0 23 rfl rfl)
theorem dX13_step_24 : decode cX13_step 24 = .ok (.iload_n 1, 1) := dk_27 (dk_at dksX13_step_1 0 rfl rfl)
theorem dX13_step_25 : decode cX13_step 25 = .ok (.iload_n 2, 1) := dk_28 (dk_at dksX13_step_1 1 rfl rfl)
theorem dX13_step_26 : decode cX13_step 26 = .ok (.invokevirtual 388, 3) := dk_182 1 132 (dk_at dksX13_step_1 2 rfl rfl)
theorem dX13_step_29 : decode cX13_step 29 = .ok (.ifCond .ne 5, 3) := dk_154 0 5 (dk_at dksX13_step_1 5 rfl rfl)
theorem dX13_step_32 : decode cX13_step 32 = .ok (.iconst 0, 1) := dk_3 (dk_at dksX13_step_1 8 rfl rfl)
theorem dX13_step_33 : decode cX13_step 33 = .ok (.ireturn, 1) := dk_172 (dk_at dksX13_step_1 9 rfl rfl)
theorem dX13_step_34 : decode cX13_step 34 = .ok (.aload_n 0, 1) := dk_42 (dk_at dksX13_step_1 10 rfl rfl)
theorem dX13_step_35 : decode cX13_step 35 = .ok (.invokevirtual 404, 3) := dk_182 1 148 (dk_at dksX13_step_1 11 rfl rfl)
theorem dX13_step_38 : decode cX13_step 38 = .ok (.iconst 1, 1) := dk_4 (dk_at dksX13_step_1 14 rfl rfl)
theorem dX13_step_39 : decode cX13_step 39 = .ok (.ireturn, 1) := dk_172 (dk_at dksX13_step_1 15 rfl rfl)
abbrev cX13_steps : ByteArray := prog_21_method_53_code
def yX13_steps : MethodName := ⟨RX13, "steps", "(II)Z"⟩
def dkwX13_steps_7 : List UInt8 := [180, 0, 131, 27, 29, 79, 42, 180, 0, 131, 16, 7, 27, 96, 21, 4, 79, 4, 172]
abbrev dktX13_steps_7 : List UInt8 := dkwX13_steps_7 ++ []
def dkwX13_steps_6 : List UInt8 := [180, 0, 131, 16, 29, 92, 46, 4, 96, 79, 42, 180, 0, 131, 16, 14, 27, 96, 92, 46, 4, 96, 79, 42]
abbrev dktX13_steps_6 : List UInt8 := dkwX13_steps_6 ++ dktX13_steps_7
def dkwX13_steps_5 : List UInt8 := [21, 5, 96, 42, 180, 0, 131, 27, 46, 42, 180, 0, 131, 16, 7, 27, 96, 46, 28, 184, 1, 122, 79, 42]
abbrev dktX13_steps_5 : List UInt8 := dkwX13_steps_5 ++ dktX13_steps_6
def dkwX13_steps_4 : List UInt8 := [180, 0, 131, 17, 1, 194, 21, 5, 96, 42, 180, 0, 131, 16, 29, 46, 79, 42, 180, 0, 131, 17, 3, 102]
abbrev dktX13_steps_4 : List UInt8 := dkwX13_steps_4 ++ dktX13_steps_5
def dkwX13_steps_3 : List UInt8 := [180, 0, 131, 16, 14, 27, 96, 46, 96, 54, 5, 42, 180, 0, 131, 16, 30, 21, 5, 96, 28, 79, 42]
abbrev dktX13_steps_3 : List UInt8 := dkwX13_steps_3 ++ dktX13_steps_4
def dkwX13_steps_2 : List UInt8 := [182, 1, 118, 153, 0, 12, 42, 27, 182, 1, 106, 4, 162, 0, 5, 3, 172, 16, 60, 27, 104, 42]
abbrev dktX13_steps_2 : List UInt8 := dkwX13_steps_2 ++ dktX13_steps_3
def dkwX13_steps_1 : List UInt8 := [184, 1, 115, 96, 54, 4, 42, 180, 0, 131, 16, 21, 27, 96, 46, 4, 159, 0, 22, 42, 29, 21, 4]
abbrev dktX13_steps_1 : List UInt8 := dkwX13_steps_1 ++ dktX13_steps_2
def dkwX13_steps_0 : List UInt8 := [42, 180, 0, 131, 27, 46, 28, 184, 1, 112, 96, 62, 42, 180, 0, 131, 16, 7, 27, 96, 46, 28]
abbrev dktX13_steps_0 : List UInt8 := dkwX13_steps_0 ++ dktX13_steps_1
theorem dksX13_steps_0 : cX13_steps.data.toList.drop 0 = dktX13_steps_0 := by decide +kernel
theorem dksX13_steps_1 : cX13_steps.data.toList.drop 22 = dktX13_steps_1 := dk_seg dksX13_steps_0 22 rfl rfl
theorem dksX13_steps_2 : cX13_steps.data.toList.drop 45 = dktX13_steps_2 := dk_seg dksX13_steps_1 23 rfl rfl
theorem dksX13_steps_3 : cX13_steps.data.toList.drop 67 = dktX13_steps_3 := dk_seg dksX13_steps_2 22 rfl rfl
theorem dksX13_steps_4 : cX13_steps.data.toList.drop 90 = dktX13_steps_4 := dk_seg dksX13_steps_3 23 rfl rfl
theorem dksX13_steps_5 : cX13_steps.data.toList.drop 114 = dktX13_steps_5 := dk_seg dksX13_steps_4 24 rfl rfl
theorem dksX13_steps_6 : cX13_steps.data.toList.drop 138 = dktX13_steps_6 := dk_seg dksX13_steps_5 24 rfl rfl
theorem dksX13_steps_7 : cX13_steps.data.toList.drop 162 = dktX13_steps_7 := dk_seg dksX13_steps_6 24 rfl rfl
theorem dX13_steps_0 : decode cX13_steps 0 = .ok (.aload_n 0, 1) := dk_42 (dk_at dksX13_steps_0 0 rfl rfl)
theorem dX13_steps_1 : decode cX13_steps 1 = .ok (.getfield 131, 3) := dk_180 0 131 (dk_at dksX13_steps_0 1 rfl rfl)
theorem dX13_steps_4 : decode cX13_steps 4 = .ok (.iload_n 1, 1) := dk_27 (dk_at dksX13_steps_0 4 rfl rfl)
theorem dX13_steps_5 : decode cX13_steps 5 = .ok (.iaload, 1) := dk_46 (dk_at dksX13_steps_0 5 rfl rfl)
theorem dX13_steps_6 : decode cX13_steps 6 = .ok (.iload_n 2, 1) := dk_28 (dk_at dksX13_steps_0 6 rfl rfl)
theorem dX13_steps_7 : decode cX13_steps 7 = .ok (.invokestatic 368, 3) := dk_184 1 112 (dk_at dksX13_steps_0 7 rfl rfl)
theorem dX13_steps_10 : decode cX13_steps 10 = .ok (.iadd, 1) := dk_96 (dk_at dksX13_steps_0 10 rfl rfl)
theorem dX13_steps_11 : decode cX13_steps 11 = .ok (.istore_n 3, 1) := dk_62 (dk_at dksX13_steps_0 11 rfl rfl)
theorem dX13_steps_12 : decode cX13_steps 12 = .ok (.aload_n 0, 1) := dk_42 (dk_at dksX13_steps_0 12 rfl rfl)
theorem dX13_steps_13 : decode cX13_steps 13 = .ok (.getfield 131, 3) := dk_180 0 131 (dk_at dksX13_steps_0 13 rfl rfl)
theorem dX13_steps_16 : decode cX13_steps 16 = .ok (.bipush 7, 2) := dk_16 7 (dk_at dksX13_steps_0 16 rfl rfl)
theorem dX13_steps_18 : decode cX13_steps 18 = .ok (.iload_n 1, 1) := dk_27 (dk_at dksX13_steps_0 18 rfl rfl)
theorem dX13_steps_19 : decode cX13_steps 19 = .ok (.iadd, 1) := dk_96 (dk_at dksX13_steps_0 19 rfl rfl)
theorem dX13_steps_20 : decode cX13_steps 20 = .ok (.iaload, 1) := dk_46 (dk_at dksX13_steps_0 20 rfl rfl)
theorem dX13_steps_21 : decode cX13_steps 21 = .ok (.iload_n 2, 1) := dk_28 (dk_at dksX13_steps_0 21 rfl rfl)
theorem dX13_steps_22 : decode cX13_steps 22 = .ok (.invokestatic 371, 3) := dk_184 1 115 (dk_at dksX13_steps_1 0 rfl rfl)
theorem dX13_steps_25 : decode cX13_steps 25 = .ok (.iadd, 1) := dk_96 (dk_at dksX13_steps_1 3 rfl rfl)
theorem dX13_steps_26 : decode cX13_steps 26 = .ok (.istore 4, 2) := dk_54 4 (dk_at dksX13_steps_1 4 rfl rfl)
theorem dX13_steps_28 : decode cX13_steps 28 = .ok (.aload_n 0, 1) := dk_42 (dk_at dksX13_steps_1 6 rfl rfl)
theorem dX13_steps_29 : decode cX13_steps 29 = .ok (.getfield 131, 3) := dk_180 0 131 (dk_at dksX13_steps_1 7 rfl rfl)
theorem dX13_steps_32 : decode cX13_steps 32 = .ok (.bipush 21, 2) := dk_16 21 (dk_at dksX13_steps_1 10 rfl rfl)
theorem dX13_steps_34 : decode cX13_steps 34 = .ok (.iload_n 1, 1) := dk_27 (dk_at dksX13_steps_1 12 rfl rfl)
theorem dX13_steps_35 : decode cX13_steps 35 = .ok (.iadd, 1) := dk_96 (dk_at dksX13_steps_1 13 rfl rfl)
theorem dX13_steps_36 : decode cX13_steps 36 = .ok (.iaload, 1) := dk_46 (dk_at dksX13_steps_1 14 rfl rfl)
theorem dX13_steps_37 : decode cX13_steps 37 = .ok (.iconst 1, 1) := dk_4 (dk_at dksX13_steps_1 15 rfl rfl)
theorem dX13_steps_38 : decode cX13_steps 38 = .ok (.if_icmp .eq 22, 3) := dk_159 0 22 (dk_at dksX13_steps_1 16 rfl rfl)
theorem dX13_steps_41 : decode cX13_steps 41 = .ok (.aload_n 0, 1) := dk_42 (dk_at dksX13_steps_1 19 rfl rfl)
theorem dX13_steps_42 : decode cX13_steps 42 = .ok (.iload_n 3, 1) := dk_29 (dk_at dksX13_steps_1 20 rfl rfl)
theorem dX13_steps_43 : decode cX13_steps 43 = .ok (.iload 4, 2) := dk_21 4 (dk_at dksX13_steps_1 21 rfl rfl)
theorem dX13_steps_45 : decode cX13_steps 45 = .ok (.invokevirtual 374, 3) := dk_182 1 118 (dk_at dksX13_steps_2 0 rfl rfl)
theorem dX13_steps_48 : decode cX13_steps 48 = .ok (.ifCond .eq 12, 3) := dk_153 0 12 (dk_at dksX13_steps_2 3 rfl rfl)
theorem dX13_steps_51 : decode cX13_steps 51 = .ok (.aload_n 0, 1) := dk_42 (dk_at dksX13_steps_2 6 rfl rfl)
theorem dX13_steps_52 : decode cX13_steps 52 = .ok (.iload_n 1, 1) := dk_27 (dk_at dksX13_steps_2 7 rfl rfl)
theorem dX13_steps_53 : decode cX13_steps 53 = .ok (.invokevirtual 362, 3) := dk_182 1 106 (dk_at dksX13_steps_2 8 rfl rfl)
theorem dX13_steps_56 : decode cX13_steps 56 = .ok (.iconst 1, 1) := dk_4 (dk_at dksX13_steps_2 11 rfl rfl)
theorem dX13_steps_57 : decode cX13_steps 57 = .ok (.if_icmp .ge 5, 3) := dk_162 0 5 (dk_at dksX13_steps_2 12 rfl rfl)
theorem dX13_steps_60 : decode cX13_steps 60 = .ok (.iconst 0, 1) := dk_3 (dk_at dksX13_steps_2 15 rfl rfl)
theorem dX13_steps_61 : decode cX13_steps 61 = .ok (.ireturn, 1) := dk_172 (dk_at dksX13_steps_2 16 rfl rfl)
theorem dX13_steps_62 : decode cX13_steps 62 = .ok (.bipush 60, 2) := dk_16 60 (dk_at dksX13_steps_2 17 rfl rfl)
theorem dX13_steps_64 : decode cX13_steps 64 = .ok (.iload_n 1, 1) := dk_27 (dk_at dksX13_steps_2 19 rfl rfl)
theorem dX13_steps_65 : decode cX13_steps 65 = .ok (.imul, 1) := dk_104 (dk_at dksX13_steps_2 20 rfl rfl)
theorem dX13_steps_66 : decode cX13_steps 66 = .ok (.aload_n 0, 1) := dk_42 (dk_at dksX13_steps_2 21 rfl rfl)
theorem dX13_steps_67 : decode cX13_steps 67 = .ok (.getfield 131, 3) := dk_180 0 131 (dk_at dksX13_steps_3 0 rfl rfl)
theorem dX13_steps_70 : decode cX13_steps 70 = .ok (.bipush 14, 2) := dk_16 14 (dk_at dksX13_steps_3 3 rfl rfl)
theorem dX13_steps_72 : decode cX13_steps 72 = .ok (.iload_n 1, 1) := dk_27 (dk_at dksX13_steps_3 5 rfl rfl)
theorem dX13_steps_73 : decode cX13_steps 73 = .ok (.iadd, 1) := dk_96 (dk_at dksX13_steps_3 6 rfl rfl)
theorem dX13_steps_74 : decode cX13_steps 74 = .ok (.iaload, 1) := dk_46 (dk_at dksX13_steps_3 7 rfl rfl)
theorem dX13_steps_75 : decode cX13_steps 75 = .ok (.iadd, 1) := dk_96 (dk_at dksX13_steps_3 8 rfl rfl)
theorem dX13_steps_76 : decode cX13_steps 76 = .ok (.istore 5, 2) := dk_54 5 (dk_at dksX13_steps_3 9 rfl rfl)
theorem dX13_steps_78 : decode cX13_steps 78 = .ok (.aload_n 0, 1) := dk_42 (dk_at dksX13_steps_3 11 rfl rfl)
theorem dX13_steps_79 : decode cX13_steps 79 = .ok (.getfield 131, 3) := dk_180 0 131 (dk_at dksX13_steps_3 12 rfl rfl)
theorem dX13_steps_82 : decode cX13_steps 82 = .ok (.bipush 30, 2) := dk_16 30 (dk_at dksX13_steps_3 15 rfl rfl)
theorem dX13_steps_84 : decode cX13_steps 84 = .ok (.iload 5, 2) := dk_21 5 (dk_at dksX13_steps_3 17 rfl rfl)
theorem dX13_steps_86 : decode cX13_steps 86 = .ok (.iadd, 1) := dk_96 (dk_at dksX13_steps_3 19 rfl rfl)
theorem dX13_steps_87 : decode cX13_steps 87 = .ok (.iload_n 2, 1) := dk_28 (dk_at dksX13_steps_3 20 rfl rfl)
theorem dX13_steps_88 : decode cX13_steps 88 = .ok (.iastore, 1) := dk_79 (dk_at dksX13_steps_3 21 rfl rfl)
theorem dX13_steps_89 : decode cX13_steps 89 = .ok (.aload_n 0, 1) := dk_42 (dk_at dksX13_steps_3 22 rfl rfl)
theorem dX13_steps_90 : decode cX13_steps 90 = .ok (.getfield 131, 3) := dk_180 0 131 (dk_at dksX13_steps_4 0 rfl rfl)
theorem dX13_steps_93 : decode cX13_steps 93 = .ok (.sipush 450, 3) := dk_17 1 194 (dk_at dksX13_steps_4 3 rfl rfl)
theorem dX13_steps_96 : decode cX13_steps 96 = .ok (.iload 5, 2) := dk_21 5 (dk_at dksX13_steps_4 6 rfl rfl)
theorem dX13_steps_98 : decode cX13_steps 98 = .ok (.iadd, 1) := dk_96 (dk_at dksX13_steps_4 8 rfl rfl)
theorem dX13_steps_99 : decode cX13_steps 99 = .ok (.aload_n 0, 1) := dk_42 (dk_at dksX13_steps_4 9 rfl rfl)
theorem dX13_steps_100 : decode cX13_steps 100 = .ok (.getfield 131, 3) := dk_180 0 131 (dk_at dksX13_steps_4 10 rfl rfl)
theorem dX13_steps_103 : decode cX13_steps 103 = .ok (.bipush 29, 2) := dk_16 29 (dk_at dksX13_steps_4 13 rfl rfl)
theorem dX13_steps_105 : decode cX13_steps 105 = .ok (.iaload, 1) := dk_46 (dk_at dksX13_steps_4 15 rfl rfl)
theorem dX13_steps_106 : decode cX13_steps 106 = .ok (.iastore, 1) := dk_79 (dk_at dksX13_steps_4 16 rfl rfl)
theorem dX13_steps_107 : decode cX13_steps 107 = .ok (.aload_n 0, 1) := dk_42 (dk_at dksX13_steps_4 17 rfl rfl)
theorem dX13_steps_108 : decode cX13_steps 108 = .ok (.getfield 131, 3) := dk_180 0 131 (dk_at dksX13_steps_4 18 rfl rfl)
theorem dX13_steps_111 : decode cX13_steps 111 = .ok (.sipush 870, 3) := dk_17 3 102 (dk_at dksX13_steps_4 21 rfl rfl)
theorem dX13_steps_114 : decode cX13_steps 114 = .ok (.iload 5, 2) := dk_21 5 (dk_at dksX13_steps_5 0 rfl rfl)
theorem dX13_steps_116 : decode cX13_steps 116 = .ok (.iadd, 1) := dk_96 (dk_at dksX13_steps_5 2 rfl rfl)
theorem dX13_steps_117 : decode cX13_steps 117 = .ok (.aload_n 0, 1) := dk_42 (dk_at dksX13_steps_5 3 rfl rfl)
theorem dX13_steps_118 : decode cX13_steps 118 = .ok (.getfield 131, 3) := dk_180 0 131 (dk_at dksX13_steps_5 4 rfl rfl)
theorem dX13_steps_121 : decode cX13_steps 121 = .ok (.iload_n 1, 1) := dk_27 (dk_at dksX13_steps_5 7 rfl rfl)
theorem dX13_steps_122 : decode cX13_steps 122 = .ok (.iaload, 1) := dk_46 (dk_at dksX13_steps_5 8 rfl rfl)
theorem dX13_steps_123 : decode cX13_steps 123 = .ok (.aload_n 0, 1) := dk_42 (dk_at dksX13_steps_5 9 rfl rfl)
theorem dX13_steps_124 : decode cX13_steps 124 = .ok (.getfield 131, 3) := dk_180 0 131 (dk_at dksX13_steps_5 10 rfl rfl)
theorem dX13_steps_127 : decode cX13_steps 127 = .ok (.bipush 7, 2) := dk_16 7 (dk_at dksX13_steps_5 13 rfl rfl)
theorem dX13_steps_129 : decode cX13_steps 129 = .ok (.iload_n 1, 1) := dk_27 (dk_at dksX13_steps_5 15 rfl rfl)
theorem dX13_steps_130 : decode cX13_steps 130 = .ok (.iadd, 1) := dk_96 (dk_at dksX13_steps_5 16 rfl rfl)
theorem dX13_steps_131 : decode cX13_steps 131 = .ok (.iaload, 1) := dk_46 (dk_at dksX13_steps_5 17 rfl rfl)
theorem dX13_steps_132 : decode cX13_steps 132 = .ok (.iload_n 2, 1) := dk_28 (dk_at dksX13_steps_5 18 rfl rfl)
theorem dX13_steps_133 : decode cX13_steps 133 = .ok (.invokestatic 378, 3) := dk_184 1 122 (dk_at dksX13_steps_5 19 rfl rfl)
theorem dX13_steps_136 : decode cX13_steps 136 = .ok (.iastore, 1) := dk_79 (dk_at dksX13_steps_5 22 rfl rfl)
theorem dX13_steps_137 : decode cX13_steps 137 = .ok (.aload_n 0, 1) := dk_42 (dk_at dksX13_steps_5 23 rfl rfl)
theorem dX13_steps_138 : decode cX13_steps 138 = .ok (.getfield 131, 3) := dk_180 0 131 (dk_at dksX13_steps_6 0 rfl rfl)
theorem dX13_steps_141 : decode cX13_steps 141 = .ok (.bipush 29, 2) := dk_16 29 (dk_at dksX13_steps_6 3 rfl rfl)
theorem dX13_steps_143 : decode cX13_steps 143 = .ok (.dup2, 1) := dk_92 (dk_at dksX13_steps_6 5 rfl rfl)
theorem dX13_steps_144 : decode cX13_steps 144 = .ok (.iaload, 1) := dk_46 (dk_at dksX13_steps_6 6 rfl rfl)
theorem dX13_steps_145 : decode cX13_steps 145 = .ok (.iconst 1, 1) := dk_4 (dk_at dksX13_steps_6 7 rfl rfl)
theorem dX13_steps_146 : decode cX13_steps 146 = .ok (.iadd, 1) := dk_96 (dk_at dksX13_steps_6 8 rfl rfl)
theorem dX13_steps_147 : decode cX13_steps 147 = .ok (.iastore, 1) := dk_79 (dk_at dksX13_steps_6 9 rfl rfl)
theorem dX13_steps_148 : decode cX13_steps 148 = .ok (.aload_n 0, 1) := dk_42 (dk_at dksX13_steps_6 10 rfl rfl)
theorem dX13_steps_149 : decode cX13_steps 149 = .ok (.getfield 131, 3) := dk_180 0 131 (dk_at dksX13_steps_6 11 rfl rfl)
theorem dX13_steps_152 : decode cX13_steps 152 = .ok (.bipush 14, 2) := dk_16 14 (dk_at dksX13_steps_6 14 rfl rfl)
theorem dX13_steps_154 : decode cX13_steps 154 = .ok (.iload_n 1, 1) := dk_27 (dk_at dksX13_steps_6 16 rfl rfl)
theorem dX13_steps_155 : decode cX13_steps 155 = .ok (.iadd, 1) := dk_96 (dk_at dksX13_steps_6 17 rfl rfl)
theorem dX13_steps_156 : decode cX13_steps 156 = .ok (.dup2, 1) := dk_92 (dk_at dksX13_steps_6 18 rfl rfl)
theorem dX13_steps_157 : decode cX13_steps 157 = .ok (.iaload, 1) := dk_46 (dk_at dksX13_steps_6 19 rfl rfl)
theorem dX13_steps_158 : decode cX13_steps 158 = .ok (.iconst 1, 1) := dk_4 (dk_at dksX13_steps_6 20 rfl rfl)
theorem dX13_steps_159 : decode cX13_steps 159 = .ok (.iadd, 1) := dk_96 (dk_at dksX13_steps_6 21 rfl rfl)
theorem dX13_steps_160 : decode cX13_steps 160 = .ok (.iastore, 1) := dk_79 (dk_at dksX13_steps_6 22 rfl rfl)
theorem dX13_steps_161 : decode cX13_steps 161 = .ok (.aload_n 0, 1) := dk_42 (dk_at dksX13_steps_6 23 rfl rfl)
theorem dX13_steps_162 : decode cX13_steps 162 = .ok (.getfield 131, 3) := dk_180 0 131 (dk_at dksX13_steps_7 0 rfl rfl)
theorem dX13_steps_165 : decode cX13_steps 165 = .ok (.iload_n 1, 1) := dk_27 (dk_at dksX13_steps_7 3 rfl rfl)
theorem dX13_steps_166 : decode cX13_steps 166 = .ok (.iload_n 3, 1) := dk_29 (dk_at dksX13_steps_7 4 rfl rfl)
theorem dX13_steps_167 : decode cX13_steps 167 = .ok (.iastore, 1) := dk_79 (dk_at dksX13_steps_7 5 rfl rfl)
theorem dX13_steps_168 : decode cX13_steps 168 = .ok (.aload_n 0, 1) := dk_42 (dk_at dksX13_steps_7 6 rfl rfl)
theorem dX13_steps_169 : decode cX13_steps 169 = .ok (.getfield 131, 3) := dk_180 0 131 (dk_at dksX13_steps_7 7 rfl rfl)
theorem dX13_steps_172 : decode cX13_steps 172 = .ok (.bipush 7, 2) := dk_16 7 (dk_at dksX13_steps_7 10 rfl rfl)
theorem dX13_steps_174 : decode cX13_steps 174 = .ok (.iload_n 1, 1) := dk_27 (dk_at dksX13_steps_7 12 rfl rfl)
theorem dX13_steps_175 : decode cX13_steps 175 = .ok (.iadd, 1) := dk_96 (dk_at dksX13_steps_7 13 rfl rfl)
theorem dX13_steps_176 : decode cX13_steps 176 = .ok (.iload 4, 2) := dk_21 4 (dk_at dksX13_steps_7 14 rfl rfl)
theorem dX13_steps_178 : decode cX13_steps 178 = .ok (.iastore, 1) := dk_79 (dk_at dksX13_steps_7 16 rfl rfl)
theorem dX13_steps_179 : decode cX13_steps 179 = .ok (.iconst 1, 1) := dk_4 (dk_at dksX13_steps_7 17 rfl rfl)
theorem dX13_steps_180 : decode cX13_steps 180 = .ok (.ireturn, 1) := dk_172 (dk_at dksX13_steps_7 18 rfl rfl)
abbrev cX13_dx : ByteArray := prog_21_method_49_code
def yX13_dx : MethodName := ⟨RX13, "dx", "(I)I"⟩
def dkwX13_dx_0 : List UInt8 := [26, 5, 160, 0, 7, 4, 167, 0, 13, 26, 7, 160, 0, 7, 2, 167, 0, 4, 3, 172]
abbrev dktX13_dx_0 : List UInt8 := dkwX13_dx_0 ++ []
theorem dksX13_dx_0 : cX13_dx.data.toList.drop 0 = dktX13_dx_0 := by decide +kernel
theorem dX13_dx_0 : decode cX13_dx 0 = .ok (.iload_n 0, 1) := dk_26 (dk_at dksX13_dx_0 0 rfl rfl)
theorem dX13_dx_1 : decode cX13_dx 1 = .ok (.iconst 2, 1) := dk_5 (dk_at dksX13_dx_0 1 rfl rfl)
theorem dX13_dx_2 : decode cX13_dx 2 = .ok (.if_icmp .ne 7, 3) := dk_160 0 7 (dk_at dksX13_dx_0 2 rfl rfl)
theorem dX13_dx_5 : decode cX13_dx 5 = .ok (.iconst 1, 1) := dk_4 (dk_at dksX13_dx_0 5 rfl rfl)
theorem dX13_dx_6 : decode cX13_dx 6 = .ok (.goto 13, 3) := dk_167 0 13 (dk_at dksX13_dx_0 6 rfl rfl)
theorem dX13_dx_9 : decode cX13_dx 9 = .ok (.iload_n 0, 1) := dk_26 (dk_at dksX13_dx_0 9 rfl rfl)
theorem dX13_dx_10 : decode cX13_dx 10 = .ok (.iconst 4, 1) := dk_7 (dk_at dksX13_dx_0 10 rfl rfl)
theorem dX13_dx_11 : decode cX13_dx 11 = .ok (.if_icmp .ne 7, 3) := dk_160 0 7 (dk_at dksX13_dx_0 11 rfl rfl)
theorem dX13_dx_14 : decode cX13_dx 14 = .ok (.iconst (-1), 1) := dk_2 (dk_at dksX13_dx_0 14 rfl rfl)
theorem dX13_dx_15 : decode cX13_dx 15 = .ok (.goto 4, 3) := dk_167 0 4 (dk_at dksX13_dx_0 15 rfl rfl)
theorem dX13_dx_18 : decode cX13_dx 18 = .ok (.iconst 0, 1) := dk_3 (dk_at dksX13_dx_0 18 rfl rfl)
theorem dX13_dx_19 : decode cX13_dx 19 = .ok (.ireturn, 1) := dk_172 (dk_at dksX13_dx_0 19 rfl rfl)
abbrev cX13_dy : ByteArray := prog_21_method_50_code
def yX13_dy : MethodName := ⟨RX13, "dy", "(I)I"⟩
def dkwX13_dy_0 : List UInt8 := [26, 4, 160, 0, 7, 4, 167, 0, 13, 26, 6, 160, 0, 7, 2, 167, 0, 4, 3, 172]
abbrev dktX13_dy_0 : List UInt8 := dkwX13_dy_0 ++ []
theorem dksX13_dy_0 : cX13_dy.data.toList.drop 0 = dktX13_dy_0 := by decide +kernel
theorem dX13_dy_0 : decode cX13_dy 0 = .ok (.iload_n 0, 1) := dk_26 (dk_at dksX13_dy_0 0 rfl rfl)
theorem dX13_dy_1 : decode cX13_dy 1 = .ok (.iconst 1, 1) := dk_4 (dk_at dksX13_dy_0 1 rfl rfl)
theorem dX13_dy_2 : decode cX13_dy 2 = .ok (.if_icmp .ne 7, 3) := dk_160 0 7 (dk_at dksX13_dy_0 2 rfl rfl)
theorem dX13_dy_5 : decode cX13_dy 5 = .ok (.iconst 1, 1) := dk_4 (dk_at dksX13_dy_0 5 rfl rfl)
theorem dX13_dy_6 : decode cX13_dy 6 = .ok (.goto 13, 3) := dk_167 0 13 (dk_at dksX13_dy_0 6 rfl rfl)
theorem dX13_dy_9 : decode cX13_dy 9 = .ok (.iload_n 0, 1) := dk_26 (dk_at dksX13_dy_0 9 rfl rfl)
theorem dX13_dy_10 : decode cX13_dy 10 = .ok (.iconst 3, 1) := dk_6 (dk_at dksX13_dy_0 10 rfl rfl)
theorem dX13_dy_11 : decode cX13_dy 11 = .ok (.if_icmp .ne 7, 3) := dk_160 0 7 (dk_at dksX13_dy_0 11 rfl rfl)
theorem dX13_dy_14 : decode cX13_dy 14 = .ok (.iconst (-1), 1) := dk_2 (dk_at dksX13_dy_0 14 rfl rfl)
theorem dX13_dy_15 : decode cX13_dy 15 = .ok (.goto 4, 3) := dk_167 0 4 (dk_at dksX13_dy_0 15 rfl rfl)
theorem dX13_dy_18 : decode cX13_dy 18 = .ok (.iconst 0, 1) := dk_3 (dk_at dksX13_dy_0 18 rfl rfl)
theorem dX13_dy_19 : decode cX13_dy 19 = .ok (.ireturn, 1) := dk_172 (dk_at dksX13_dy_0 19 rfl rfl)
abbrev cX13_isCorner : ByteArray := prog_21_method_51_code
def yX13_isCorner : MethodName := ⟨RX13, "isCorner", "(II)Z"⟩
def dkwX13_isCorner_1 : List UInt8 := [180, 0, 46, 42, 180, 1, 2, 46, 4, 100, 184, 1, 89, 153, 0, 7, 4, 167, 0, 4, 3, 172]
abbrev dktX13_isCorner_1 : List UInt8 := dkwX13_isCorner_1 ++ []
def dkwX13_isCorner_0 : List UInt8 := [27, 3, 42, 180, 0, 43, 42, 180, 1, 2, 46, 4, 100, 184, 1, 89, 153, 0, 26, 28, 3, 42]
abbrev dktX13_isCorner_0 : List UInt8 := dkwX13_isCorner_0 ++ dktX13_isCorner_1
theorem dksX13_isCorner_0 : cX13_isCorner.data.toList.drop 0 = dktX13_isCorner_0 := by decide +kernel
theorem dksX13_isCorner_1 : cX13_isCorner.data.toList.drop 22 = dktX13_isCorner_1 := dk_seg dksX13_isCorner_0 22 rfl rfl
theorem dX13_isCorner_0 : decode cX13_isCorner 0 = .ok (.iload_n 1, 1) := dk_27 (dk_at dksX13_isCorner_0 0 rfl rfl)
theorem dX13_isCorner_1 : decode cX13_isCorner 1 = .ok (.iconst 0, 1) := dk_3 (dk_at dksX13_isCorner_0 1 rfl rfl)
theorem dX13_isCorner_2 : decode cX13_isCorner 2 = .ok (.aload_n 0, 1) := dk_42 (dk_at dksX13_isCorner_0 2 rfl rfl)
theorem dX13_isCorner_3 : decode cX13_isCorner 3 = .ok (.getfield 43, 3) := dk_180 0 43 (dk_at dksX13_isCorner_0 3 rfl rfl)
theorem dX13_isCorner_6 : decode cX13_isCorner 6 = .ok (.aload_n 0, 1) := dk_42 (dk_at dksX13_isCorner_0 6 rfl rfl)
theorem dX13_isCorner_7 : decode cX13_isCorner 7 = .ok (.getfield 258, 3) := dk_180 1 2 (dk_at dksX13_isCorner_0 7 rfl rfl)
theorem dX13_isCorner_10 : decode cX13_isCorner 10 = .ok (.iaload, 1) := dk_46 (dk_at dksX13_isCorner_0 10 rfl rfl)
theorem dX13_isCorner_11 : decode cX13_isCorner 11 = .ok (.iconst 1, 1) := dk_4 (dk_at dksX13_isCorner_0 11 rfl rfl)
theorem dX13_isCorner_12 : decode cX13_isCorner 12 = .ok (.isub, 1) := dk_100 (dk_at dksX13_isCorner_0 12 rfl rfl)
theorem dX13_isCorner_13 : decode cX13_isCorner 13 = .ok (.invokestatic 345, 3) := dk_184 1 89 (dk_at dksX13_isCorner_0 13 rfl rfl)
theorem dX13_isCorner_16 : decode cX13_isCorner 16 = .ok (.ifCond .eq 26, 3) := dk_153 0 26 (dk_at dksX13_isCorner_0 16 rfl rfl)
theorem dX13_isCorner_19 : decode cX13_isCorner 19 = .ok (.iload_n 2, 1) := dk_28 (dk_at dksX13_isCorner_0 19 rfl rfl)
theorem dX13_isCorner_20 : decode cX13_isCorner 20 = .ok (.iconst 0, 1) := dk_3 (dk_at dksX13_isCorner_0 20 rfl rfl)
theorem dX13_isCorner_21 : decode cX13_isCorner 21 = .ok (.aload_n 0, 1) := dk_42 (dk_at dksX13_isCorner_0 21 rfl rfl)
theorem dX13_isCorner_22 : decode cX13_isCorner 22 = .ok (.getfield 46, 3) := dk_180 0 46 (dk_at dksX13_isCorner_1 0 rfl rfl)
theorem dX13_isCorner_25 : decode cX13_isCorner 25 = .ok (.aload_n 0, 1) := dk_42 (dk_at dksX13_isCorner_1 3 rfl rfl)
theorem dX13_isCorner_26 : decode cX13_isCorner 26 = .ok (.getfield 258, 3) := dk_180 1 2 (dk_at dksX13_isCorner_1 4 rfl rfl)
theorem dX13_isCorner_29 : decode cX13_isCorner 29 = .ok (.iaload, 1) := dk_46 (dk_at dksX13_isCorner_1 7 rfl rfl)
theorem dX13_isCorner_30 : decode cX13_isCorner 30 = .ok (.iconst 1, 1) := dk_4 (dk_at dksX13_isCorner_1 8 rfl rfl)
theorem dX13_isCorner_31 : decode cX13_isCorner 31 = .ok (.isub, 1) := dk_100 (dk_at dksX13_isCorner_1 9 rfl rfl)
theorem dX13_isCorner_32 : decode cX13_isCorner 32 = .ok (.invokestatic 345, 3) := dk_184 1 89 (dk_at dksX13_isCorner_1 10 rfl rfl)
theorem dX13_isCorner_35 : decode cX13_isCorner 35 = .ok (.ifCond .eq 7, 3) := dk_153 0 7 (dk_at dksX13_isCorner_1 13 rfl rfl)
theorem dX13_isCorner_38 : decode cX13_isCorner 38 = .ok (.iconst 1, 1) := dk_4 (dk_at dksX13_isCorner_1 16 rfl rfl)
theorem dX13_isCorner_39 : decode cX13_isCorner 39 = .ok (.goto 4, 3) := dk_167 0 4 (dk_at dksX13_isCorner_1 17 rfl rfl)
theorem dX13_isCorner_42 : decode cX13_isCorner 42 = .ok (.iconst 0, 1) := dk_3 (dk_at dksX13_isCorner_1 20 rfl rfl)
theorem dX13_isCorner_43 : decode cX13_isCorner 43 = .ok (.ireturn, 1) := dk_172 (dk_at dksX13_isCorner_1 21 rfl rfl)
abbrev cX13_streetOf : ByteArray := prog_21_method_52_code
def yX13_streetOf : MethodName := ⟨RX13, "streetOf", "(III)I"⟩
def dkwX13_streetOf_2 : List UInt8 := [167, 0, 4, 3, 96, 172]
abbrev dktX13_streetOf_2 : List UInt8 := dkwX13_streetOf_2 ++ []
def dkwX13_streetOf_1 : List UInt8 := [27, 54, 4, 16, 12, 21, 4, 104, 29, 96, 28, 4, 159, 0, 8, 28, 6, 160, 0, 9, 17, 0, 144]
abbrev dktX13_streetOf_1 : List UInt8 := dkwX13_streetOf_1 ++ dktX13_streetOf_2
def dkwX13_streetOf_0 : List UInt8 := [28, 7, 160, 0, 9, 26, 4, 100, 167, 0, 4, 26, 62, 28, 6, 160, 0, 9, 27, 4, 100, 167, 0, 4]
abbrev dktX13_streetOf_0 : List UInt8 := dkwX13_streetOf_0 ++ dktX13_streetOf_1
theorem dksX13_streetOf_0 : cX13_streetOf.data.toList.drop 0 = dktX13_streetOf_0 := by decide +kernel
theorem dksX13_streetOf_1 : cX13_streetOf.data.toList.drop 24 = dktX13_streetOf_1 := dk_seg dksX13_streetOf_0 24 rfl rfl
theorem dksX13_streetOf_2 : cX13_streetOf.data.toList.drop 47 = dktX13_streetOf_2 := dk_seg dksX13_streetOf_1 23 rfl rfl
theorem dX13_streetOf_0 : decode cX13_streetOf 0 = .ok (.iload_n 2, 1) := dk_28 (dk_at dksX13_streetOf_0 0 rfl rfl)
theorem dX13_streetOf_1 : decode cX13_streetOf 1 = .ok (.iconst 4, 1) := dk_7 (dk_at dksX13_streetOf_0 1 rfl rfl)
theorem dX13_streetOf_2 : decode cX13_streetOf 2 = .ok (.if_icmp .ne 9, 3) := dk_160 0 9 (dk_at dksX13_streetOf_0 2 rfl rfl)
theorem dX13_streetOf_5 : decode cX13_streetOf 5 = .ok (.iload_n 0, 1) := dk_26 (dk_at dksX13_streetOf_0 5 rfl rfl)
theorem dX13_streetOf_6 : decode cX13_streetOf 6 = .ok (.iconst 1, 1) := dk_4 (dk_at dksX13_streetOf_0 6 rfl rfl)
theorem dX13_streetOf_7 : decode cX13_streetOf 7 = .ok (.isub, 1) := dk_100 (dk_at dksX13_streetOf_0 7 rfl rfl)
theorem dX13_streetOf_8 : decode cX13_streetOf 8 = .ok (.goto 4, 3) := dk_167 0 4 (dk_at dksX13_streetOf_0 8 rfl rfl)
theorem dX13_streetOf_11 : decode cX13_streetOf 11 = .ok (.iload_n 0, 1) := dk_26 (dk_at dksX13_streetOf_0 11 rfl rfl)
theorem dX13_streetOf_12 : decode cX13_streetOf 12 = .ok (.istore_n 3, 1) := dk_62 (dk_at dksX13_streetOf_0 12 rfl rfl)
theorem dX13_streetOf_13 : decode cX13_streetOf 13 = .ok (.iload_n 2, 1) := dk_28 (dk_at dksX13_streetOf_0 13 rfl rfl)
theorem dX13_streetOf_14 : decode cX13_streetOf 14 = .ok (.iconst 3, 1) := dk_6 (dk_at dksX13_streetOf_0 14 rfl rfl)
theorem dX13_streetOf_15 : decode cX13_streetOf 15 = .ok (.if_icmp .ne 9, 3) := dk_160 0 9 (dk_at dksX13_streetOf_0 15 rfl rfl)
theorem dX13_streetOf_18 : decode cX13_streetOf 18 = .ok (.iload_n 1, 1) := dk_27 (dk_at dksX13_streetOf_0 18 rfl rfl)
theorem dX13_streetOf_19 : decode cX13_streetOf 19 = .ok (.iconst 1, 1) := dk_4 (dk_at dksX13_streetOf_0 19 rfl rfl)
theorem dX13_streetOf_20 : decode cX13_streetOf 20 = .ok (.isub, 1) := dk_100 (dk_at dksX13_streetOf_0 20 rfl rfl)
theorem dX13_streetOf_21 : decode cX13_streetOf 21 = .ok (.goto 4, 3) := dk_167 0 4 (dk_at dksX13_streetOf_0 21 rfl rfl)
theorem dX13_streetOf_24 : decode cX13_streetOf 24 = .ok (.iload_n 1, 1) := dk_27 (dk_at dksX13_streetOf_1 0 rfl rfl)
theorem dX13_streetOf_25 : decode cX13_streetOf 25 = .ok (.istore 4, 2) := dk_54 4 (dk_at dksX13_streetOf_1 1 rfl rfl)
theorem dX13_streetOf_27 : decode cX13_streetOf 27 = .ok (.bipush 12, 2) := dk_16 12 (dk_at dksX13_streetOf_1 3 rfl rfl)
theorem dX13_streetOf_29 : decode cX13_streetOf 29 = .ok (.iload 4, 2) := dk_21 4 (dk_at dksX13_streetOf_1 5 rfl rfl)
theorem dX13_streetOf_31 : decode cX13_streetOf 31 = .ok (.imul, 1) := dk_104 (dk_at dksX13_streetOf_1 7 rfl rfl)
theorem dX13_streetOf_32 : decode cX13_streetOf 32 = .ok (.iload_n 3, 1) := dk_29 (dk_at dksX13_streetOf_1 8 rfl rfl)
theorem dX13_streetOf_33 : decode cX13_streetOf 33 = .ok (.iadd, 1) := dk_96 (dk_at dksX13_streetOf_1 9 rfl rfl)
theorem dX13_streetOf_34 : decode cX13_streetOf 34 = .ok (.iload_n 2, 1) := dk_28 (dk_at dksX13_streetOf_1 10 rfl rfl)
theorem dX13_streetOf_35 : decode cX13_streetOf 35 = .ok (.iconst 1, 1) := dk_4 (dk_at dksX13_streetOf_1 11 rfl rfl)
theorem dX13_streetOf_36 : decode cX13_streetOf 36 = .ok (.if_icmp .eq 8, 3) := dk_159 0 8 (dk_at dksX13_streetOf_1 12 rfl rfl)
theorem dX13_streetOf_39 : decode cX13_streetOf 39 = .ok (.iload_n 2, 1) := dk_28 (dk_at dksX13_streetOf_1 15 rfl rfl)
theorem dX13_streetOf_40 : decode cX13_streetOf 40 = .ok (.iconst 3, 1) := dk_6 (dk_at dksX13_streetOf_1 16 rfl rfl)
theorem dX13_streetOf_41 : decode cX13_streetOf 41 = .ok (.if_icmp .ne 9, 3) := dk_160 0 9 (dk_at dksX13_streetOf_1 17 rfl rfl)
theorem dX13_streetOf_44 : decode cX13_streetOf 44 = .ok (.sipush 144, 3) := dk_17 0 144 (dk_at dksX13_streetOf_1 20 rfl rfl)
theorem dX13_streetOf_47 : decode cX13_streetOf 47 = .ok (.goto 4, 3) := dk_167 0 4 (dk_at dksX13_streetOf_2 0 rfl rfl)
theorem dX13_streetOf_50 : decode cX13_streetOf 50 = .ok (.iconst 0, 1) := dk_3 (dk_at dksX13_streetOf_2 3 rfl rfl)
theorem dX13_streetOf_51 : decode cX13_streetOf 51 = .ok (.iadd, 1) := dk_96 (dk_at dksX13_streetOf_2 4 rfl rfl)
theorem dX13_streetOf_52 : decode cX13_streetOf 52 = .ok (.ireturn, 1) := dk_172 (dk_at dksX13_streetOf_2 5 rfl rfl)
abbrev cX13_keeps : ByteArray := prog_21_method_60_code
def yX13_keeps : MethodName := ⟨RX13, "keeps", "()V"⟩
def dkwX13_keeps_4 : List UInt8 := [181, 1, 27, 42, 182, 0, 188, 177]
abbrev dktX13_keeps_4 : List UInt8 := dkwX13_keeps_4 ++ []
def dkwX13_keeps_3 : List UInt8 := [27, 96, 42, 180, 0, 128, 27, 46, 79, 132, 1, 1, 167, 255, 225, 42, 89, 180, 1, 27, 4, 96]
abbrev dktX13_keeps_3 : List UInt8 := dkwX13_keeps_3 ++ dktX13_keeps_4
def dkwX13_keeps_2 : List UInt8 := [181, 1, 27, 3, 60, 27, 17, 5, 10, 162, 0, 30, 42, 180, 0, 138, 17, 5, 10, 42, 180, 1, 27, 104]
abbrev dktX13_keeps_2 : List UInt8 := dkwX13_keeps_2 ++ dktX13_keeps_3
def dkwX13_keeps_1 : List UInt8 := [180, 0, 138, 27, 17, 5, 10, 96, 46, 79, 132, 1, 1, 167, 255, 230, 42, 89, 180, 1, 27, 4, 100]
abbrev dktX13_keeps_1 : List UInt8 := dkwX13_keeps_1 ++ dktX13_keeps_2
def dkwX13_keeps_0 : List UInt8 := [42, 180, 1, 27, 16, 30, 160, 0, 44, 3, 60, 27, 19, 1, 147, 162, 0, 25, 42, 180, 0, 138, 27, 42]
abbrev dktX13_keeps_0 : List UInt8 := dkwX13_keeps_0 ++ dktX13_keeps_1
theorem dksX13_keeps_0 : cX13_keeps.data.toList.drop 0 = dktX13_keeps_0 := by decide +kernel
theorem dksX13_keeps_1 : cX13_keeps.data.toList.drop 24 = dktX13_keeps_1 := dk_seg dksX13_keeps_0 24 rfl rfl
theorem dksX13_keeps_2 : cX13_keeps.data.toList.drop 47 = dktX13_keeps_2 := dk_seg dksX13_keeps_1 23 rfl rfl
theorem dksX13_keeps_3 : cX13_keeps.data.toList.drop 71 = dktX13_keeps_3 := dk_seg dksX13_keeps_2 24 rfl rfl
theorem dksX13_keeps_4 : cX13_keeps.data.toList.drop 93 = dktX13_keeps_4 := dk_seg dksX13_keeps_3 22 rfl rfl
theorem dX13_keeps_0 : decode cX13_keeps 0 = .ok (.aload_n 0, 1) := dk_42 (dk_at dksX13_keeps_0 0 rfl rfl)
theorem dX13_keeps_1 : decode cX13_keeps 1 = .ok (.getfield 283, 3) := dk_180 1 27 (dk_at dksX13_keeps_0 1 rfl rfl)
theorem dX13_keeps_4 : decode cX13_keeps 4 = .ok (.bipush 30, 2) := dk_16 30 (dk_at dksX13_keeps_0 4 rfl rfl)
theorem dX13_keeps_6 : decode cX13_keeps 6 = .ok (.if_icmp .ne 44, 3) := dk_160 0 44 (dk_at dksX13_keeps_0 6 rfl rfl)
theorem dX13_keeps_9 : decode cX13_keeps 9 = .ok (.iconst 0, 1) := dk_3 (dk_at dksX13_keeps_0 9 rfl rfl)
theorem dX13_keeps_10 : decode cX13_keeps 10 = .ok (.istore_n 1, 1) := dk_60 (dk_at dksX13_keeps_0 10 rfl rfl)
theorem dX13_keeps_11 : decode cX13_keeps 11 = .ok (.iload_n 1, 1) := dk_27 (dk_at dksX13_keeps_0 11 rfl rfl)
theorem dX13_keeps_12 : decode cX13_keeps 12 = .ok (.ldc_w 403, 3) := dk_19 1 147 (dk_at dksX13_keeps_0 12 rfl rfl)
theorem dX13_keeps_15 : decode cX13_keeps 15 = .ok (.if_icmp .ge 25, 3) := dk_162 0 25 (dk_at dksX13_keeps_0 15 rfl rfl)
theorem dX13_keeps_18 : decode cX13_keeps 18 = .ok (.aload_n 0, 1) := dk_42 (dk_at dksX13_keeps_0 18 rfl rfl)
theorem dX13_keeps_19 : decode cX13_keeps 19 = .ok (.getfield 138, 3) := dk_180 0 138 (dk_at dksX13_keeps_0 19 rfl rfl)
theorem dX13_keeps_22 : decode cX13_keeps 22 = .ok (.iload_n 1, 1) := dk_27 (dk_at dksX13_keeps_0 22 rfl rfl)
theorem dX13_keeps_23 : decode cX13_keeps 23 = .ok (.aload_n 0, 1) := dk_42 (dk_at dksX13_keeps_0 23 rfl rfl)
theorem dX13_keeps_24 : decode cX13_keeps 24 = .ok (.getfield 138, 3) := dk_180 0 138 (dk_at dksX13_keeps_1 0 rfl rfl)
theorem dX13_keeps_27 : decode cX13_keeps 27 = .ok (.iload_n 1, 1) := dk_27 (dk_at dksX13_keeps_1 3 rfl rfl)
theorem dX13_keeps_28 : decode cX13_keeps 28 = .ok (.sipush 1290, 3) := dk_17 5 10 (dk_at dksX13_keeps_1 4 rfl rfl)
theorem dX13_keeps_31 : decode cX13_keeps 31 = .ok (.iadd, 1) := dk_96 (dk_at dksX13_keeps_1 7 rfl rfl)
theorem dX13_keeps_32 : decode cX13_keeps 32 = .ok (.iaload, 1) := dk_46 (dk_at dksX13_keeps_1 8 rfl rfl)
theorem dX13_keeps_33 : decode cX13_keeps 33 = .ok (.iastore, 1) := dk_79 (dk_at dksX13_keeps_1 9 rfl rfl)
theorem dX13_keeps_34 : decode cX13_keeps 34 = .ok (.iinc 1 1, 3) := dk_132 1 1 (dk_at dksX13_keeps_1 10 rfl rfl)
theorem dX13_keeps_37 : decode cX13_keeps 37 = .ok (.goto (-26), 3) := dk_167 255 230 (dk_at dksX13_keeps_1 13 rfl rfl)
theorem dX13_keeps_40 : decode cX13_keeps 40 = .ok (.aload_n 0, 1) := dk_42 (dk_at dksX13_keeps_1 16 rfl rfl)
theorem dX13_keeps_41 : decode cX13_keeps 41 = .ok (.dup, 1) := dk_89 (dk_at dksX13_keeps_1 17 rfl rfl)
theorem dX13_keeps_42 : decode cX13_keeps 42 = .ok (.getfield 283, 3) := dk_180 1 27 (dk_at dksX13_keeps_1 18 rfl rfl)
theorem dX13_keeps_45 : decode cX13_keeps 45 = .ok (.iconst 1, 1) := dk_4 (dk_at dksX13_keeps_1 21 rfl rfl)
theorem dX13_keeps_46 : decode cX13_keeps 46 = .ok (.isub, 1) := dk_100 (dk_at dksX13_keeps_1 22 rfl rfl)
theorem dX13_keeps_47 : decode cX13_keeps 47 = .ok (.putfield 283, 3) := dk_181 1 27 (dk_at dksX13_keeps_2 0 rfl rfl)
theorem dX13_keeps_50 : decode cX13_keeps 50 = .ok (.iconst 0, 1) := dk_3 (dk_at dksX13_keeps_2 3 rfl rfl)
theorem dX13_keeps_51 : decode cX13_keeps 51 = .ok (.istore_n 1, 1) := dk_60 (dk_at dksX13_keeps_2 4 rfl rfl)
theorem dX13_keeps_52 : decode cX13_keeps 52 = .ok (.iload_n 1, 1) := dk_27 (dk_at dksX13_keeps_2 5 rfl rfl)
theorem dX13_keeps_53 : decode cX13_keeps 53 = .ok (.sipush 1290, 3) := dk_17 5 10 (dk_at dksX13_keeps_2 6 rfl rfl)
theorem dX13_keeps_56 : decode cX13_keeps 56 = .ok (.if_icmp .ge 30, 3) := dk_162 0 30 (dk_at dksX13_keeps_2 9 rfl rfl)
theorem dX13_keeps_59 : decode cX13_keeps 59 = .ok (.aload_n 0, 1) := dk_42 (dk_at dksX13_keeps_2 12 rfl rfl)
theorem dX13_keeps_60 : decode cX13_keeps 60 = .ok (.getfield 138, 3) := dk_180 0 138 (dk_at dksX13_keeps_2 13 rfl rfl)
theorem dX13_keeps_63 : decode cX13_keeps 63 = .ok (.sipush 1290, 3) := dk_17 5 10 (dk_at dksX13_keeps_2 16 rfl rfl)
theorem dX13_keeps_66 : decode cX13_keeps 66 = .ok (.aload_n 0, 1) := dk_42 (dk_at dksX13_keeps_2 19 rfl rfl)
theorem dX13_keeps_67 : decode cX13_keeps 67 = .ok (.getfield 283, 3) := dk_180 1 27 (dk_at dksX13_keeps_2 20 rfl rfl)
theorem dX13_keeps_70 : decode cX13_keeps 70 = .ok (.imul, 1) := dk_104 (dk_at dksX13_keeps_2 23 rfl rfl)
theorem dX13_keeps_71 : decode cX13_keeps 71 = .ok (.iload_n 1, 1) := dk_27 (dk_at dksX13_keeps_3 0 rfl rfl)
theorem dX13_keeps_72 : decode cX13_keeps 72 = .ok (.iadd, 1) := dk_96 (dk_at dksX13_keeps_3 1 rfl rfl)
theorem dX13_keeps_73 : decode cX13_keeps 73 = .ok (.aload_n 0, 1) := dk_42 (dk_at dksX13_keeps_3 2 rfl rfl)
theorem dX13_keeps_74 : decode cX13_keeps 74 = .ok (.getfield 128, 3) := dk_180 0 128 (dk_at dksX13_keeps_3 3 rfl rfl)
theorem dX13_keeps_77 : decode cX13_keeps 77 = .ok (.iload_n 1, 1) := dk_27 (dk_at dksX13_keeps_3 6 rfl rfl)
theorem dX13_keeps_78 : decode cX13_keeps 78 = .ok (.iaload, 1) := dk_46 (dk_at dksX13_keeps_3 7 rfl rfl)
theorem dX13_keeps_79 : decode cX13_keeps 79 = .ok (.iastore, 1) := dk_79 (dk_at dksX13_keeps_3 8 rfl rfl)
theorem dX13_keeps_80 : decode cX13_keeps 80 = .ok (.iinc 1 1, 3) := dk_132 1 1 (dk_at dksX13_keeps_3 9 rfl rfl)
theorem dX13_keeps_83 : decode cX13_keeps 83 = .ok (.goto (-31), 3) := dk_167 255 225 (dk_at dksX13_keeps_3 12 rfl rfl)
theorem dX13_keeps_86 : decode cX13_keeps 86 = .ok (.aload_n 0, 1) := dk_42 (dk_at dksX13_keeps_3 15 rfl rfl)
theorem dX13_keeps_87 : decode cX13_keeps 87 = .ok (.dup, 1) := dk_89 (dk_at dksX13_keeps_3 16 rfl rfl)
theorem dX13_keeps_88 : decode cX13_keeps 88 = .ok (.getfield 283, 3) := dk_180 1 27 (dk_at dksX13_keeps_3 17 rfl rfl)
theorem dX13_keeps_91 : decode cX13_keeps 91 = .ok (.iconst 1, 1) := dk_4 (dk_at dksX13_keeps_3 20 rfl rfl)
theorem dX13_keeps_92 : decode cX13_keeps 92 = .ok (.iadd, 1) := dk_96 (dk_at dksX13_keeps_3 21 rfl rfl)
theorem dX13_keeps_93 : decode cX13_keeps 93 = .ok (.putfield 283, 3) := dk_181 1 27 (dk_at dksX13_keeps_4 0 rfl rfl)
theorem dX13_keeps_96 : decode cX13_keeps 96 = .ok (.aload_n 0, 1) := dk_42 (dk_at dksX13_keeps_4 3 rfl rfl)
theorem dX13_keeps_97 : decode cX13_keeps 97 = .ok (.invokevirtual 188, 3) := dk_182 0 188 (dk_at dksX13_keeps_4 4 rfl rfl)
theorem dX13_keeps_100 : decode cX13_keeps 100 = .ok (.return_, 1) := dk_177 (dk_at dksX13_keeps_4 7 rfl rfl)
abbrev cX13_wind : ByteArray := prog_21_method_62_code
def yX13_wind : MethodName := ⟨RX13, "wind", "(I)Z"⟩
def dkwX13_wind_1 : List UInt8 := [42, 182, 1, 148, 4, 172]
abbrev dktX13_wind_1 : List UInt8 := dkwX13_wind_1 ++ []
def dkwX13_wind_0 : List UInt8 := [42, 27, 182, 1, 138, 154, 0, 5, 3, 172, 42, 182, 1, 141, 42, 27, 182, 1, 135, 154, 0, 5, 3, 172]
abbrev dktX13_wind_0 : List UInt8 := dkwX13_wind_0 ++ dktX13_wind_1
theorem dksX13_wind_0 : cX13_wind.data.toList.drop 0 = dktX13_wind_0 := by decide +kernel
theorem dksX13_wind_1 : cX13_wind.data.toList.drop 24 = dktX13_wind_1 := dk_seg dksX13_wind_0 24 rfl rfl
theorem dX13_wind_0 : decode cX13_wind 0 = .ok (.aload_n 0, 1) := dk_42 (dk_at dksX13_wind_0 0 rfl rfl)
theorem dX13_wind_1 : decode cX13_wind 1 = .ok (.iload_n 1, 1) := dk_27 (dk_at dksX13_wind_0 1 rfl rfl)
theorem dX13_wind_2 : decode cX13_wind 2 = .ok (.invokevirtual 394, 3) := dk_182 1 138 (dk_at dksX13_wind_0 2 rfl rfl)
theorem dX13_wind_5 : decode cX13_wind 5 = .ok (.ifCond .ne 5, 3) := dk_154 0 5 (dk_at dksX13_wind_0 5 rfl rfl)
theorem dX13_wind_8 : decode cX13_wind 8 = .ok (.iconst 0, 1) := dk_3 (dk_at dksX13_wind_0 8 rfl rfl)
theorem dX13_wind_9 : decode cX13_wind 9 = .ok (.ireturn, 1) := dk_172 (dk_at dksX13_wind_0 9 rfl rfl)
theorem dX13_wind_10 : decode cX13_wind 10 = .ok (.aload_n 0, 1) := dk_42 (dk_at dksX13_wind_0 10 rfl rfl)
theorem dX13_wind_11 : decode cX13_wind 11 = .ok (.invokevirtual 397, 3) := dk_182 1 141 (dk_at dksX13_wind_0 11 rfl rfl)
theorem dX13_wind_14 : decode cX13_wind 14 = .ok (.aload_n 0, 1) := dk_42 (dk_at dksX13_wind_0 14 rfl rfl)
theorem dX13_wind_15 : decode cX13_wind 15 = .ok (.iload_n 1, 1) := dk_27 (dk_at dksX13_wind_0 15 rfl rfl)
theorem dX13_wind_16 : decode cX13_wind 16 = .ok (.invokevirtual 391, 3) := dk_182 1 135 (dk_at dksX13_wind_0 16 rfl rfl)
theorem dX13_wind_19 : decode cX13_wind 19 = .ok (.ifCond .ne 5, 3) := dk_154 0 5 (dk_at dksX13_wind_0 19 rfl rfl)
theorem dX13_wind_22 : decode cX13_wind 22 = .ok (.iconst 0, 1) := dk_3 (dk_at dksX13_wind_0 22 rfl rfl)
theorem dX13_wind_23 : decode cX13_wind 23 = .ok (.ireturn, 1) := dk_172 (dk_at dksX13_wind_0 23 rfl rfl)
theorem dX13_wind_24 : decode cX13_wind 24 = .ok (.aload_n 0, 1) := dk_42 (dk_at dksX13_wind_1 0 rfl rfl)
theorem dX13_wind_25 : decode cX13_wind 25 = .ok (.invokevirtual 404, 3) := dk_182 1 148 (dk_at dksX13_wind_1 1 rfl rfl)
theorem dX13_wind_28 : decode cX13_wind 28 = .ok (.iconst 1, 1) := dk_4 (dk_at dksX13_wind_1 4 rfl rfl)
theorem dX13_wind_29 : decode cX13_wind 29 = .ok (.ireturn, 1) := dk_172 (dk_at dksX13_wind_1 5 rfl rfl)
abbrev cX13_winds : ByteArray := prog_21_method_55_code
def yX13_winds : MethodName := ⟨RX13, "winds", "(I)Z"⟩
def dkwX13_winds_5 : List UInt8 := [46, 42, 180, 0, 131, 16, 30, 28, 96, 46, 184, 1, 115, 100, 79, 4, 172]
abbrev dktX13_winds_5 : List UInt8 := dkwX13_winds_5 ++ []
def dkwX13_winds_4 : List UInt8 := [46, 42, 180, 0, 131, 16, 30, 28, 96, 46, 184, 1, 112, 100, 79, 42, 180, 0, 131, 16, 7, 27, 96, 92]
abbrev dktX13_winds_4 : List UInt8 := dkwX13_winds_4 ++ dktX13_winds_5
def dkwX13_winds_3 : List UInt8 := [158, 0, 5, 3, 172, 42, 180, 0, 131, 16, 14, 27, 96, 92, 46, 4, 100, 79, 42, 180, 0, 131, 27, 92]
abbrev dktX13_winds_3 : List UInt8 := dkwX13_winds_3 ++ dktX13_winds_4
def dkwX13_winds_2 : List UInt8 := [180, 0, 131, 17, 3, 102, 28, 96, 46, 42, 180, 0, 131, 17, 1, 194, 28, 96, 46, 4, 182, 1, 125]
abbrev dktX13_winds_2 : List UInt8 := dkwX13_winds_2 ++ dktX13_winds_3
def dkwX13_winds_1 : List UInt8 := [154, 0, 5, 3, 172, 16, 60, 27, 104, 42, 180, 0, 131, 16, 14, 27, 96, 46, 96, 4, 100, 61, 42, 42]
abbrev dktX13_winds_1 : List UInt8 := dkwX13_winds_1 ++ dktX13_winds_2
def dkwX13_winds_0 : List UInt8 := [42, 180, 0, 131, 16, 21, 27, 96, 46, 4, 159, 0, 15, 42, 180, 0, 131, 16, 14, 27, 96, 46]
abbrev dktX13_winds_0 : List UInt8 := dkwX13_winds_0 ++ dktX13_winds_1
theorem dksX13_winds_0 : cX13_winds.data.toList.drop 0 = dktX13_winds_0 := by decide +kernel
theorem dksX13_winds_1 : cX13_winds.data.toList.drop 22 = dktX13_winds_1 := dk_seg dksX13_winds_0 22 rfl rfl
theorem dksX13_winds_2 : cX13_winds.data.toList.drop 46 = dktX13_winds_2 := dk_seg dksX13_winds_1 24 rfl rfl
theorem dksX13_winds_3 : cX13_winds.data.toList.drop 69 = dktX13_winds_3 := dk_seg dksX13_winds_2 23 rfl rfl
theorem dksX13_winds_4 : cX13_winds.data.toList.drop 93 = dktX13_winds_4 := dk_seg dksX13_winds_3 24 rfl rfl
theorem dksX13_winds_5 : cX13_winds.data.toList.drop 117 = dktX13_winds_5 := dk_seg dksX13_winds_4 24 rfl rfl
theorem dX13_winds_0 : decode cX13_winds 0 = .ok (.aload_n 0, 1) := dk_42 (dk_at dksX13_winds_0 0 rfl rfl)
theorem dX13_winds_1 : decode cX13_winds 1 = .ok (.getfield 131, 3) := dk_180 0 131 (dk_at dksX13_winds_0 1 rfl rfl)
theorem dX13_winds_4 : decode cX13_winds 4 = .ok (.bipush 21, 2) := dk_16 21 (dk_at dksX13_winds_0 4 rfl rfl)
theorem dX13_winds_6 : decode cX13_winds 6 = .ok (.iload_n 1, 1) := dk_27 (dk_at dksX13_winds_0 6 rfl rfl)
theorem dX13_winds_7 : decode cX13_winds 7 = .ok (.iadd, 1) := dk_96 (dk_at dksX13_winds_0 7 rfl rfl)
theorem dX13_winds_8 : decode cX13_winds 8 = .ok (.iaload, 1) := dk_46 (dk_at dksX13_winds_0 8 rfl rfl)
theorem dX13_winds_9 : decode cX13_winds 9 = .ok (.iconst 1, 1) := dk_4 (dk_at dksX13_winds_0 9 rfl rfl)
theorem dX13_winds_10 : decode cX13_winds 10 = .ok (.if_icmp .eq 15, 3) := dk_159 0 15 (dk_at dksX13_winds_0 10 rfl rfl)
theorem dX13_winds_13 : decode cX13_winds 13 = .ok (.aload_n 0, 1) := dk_42 (dk_at dksX13_winds_0 13 rfl rfl)
theorem dX13_winds_14 : decode cX13_winds 14 = .ok (.getfield 131, 3) := dk_180 0 131 (dk_at dksX13_winds_0 14 rfl rfl)
theorem dX13_winds_17 : decode cX13_winds 17 = .ok (.bipush 14, 2) := dk_16 14 (dk_at dksX13_winds_0 17 rfl rfl)
theorem dX13_winds_19 : decode cX13_winds 19 = .ok (.iload_n 1, 1) := dk_27 (dk_at dksX13_winds_0 19 rfl rfl)
theorem dX13_winds_20 : decode cX13_winds 20 = .ok (.iadd, 1) := dk_96 (dk_at dksX13_winds_0 20 rfl rfl)
theorem dX13_winds_21 : decode cX13_winds 21 = .ok (.iaload, 1) := dk_46 (dk_at dksX13_winds_0 21 rfl rfl)
theorem dX13_winds_22 : decode cX13_winds 22 = .ok (.ifCond .ne 5, 3) := dk_154 0 5 (dk_at dksX13_winds_1 0 rfl rfl)
theorem dX13_winds_25 : decode cX13_winds 25 = .ok (.iconst 0, 1) := dk_3 (dk_at dksX13_winds_1 3 rfl rfl)
theorem dX13_winds_26 : decode cX13_winds 26 = .ok (.ireturn, 1) := dk_172 (dk_at dksX13_winds_1 4 rfl rfl)
theorem dX13_winds_27 : decode cX13_winds 27 = .ok (.bipush 60, 2) := dk_16 60 (dk_at dksX13_winds_1 5 rfl rfl)
theorem dX13_winds_29 : decode cX13_winds 29 = .ok (.iload_n 1, 1) := dk_27 (dk_at dksX13_winds_1 7 rfl rfl)
theorem dX13_winds_30 : decode cX13_winds 30 = .ok (.imul, 1) := dk_104 (dk_at dksX13_winds_1 8 rfl rfl)
theorem dX13_winds_31 : decode cX13_winds 31 = .ok (.aload_n 0, 1) := dk_42 (dk_at dksX13_winds_1 9 rfl rfl)
theorem dX13_winds_32 : decode cX13_winds 32 = .ok (.getfield 131, 3) := dk_180 0 131 (dk_at dksX13_winds_1 10 rfl rfl)
theorem dX13_winds_35 : decode cX13_winds 35 = .ok (.bipush 14, 2) := dk_16 14 (dk_at dksX13_winds_1 13 rfl rfl)
theorem dX13_winds_37 : decode cX13_winds 37 = .ok (.iload_n 1, 1) := dk_27 (dk_at dksX13_winds_1 15 rfl rfl)
theorem dX13_winds_38 : decode cX13_winds 38 = .ok (.iadd, 1) := dk_96 (dk_at dksX13_winds_1 16 rfl rfl)
theorem dX13_winds_39 : decode cX13_winds 39 = .ok (.iaload, 1) := dk_46 (dk_at dksX13_winds_1 17 rfl rfl)
theorem dX13_winds_40 : decode cX13_winds 40 = .ok (.iadd, 1) := dk_96 (dk_at dksX13_winds_1 18 rfl rfl)
theorem dX13_winds_41 : decode cX13_winds 41 = .ok (.iconst 1, 1) := dk_4 (dk_at dksX13_winds_1 19 rfl rfl)
theorem dX13_winds_42 : decode cX13_winds 42 = .ok (.isub, 1) := dk_100 (dk_at dksX13_winds_1 20 rfl rfl)
theorem dX13_winds_43 : decode cX13_winds 43 = .ok (.istore_n 2, 1) := dk_61 (dk_at dksX13_winds_1 21 rfl rfl)
theorem dX13_winds_44 : decode cX13_winds 44 = .ok (.aload_n 0, 1) := dk_42 (dk_at dksX13_winds_1 22 rfl rfl)
theorem dX13_winds_45 : decode cX13_winds 45 = .ok (.aload_n 0, 1) := dk_42 (dk_at dksX13_winds_1 23 rfl rfl)
theorem dX13_winds_46 : decode cX13_winds 46 = .ok (.getfield 131, 3) := dk_180 0 131 (dk_at dksX13_winds_2 0 rfl rfl)
theorem dX13_winds_49 : decode cX13_winds 49 = .ok (.sipush 870, 3) := dk_17 3 102 (dk_at dksX13_winds_2 3 rfl rfl)
theorem dX13_winds_52 : decode cX13_winds 52 = .ok (.iload_n 2, 1) := dk_28 (dk_at dksX13_winds_2 6 rfl rfl)
theorem dX13_winds_53 : decode cX13_winds 53 = .ok (.iadd, 1) := dk_96 (dk_at dksX13_winds_2 7 rfl rfl)
theorem dX13_winds_54 : decode cX13_winds 54 = .ok (.iaload, 1) := dk_46 (dk_at dksX13_winds_2 8 rfl rfl)
theorem dX13_winds_55 : decode cX13_winds 55 = .ok (.aload_n 0, 1) := dk_42 (dk_at dksX13_winds_2 9 rfl rfl)
theorem dX13_winds_56 : decode cX13_winds 56 = .ok (.getfield 131, 3) := dk_180 0 131 (dk_at dksX13_winds_2 10 rfl rfl)
theorem dX13_winds_59 : decode cX13_winds 59 = .ok (.sipush 450, 3) := dk_17 1 194 (dk_at dksX13_winds_2 13 rfl rfl)
theorem dX13_winds_62 : decode cX13_winds 62 = .ok (.iload_n 2, 1) := dk_28 (dk_at dksX13_winds_2 16 rfl rfl)
theorem dX13_winds_63 : decode cX13_winds 63 = .ok (.iadd, 1) := dk_96 (dk_at dksX13_winds_2 17 rfl rfl)
theorem dX13_winds_64 : decode cX13_winds 64 = .ok (.iaload, 1) := dk_46 (dk_at dksX13_winds_2 18 rfl rfl)
theorem dX13_winds_65 : decode cX13_winds 65 = .ok (.iconst 1, 1) := dk_4 (dk_at dksX13_winds_2 19 rfl rfl)
theorem dX13_winds_66 : decode cX13_winds 66 = .ok (.invokevirtual 381, 3) := dk_182 1 125 (dk_at dksX13_winds_2 20 rfl rfl)
theorem dX13_winds_69 : decode cX13_winds 69 = .ok (.ifCond .le 5, 3) := dk_158 0 5 (dk_at dksX13_winds_3 0 rfl rfl)
theorem dX13_winds_72 : decode cX13_winds 72 = .ok (.iconst 0, 1) := dk_3 (dk_at dksX13_winds_3 3 rfl rfl)
theorem dX13_winds_73 : decode cX13_winds 73 = .ok (.ireturn, 1) := dk_172 (dk_at dksX13_winds_3 4 rfl rfl)
theorem dX13_winds_74 : decode cX13_winds 74 = .ok (.aload_n 0, 1) := dk_42 (dk_at dksX13_winds_3 5 rfl rfl)
theorem dX13_winds_75 : decode cX13_winds 75 = .ok (.getfield 131, 3) := dk_180 0 131 (dk_at dksX13_winds_3 6 rfl rfl)
theorem dX13_winds_78 : decode cX13_winds 78 = .ok (.bipush 14, 2) := dk_16 14 (dk_at dksX13_winds_3 9 rfl rfl)
theorem dX13_winds_80 : decode cX13_winds 80 = .ok (.iload_n 1, 1) := dk_27 (dk_at dksX13_winds_3 11 rfl rfl)
theorem dX13_winds_81 : decode cX13_winds 81 = .ok (.iadd, 1) := dk_96 (dk_at dksX13_winds_3 12 rfl rfl)
theorem dX13_winds_82 : decode cX13_winds 82 = .ok (.dup2, 1) := dk_92 (dk_at dksX13_winds_3 13 rfl rfl)
theorem dX13_winds_83 : decode cX13_winds 83 = .ok (.iaload, 1) := dk_46 (dk_at dksX13_winds_3 14 rfl rfl)
theorem dX13_winds_84 : decode cX13_winds 84 = .ok (.iconst 1, 1) := dk_4 (dk_at dksX13_winds_3 15 rfl rfl)
theorem dX13_winds_85 : decode cX13_winds 85 = .ok (.isub, 1) := dk_100 (dk_at dksX13_winds_3 16 rfl rfl)
theorem dX13_winds_86 : decode cX13_winds 86 = .ok (.iastore, 1) := dk_79 (dk_at dksX13_winds_3 17 rfl rfl)
theorem dX13_winds_87 : decode cX13_winds 87 = .ok (.aload_n 0, 1) := dk_42 (dk_at dksX13_winds_3 18 rfl rfl)
theorem dX13_winds_88 : decode cX13_winds 88 = .ok (.getfield 131, 3) := dk_180 0 131 (dk_at dksX13_winds_3 19 rfl rfl)
theorem dX13_winds_91 : decode cX13_winds 91 = .ok (.iload_n 1, 1) := dk_27 (dk_at dksX13_winds_3 22 rfl rfl)
theorem dX13_winds_92 : decode cX13_winds 92 = .ok (.dup2, 1) := dk_92 (dk_at dksX13_winds_3 23 rfl rfl)
theorem dX13_winds_93 : decode cX13_winds 93 = .ok (.iaload, 1) := dk_46 (dk_at dksX13_winds_4 0 rfl rfl)
theorem dX13_winds_94 : decode cX13_winds 94 = .ok (.aload_n 0, 1) := dk_42 (dk_at dksX13_winds_4 1 rfl rfl)
theorem dX13_winds_95 : decode cX13_winds 95 = .ok (.getfield 131, 3) := dk_180 0 131 (dk_at dksX13_winds_4 2 rfl rfl)
theorem dX13_winds_98 : decode cX13_winds 98 = .ok (.bipush 30, 2) := dk_16 30 (dk_at dksX13_winds_4 5 rfl rfl)
theorem dX13_winds_100 : decode cX13_winds 100 = .ok (.iload_n 2, 1) := dk_28 (dk_at dksX13_winds_4 7 rfl rfl)
theorem dX13_winds_101 : decode cX13_winds 101 = .ok (.iadd, 1) := dk_96 (dk_at dksX13_winds_4 8 rfl rfl)
theorem dX13_winds_102 : decode cX13_winds 102 = .ok (.iaload, 1) := dk_46 (dk_at dksX13_winds_4 9 rfl rfl)
theorem dX13_winds_103 : decode cX13_winds 103 = .ok (.invokestatic 368, 3) := dk_184 1 112 (dk_at dksX13_winds_4 10 rfl rfl)
theorem dX13_winds_106 : decode cX13_winds 106 = .ok (.isub, 1) := dk_100 (dk_at dksX13_winds_4 13 rfl rfl)
theorem dX13_winds_107 : decode cX13_winds 107 = .ok (.iastore, 1) := dk_79 (dk_at dksX13_winds_4 14 rfl rfl)
theorem dX13_winds_108 : decode cX13_winds 108 = .ok (.aload_n 0, 1) := dk_42 (dk_at dksX13_winds_4 15 rfl rfl)
theorem dX13_winds_109 : decode cX13_winds 109 = .ok (.getfield 131, 3) := dk_180 0 131 (dk_at dksX13_winds_4 16 rfl rfl)
theorem dX13_winds_112 : decode cX13_winds 112 = .ok (.bipush 7, 2) := dk_16 7 (dk_at dksX13_winds_4 19 rfl rfl)
theorem dX13_winds_114 : decode cX13_winds 114 = .ok (.iload_n 1, 1) := dk_27 (dk_at dksX13_winds_4 21 rfl rfl)
theorem dX13_winds_115 : decode cX13_winds 115 = .ok (.iadd, 1) := dk_96 (dk_at dksX13_winds_4 22 rfl rfl)
theorem dX13_winds_116 : decode cX13_winds 116 = .ok (.dup2, 1) := dk_92 (dk_at dksX13_winds_4 23 rfl rfl)
theorem dX13_winds_117 : decode cX13_winds 117 = .ok (.iaload, 1) := dk_46 (dk_at dksX13_winds_5 0 rfl rfl)
theorem dX13_winds_118 : decode cX13_winds 118 = .ok (.aload_n 0, 1) := dk_42 (dk_at dksX13_winds_5 1 rfl rfl)
theorem dX13_winds_119 : decode cX13_winds 119 = .ok (.getfield 131, 3) := dk_180 0 131 (dk_at dksX13_winds_5 2 rfl rfl)
theorem dX13_winds_122 : decode cX13_winds 122 = .ok (.bipush 30, 2) := dk_16 30 (dk_at dksX13_winds_5 5 rfl rfl)
theorem dX13_winds_124 : decode cX13_winds 124 = .ok (.iload_n 2, 1) := dk_28 (dk_at dksX13_winds_5 7 rfl rfl)
theorem dX13_winds_125 : decode cX13_winds 125 = .ok (.iadd, 1) := dk_96 (dk_at dksX13_winds_5 8 rfl rfl)
theorem dX13_winds_126 : decode cX13_winds 126 = .ok (.iaload, 1) := dk_46 (dk_at dksX13_winds_5 9 rfl rfl)
theorem dX13_winds_127 : decode cX13_winds 127 = .ok (.invokestatic 371, 3) := dk_184 1 115 (dk_at dksX13_winds_5 10 rfl rfl)
theorem dX13_winds_130 : decode cX13_winds 130 = .ok (.isub, 1) := dk_100 (dk_at dksX13_winds_5 13 rfl rfl)
theorem dX13_winds_131 : decode cX13_winds 131 = .ok (.iastore, 1) := dk_79 (dk_at dksX13_winds_5 14 rfl rfl)
theorem dX13_winds_132 : decode cX13_winds 132 = .ok (.iconst 1, 1) := dk_4 (dk_at dksX13_winds_5 15 rfl rfl)
theorem dX13_winds_133 : decode cX13_winds 133 = .ok (.ireturn, 1) := dk_172 (dk_at dksX13_winds_5 16 rfl rfl)
abbrev cX13_home : ByteArray := prog_21_method_63_code
def yX13_home : MethodName := ⟨RX13, "home", "(I)I"⟩
def dkwX13_home_1 : List UInt8 := [132, 2, 1, 167, 255, 245, 28, 154, 0, 5, 2, 172, 42, 182, 1, 148, 28, 172]
abbrev dktX13_home_1 : List UInt8 := dkwX13_home_1 ++ []
def dkwX13_home_0 : List UInt8 := [42, 27, 182, 1, 138, 154, 0, 5, 2, 172, 42, 182, 1, 141, 3, 61, 42, 27, 182, 1, 135, 153, 0, 9]
abbrev dktX13_home_0 : List UInt8 := dkwX13_home_0 ++ dktX13_home_1
theorem dksX13_home_0 : cX13_home.data.toList.drop 0 = dktX13_home_0 := by decide +kernel
theorem dksX13_home_1 : cX13_home.data.toList.drop 24 = dktX13_home_1 := dk_seg dksX13_home_0 24 rfl rfl
theorem dX13_home_0 : decode cX13_home 0 = .ok (.aload_n 0, 1) := dk_42 (dk_at dksX13_home_0 0 rfl rfl)
theorem dX13_home_1 : decode cX13_home 1 = .ok (.iload_n 1, 1) := dk_27 (dk_at dksX13_home_0 1 rfl rfl)
theorem dX13_home_2 : decode cX13_home 2 = .ok (.invokevirtual 394, 3) := dk_182 1 138 (dk_at dksX13_home_0 2 rfl rfl)
theorem dX13_home_5 : decode cX13_home 5 = .ok (.ifCond .ne 5, 3) := dk_154 0 5 (dk_at dksX13_home_0 5 rfl rfl)
theorem dX13_home_8 : decode cX13_home 8 = .ok (.iconst (-1), 1) := dk_2 (dk_at dksX13_home_0 8 rfl rfl)
theorem dX13_home_9 : decode cX13_home 9 = .ok (.ireturn, 1) := dk_172 (dk_at dksX13_home_0 9 rfl rfl)
theorem dX13_home_10 : decode cX13_home 10 = .ok (.aload_n 0, 1) := dk_42 (dk_at dksX13_home_0 10 rfl rfl)
theorem dX13_home_11 : decode cX13_home 11 = .ok (.invokevirtual 397, 3) := dk_182 1 141 (dk_at dksX13_home_0 11 rfl rfl)
theorem dX13_home_14 : decode cX13_home 14 = .ok (.iconst 0, 1) := dk_3 (dk_at dksX13_home_0 14 rfl rfl)
theorem dX13_home_15 : decode cX13_home 15 = .ok (.istore_n 2, 1) := dk_61 (dk_at dksX13_home_0 15 rfl rfl)
theorem dX13_home_16 : decode cX13_home 16 = .ok (.aload_n 0, 1) := dk_42 (dk_at dksX13_home_0 16 rfl rfl)
theorem dX13_home_17 : decode cX13_home 17 = .ok (.iload_n 1, 1) := dk_27 (dk_at dksX13_home_0 17 rfl rfl)
theorem dX13_home_18 : decode cX13_home 18 = .ok (.invokevirtual 391, 3) := dk_182 1 135 (dk_at dksX13_home_0 18 rfl rfl)
theorem dX13_home_21 : decode cX13_home 21 = .ok (.ifCond .eq 9, 3) := dk_153 0 9 (dk_at dksX13_home_0 21 rfl rfl)
theorem dX13_home_24 : decode cX13_home 24 = .ok (.iinc 2 1, 3) := dk_132 2 1 (dk_at dksX13_home_1 0 rfl rfl)
theorem dX13_home_27 : decode cX13_home 27 = .ok (.goto (-11), 3) := dk_167 255 245 (dk_at dksX13_home_1 3 rfl rfl)
theorem dX13_home_30 : decode cX13_home 30 = .ok (.iload_n 2, 1) := dk_28 (dk_at dksX13_home_1 6 rfl rfl)
theorem dX13_home_31 : decode cX13_home 31 = .ok (.ifCond .ne 5, 3) := dk_154 0 5 (dk_at dksX13_home_1 7 rfl rfl)
theorem dX13_home_34 : decode cX13_home 34 = .ok (.iconst (-1), 1) := dk_2 (dk_at dksX13_home_1 10 rfl rfl)
theorem dX13_home_35 : decode cX13_home 35 = .ok (.ireturn, 1) := dk_172 (dk_at dksX13_home_1 11 rfl rfl)
theorem dX13_home_36 : decode cX13_home 36 = .ok (.aload_n 0, 1) := dk_42 (dk_at dksX13_home_1 12 rfl rfl)
theorem dX13_home_37 : decode cX13_home 37 = .ok (.invokevirtual 404, 3) := dk_182 1 148 (dk_at dksX13_home_1 13 rfl rfl)
theorem dX13_home_40 : decode cX13_home 40 = .ok (.iload_n 2, 1) := dk_28 (dk_at dksX13_home_1 16 rfl rfl)
theorem dX13_home_41 : decode cX13_home 41 = .ok (.ireturn, 1) := dk_172 (dk_at dksX13_home_1 17 rfl rfl)
abbrev cX13_cut : ByteArray := prog_21_method_64_code
def yX13_cut : MethodName := ⟨RX13, "cut", "(I)I"⟩
def dkwX13_cut_2 : List UInt8 := [180, 0, 131, 16, 21, 27, 96, 4, 79, 42, 182, 1, 148, 28, 172]
abbrev dktX13_cut_2 : List UInt8 := dkwX13_cut_2 ++ []
def dkwX13_cut_1 : List UInt8 := [182, 1, 141, 42, 180, 0, 131, 16, 14, 27, 96, 46, 61, 42, 180, 0, 131, 16, 14, 27, 96, 3, 79, 42]
abbrev dktX13_cut_1 : List UInt8 := dkwX13_cut_1 ++ dktX13_cut_2
def dkwX13_cut_0 : List UInt8 := [42, 27, 182, 1, 138, 153, 0, 16, 42, 180, 0, 128, 16, 21, 27, 96, 46, 4, 160, 0, 5, 2, 172, 42]
abbrev dktX13_cut_0 : List UInt8 := dkwX13_cut_0 ++ dktX13_cut_1
theorem dksX13_cut_0 : cX13_cut.data.toList.drop 0 = dktX13_cut_0 := by decide +kernel
theorem dksX13_cut_1 : cX13_cut.data.toList.drop 24 = dktX13_cut_1 := dk_seg dksX13_cut_0 24 rfl rfl
theorem dksX13_cut_2 : cX13_cut.data.toList.drop 48 = dktX13_cut_2 := dk_seg dksX13_cut_1 24 rfl rfl
theorem dX13_cut_0 : decode cX13_cut 0 = .ok (.aload_n 0, 1) := dk_42 (dk_at dksX13_cut_0 0 rfl rfl)
theorem dX13_cut_1 : decode cX13_cut 1 = .ok (.iload_n 1, 1) := dk_27 (dk_at dksX13_cut_0 1 rfl rfl)
theorem dX13_cut_2 : decode cX13_cut 2 = .ok (.invokevirtual 394, 3) := dk_182 1 138 (dk_at dksX13_cut_0 2 rfl rfl)
theorem dX13_cut_5 : decode cX13_cut 5 = .ok (.ifCond .eq 16, 3) := dk_153 0 16 (dk_at dksX13_cut_0 5 rfl rfl)
theorem dX13_cut_8 : decode cX13_cut 8 = .ok (.aload_n 0, 1) := dk_42 (dk_at dksX13_cut_0 8 rfl rfl)
theorem dX13_cut_9 : decode cX13_cut 9 = .ok (.getfield 128, 3) := dk_180 0 128 (dk_at dksX13_cut_0 9 rfl rfl)
theorem dX13_cut_12 : decode cX13_cut 12 = .ok (.bipush 21, 2) := dk_16 21 (dk_at dksX13_cut_0 12 rfl rfl)
theorem dX13_cut_14 : decode cX13_cut 14 = .ok (.iload_n 1, 1) := dk_27 (dk_at dksX13_cut_0 14 rfl rfl)
theorem dX13_cut_15 : decode cX13_cut 15 = .ok (.iadd, 1) := dk_96 (dk_at dksX13_cut_0 15 rfl rfl)
theorem dX13_cut_16 : decode cX13_cut 16 = .ok (.iaload, 1) := dk_46 (dk_at dksX13_cut_0 16 rfl rfl)
theorem dX13_cut_17 : decode cX13_cut 17 = .ok (.iconst 1, 1) := dk_4 (dk_at dksX13_cut_0 17 rfl rfl)
theorem dX13_cut_18 : decode cX13_cut 18 = .ok (.if_icmp .ne 5, 3) := dk_160 0 5 (dk_at dksX13_cut_0 18 rfl rfl)
theorem dX13_cut_21 : decode cX13_cut 21 = .ok (.iconst (-1), 1) := dk_2 (dk_at dksX13_cut_0 21 rfl rfl)
theorem dX13_cut_22 : decode cX13_cut 22 = .ok (.ireturn, 1) := dk_172 (dk_at dksX13_cut_0 22 rfl rfl)
theorem dX13_cut_23 : decode cX13_cut 23 = .ok (.aload_n 0, 1) := dk_42 (dk_at dksX13_cut_0 23 rfl rfl)
theorem dX13_cut_24 : decode cX13_cut 24 = .ok (.invokevirtual 397, 3) := dk_182 1 141 (dk_at dksX13_cut_1 0 rfl rfl)
theorem dX13_cut_27 : decode cX13_cut 27 = .ok (.aload_n 0, 1) := dk_42 (dk_at dksX13_cut_1 3 rfl rfl)
theorem dX13_cut_28 : decode cX13_cut 28 = .ok (.getfield 131, 3) := dk_180 0 131 (dk_at dksX13_cut_1 4 rfl rfl)
theorem dX13_cut_31 : decode cX13_cut 31 = .ok (.bipush 14, 2) := dk_16 14 (dk_at dksX13_cut_1 7 rfl rfl)
theorem dX13_cut_33 : decode cX13_cut 33 = .ok (.iload_n 1, 1) := dk_27 (dk_at dksX13_cut_1 9 rfl rfl)
theorem dX13_cut_34 : decode cX13_cut 34 = .ok (.iadd, 1) := dk_96 (dk_at dksX13_cut_1 10 rfl rfl)
theorem dX13_cut_35 : decode cX13_cut 35 = .ok (.iaload, 1) := dk_46 (dk_at dksX13_cut_1 11 rfl rfl)
theorem dX13_cut_36 : decode cX13_cut 36 = .ok (.istore_n 2, 1) := dk_61 (dk_at dksX13_cut_1 12 rfl rfl)
theorem dX13_cut_37 : decode cX13_cut 37 = .ok (.aload_n 0, 1) := dk_42 (dk_at dksX13_cut_1 13 rfl rfl)
theorem dX13_cut_38 : decode cX13_cut 38 = .ok (.getfield 131, 3) := dk_180 0 131 (dk_at dksX13_cut_1 14 rfl rfl)
theorem dX13_cut_41 : decode cX13_cut 41 = .ok (.bipush 14, 2) := dk_16 14 (dk_at dksX13_cut_1 17 rfl rfl)
theorem dX13_cut_43 : decode cX13_cut 43 = .ok (.iload_n 1, 1) := dk_27 (dk_at dksX13_cut_1 19 rfl rfl)
theorem dX13_cut_44 : decode cX13_cut 44 = .ok (.iadd, 1) := dk_96 (dk_at dksX13_cut_1 20 rfl rfl)
theorem dX13_cut_45 : decode cX13_cut 45 = .ok (.iconst 0, 1) := dk_3 (dk_at dksX13_cut_1 21 rfl rfl)
theorem dX13_cut_46 : decode cX13_cut 46 = .ok (.iastore, 1) := dk_79 (dk_at dksX13_cut_1 22 rfl rfl)
theorem dX13_cut_47 : decode cX13_cut 47 = .ok (.aload_n 0, 1) := dk_42 (dk_at dksX13_cut_1 23 rfl rfl)
theorem dX13_cut_48 : decode cX13_cut 48 = .ok (.getfield 131, 3) := dk_180 0 131 (dk_at dksX13_cut_2 0 rfl rfl)
theorem dX13_cut_51 : decode cX13_cut 51 = .ok (.bipush 21, 2) := dk_16 21 (dk_at dksX13_cut_2 3 rfl rfl)
theorem dX13_cut_53 : decode cX13_cut 53 = .ok (.iload_n 1, 1) := dk_27 (dk_at dksX13_cut_2 5 rfl rfl)
theorem dX13_cut_54 : decode cX13_cut 54 = .ok (.iadd, 1) := dk_96 (dk_at dksX13_cut_2 6 rfl rfl)
theorem dX13_cut_55 : decode cX13_cut 55 = .ok (.iconst 1, 1) := dk_4 (dk_at dksX13_cut_2 7 rfl rfl)
theorem dX13_cut_56 : decode cX13_cut 56 = .ok (.iastore, 1) := dk_79 (dk_at dksX13_cut_2 8 rfl rfl)
theorem dX13_cut_57 : decode cX13_cut 57 = .ok (.aload_n 0, 1) := dk_42 (dk_at dksX13_cut_2 9 rfl rfl)
theorem dX13_cut_58 : decode cX13_cut 58 = .ok (.invokevirtual 404, 3) := dk_182 1 148 (dk_at dksX13_cut_2 10 rfl rfl)
theorem dX13_cut_61 : decode cX13_cut 61 = .ok (.iload_n 2, 1) := dk_28 (dk_at dksX13_cut_2 13 rfl rfl)
theorem dX13_cut_62 : decode cX13_cut 62 = .ok (.ireturn, 1) := dk_172 (dk_at dksX13_cut_2 14 rfl rfl)
abbrev cX13_run : ByteArray := prog_21_method_65_code
def yX13_run : MethodName := ⟨RX13, "run", "(I)I"⟩
def dkwX13_run_2 : List UInt8 := [182, 1, 148, 42, 180, 0, 128, 16, 28, 46, 172]
abbrev dktX13_run_2 : List UInt8 := dkwX13_run_2 ++ []
def dkwX13_run_1 : List UInt8 := [172, 42, 182, 1, 141, 3, 61, 28, 27, 162, 0, 13, 42, 182, 1, 151, 132, 2, 1, 167, 255, 244, 42]
abbrev dktX13_run_1 : List UInt8 := dkwX13_run_1 ++ dktX13_run_2
def dkwX13_run_0 : List UInt8 := [27, 3, 17, 0, 200, 184, 1, 89, 154, 0, 5, 2, 172, 27, 154, 0, 11, 42, 180, 0, 128, 16, 28, 46]
abbrev dktX13_run_0 : List UInt8 := dkwX13_run_0 ++ dktX13_run_1
theorem dksX13_run_0 : cX13_run.data.toList.drop 0 = dktX13_run_0 := by decide +kernel
theorem dksX13_run_1 : cX13_run.data.toList.drop 24 = dktX13_run_1 := dk_seg dksX13_run_0 24 rfl rfl
theorem dksX13_run_2 : cX13_run.data.toList.drop 47 = dktX13_run_2 := dk_seg dksX13_run_1 23 rfl rfl
theorem dX13_run_0 : decode cX13_run 0 = .ok (.iload_n 1, 1) := dk_27 (dk_at dksX13_run_0 0 rfl rfl)
theorem dX13_run_1 : decode cX13_run 1 = .ok (.iconst 0, 1) := dk_3 (dk_at dksX13_run_0 1 rfl rfl)
theorem dX13_run_2 : decode cX13_run 2 = .ok (.sipush 200, 3) := dk_17 0 200 (dk_at dksX13_run_0 2 rfl rfl)
theorem dX13_run_5 : decode cX13_run 5 = .ok (.invokestatic 345, 3) := dk_184 1 89 (dk_at dksX13_run_0 5 rfl rfl)
theorem dX13_run_8 : decode cX13_run 8 = .ok (.ifCond .ne 5, 3) := dk_154 0 5 (dk_at dksX13_run_0 8 rfl rfl)
theorem dX13_run_11 : decode cX13_run 11 = .ok (.iconst (-1), 1) := dk_2 (dk_at dksX13_run_0 11 rfl rfl)
theorem dX13_run_12 : decode cX13_run 12 = .ok (.ireturn, 1) := dk_172 (dk_at dksX13_run_0 12 rfl rfl)
theorem dX13_run_13 : decode cX13_run 13 = .ok (.iload_n 1, 1) := dk_27 (dk_at dksX13_run_0 13 rfl rfl)
theorem dX13_run_14 : decode cX13_run 14 = .ok (.ifCond .ne 11, 3) := dk_154 0 11 (dk_at dksX13_run_0 14 rfl rfl)
theorem dX13_run_17 : decode cX13_run 17 = .ok (.aload_n 0, 1) := dk_42 (dk_at dksX13_run_0 17 rfl rfl)
theorem dX13_run_18 : decode cX13_run 18 = .ok (.getfield 128, 3) := dk_180 0 128 (dk_at dksX13_run_0 18 rfl rfl)
theorem dX13_run_21 : decode cX13_run 21 = .ok (.bipush 28, 2) := dk_16 28 (dk_at dksX13_run_0 21 rfl rfl)
theorem dX13_run_23 : decode cX13_run 23 = .ok (.iaload, 1) := dk_46 (dk_at dksX13_run_0 23 rfl rfl)
theorem dX13_run_24 : decode cX13_run 24 = .ok (.ireturn, 1) := dk_172 (dk_at dksX13_run_1 0 rfl rfl)
theorem dX13_run_25 : decode cX13_run 25 = .ok (.aload_n 0, 1) := dk_42 (dk_at dksX13_run_1 1 rfl rfl)
theorem dX13_run_26 : decode cX13_run 26 = .ok (.invokevirtual 397, 3) := dk_182 1 141 (dk_at dksX13_run_1 2 rfl rfl)
theorem dX13_run_29 : decode cX13_run 29 = .ok (.iconst 0, 1) := dk_3 (dk_at dksX13_run_1 5 rfl rfl)
theorem dX13_run_30 : decode cX13_run 30 = .ok (.istore_n 2, 1) := dk_61 (dk_at dksX13_run_1 6 rfl rfl)
theorem dX13_run_31 : decode cX13_run 31 = .ok (.iload_n 2, 1) := dk_28 (dk_at dksX13_run_1 7 rfl rfl)
theorem dX13_run_32 : decode cX13_run 32 = .ok (.iload_n 1, 1) := dk_27 (dk_at dksX13_run_1 8 rfl rfl)
theorem dX13_run_33 : decode cX13_run 33 = .ok (.if_icmp .ge 13, 3) := dk_162 0 13 (dk_at dksX13_run_1 9 rfl rfl)
theorem dX13_run_36 : decode cX13_run 36 = .ok (.aload_n 0, 1) := dk_42 (dk_at dksX13_run_1 12 rfl rfl)
theorem dX13_run_37 : decode cX13_run 37 = .ok (.invokevirtual 407, 3) := dk_182 1 151 (dk_at dksX13_run_1 13 rfl rfl)
theorem dX13_run_40 : decode cX13_run 40 = .ok (.iinc 2 1, 3) := dk_132 2 1 (dk_at dksX13_run_1 16 rfl rfl)
theorem dX13_run_43 : decode cX13_run 43 = .ok (.goto (-12), 3) := dk_167 255 244 (dk_at dksX13_run_1 19 rfl rfl)
theorem dX13_run_46 : decode cX13_run 46 = .ok (.aload_n 0, 1) := dk_42 (dk_at dksX13_run_1 22 rfl rfl)
theorem dX13_run_47 : decode cX13_run 47 = .ok (.invokevirtual 404, 3) := dk_182 1 148 (dk_at dksX13_run_2 0 rfl rfl)
theorem dX13_run_50 : decode cX13_run 50 = .ok (.aload_n 0, 1) := dk_42 (dk_at dksX13_run_2 3 rfl rfl)
theorem dX13_run_51 : decode cX13_run 51 = .ok (.getfield 128, 3) := dk_180 0 128 (dk_at dksX13_run_2 4 rfl rfl)
theorem dX13_run_54 : decode cX13_run 54 = .ok (.bipush 28, 2) := dk_16 28 (dk_at dksX13_run_2 7 rfl rfl)
theorem dX13_run_56 : decode cX13_run 56 = .ok (.iaload, 1) := dk_46 (dk_at dksX13_run_2 9 rfl rfl)
theorem dX13_run_57 : decode cX13_run 57 = .ok (.ireturn, 1) := dk_172 (dk_at dksX13_run_2 10 rfl rfl)
abbrev cX13_minuteGoes : ByteArray := prog_21_method_56_code
def yX13_minuteGoes : MethodName := ⟨RX13, "minuteGoes", "()V"⟩
def dkwX13_minuteGoes_4 : List UInt8 := [96, 79, 177]
abbrev dktX13_minuteGoes_4 : List UInt8 := dkwX13_minuteGoes_4 ++ []
def dkwX13_minuteGoes_3 : List UInt8 := [160, 0, 9, 42, 27, 182, 1, 135, 87, 132, 1, 1, 167, 255, 175, 42, 180, 0, 131, 16, 28, 92, 46, 4]
abbrev dktX13_minuteGoes_3 : List UInt8 := dkwX13_minuteGoes_3 ++ dktX13_minuteGoes_4
def dkwX13_minuteGoes_2 : List UInt8 := [27, 182, 1, 129, 61, 28, 4, 7, 184, 1, 89, 153, 0, 10, 42, 27, 28, 182, 1, 132, 87, 28, 8]
abbrev dktX13_minuteGoes_2 : List UInt8 := dkwX13_minuteGoes_2 ++ dktX13_minuteGoes_3
def dkwX13_minuteGoes_1 : List UInt8 := [4, 159, 0, 55, 42, 180, 0, 131, 16, 28, 46, 42, 180, 0, 134, 27, 46, 162, 0, 6, 167, 0, 36, 42]
abbrev dktX13_minuteGoes_1 : List UInt8 := dkwX13_minuteGoes_1 ++ dktX13_minuteGoes_2
def dkwX13_minuteGoes_0 : List UInt8 := [3, 60, 27, 42, 180, 0, 49, 42, 180, 1, 2, 46, 162, 0, 74, 42, 180, 0, 131, 16, 21, 27, 96, 46]
abbrev dktX13_minuteGoes_0 : List UInt8 := dkwX13_minuteGoes_0 ++ dktX13_minuteGoes_1
theorem dksX13_minuteGoes_0 : cX13_minuteGoes.data.toList.drop 0 = dktX13_minuteGoes_0 := by decide +kernel
theorem dksX13_minuteGoes_1 : cX13_minuteGoes.data.toList.drop 24 = dktX13_minuteGoes_1 := dk_seg dksX13_minuteGoes_0 24 rfl rfl
theorem dksX13_minuteGoes_2 : cX13_minuteGoes.data.toList.drop 48 = dktX13_minuteGoes_2 := dk_seg dksX13_minuteGoes_1 24 rfl rfl
theorem dksX13_minuteGoes_3 : cX13_minuteGoes.data.toList.drop 71 = dktX13_minuteGoes_3 := dk_seg dksX13_minuteGoes_2 23 rfl rfl
theorem dksX13_minuteGoes_4 : cX13_minuteGoes.data.toList.drop 95 = dktX13_minuteGoes_4 := dk_seg dksX13_minuteGoes_3 24 rfl rfl
theorem dX13_minuteGoes_0 : decode cX13_minuteGoes 0 = .ok (.iconst 0, 1) := dk_3 (dk_at dksX13_minuteGoes_0 0 rfl rfl)
theorem dX13_minuteGoes_1 : decode cX13_minuteGoes 1 = .ok (.istore_n 1, 1) := dk_60 (dk_at dksX13_minuteGoes_0 1 rfl rfl)
theorem dX13_minuteGoes_2 : decode cX13_minuteGoes 2 = .ok (.iload_n 1, 1) := dk_27 (dk_at dksX13_minuteGoes_0 2 rfl rfl)
theorem dX13_minuteGoes_3 : decode cX13_minuteGoes 3 = .ok (.aload_n 0, 1) := dk_42 (dk_at dksX13_minuteGoes_0 3 rfl rfl)
theorem dX13_minuteGoes_4 : decode cX13_minuteGoes 4 = .ok (.getfield 49, 3) := dk_180 0 49 (dk_at dksX13_minuteGoes_0 4 rfl rfl)
theorem dX13_minuteGoes_7 : decode cX13_minuteGoes 7 = .ok (.aload_n 0, 1) := dk_42 (dk_at dksX13_minuteGoes_0 7 rfl rfl)
theorem dX13_minuteGoes_8 : decode cX13_minuteGoes 8 = .ok (.getfield 258, 3) := dk_180 1 2 (dk_at dksX13_minuteGoes_0 8 rfl rfl)
theorem dX13_minuteGoes_11 : decode cX13_minuteGoes 11 = .ok (.iaload, 1) := dk_46 (dk_at dksX13_minuteGoes_0 11 rfl rfl)
theorem dX13_minuteGoes_12 : decode cX13_minuteGoes 12 = .ok (.if_icmp .ge 74, 3) := dk_162 0 74 (dk_at dksX13_minuteGoes_0 12 rfl rfl)
theorem dX13_minuteGoes_15 : decode cX13_minuteGoes 15 = .ok (.aload_n 0, 1) := dk_42 (dk_at dksX13_minuteGoes_0 15 rfl rfl)
theorem dX13_minuteGoes_16 : decode cX13_minuteGoes 16 = .ok (.getfield 131, 3) := dk_180 0 131 (dk_at dksX13_minuteGoes_0 16 rfl rfl)
theorem dX13_minuteGoes_19 : decode cX13_minuteGoes 19 = .ok (.bipush 21, 2) := dk_16 21 (dk_at dksX13_minuteGoes_0 19 rfl rfl)
theorem dX13_minuteGoes_21 : decode cX13_minuteGoes 21 = .ok (.iload_n 1, 1) := dk_27 (dk_at dksX13_minuteGoes_0 21 rfl rfl)
theorem dX13_minuteGoes_22 : decode cX13_minuteGoes 22 = .ok (.iadd, 1) := dk_96 (dk_at dksX13_minuteGoes_0 22 rfl rfl)
theorem dX13_minuteGoes_23 : decode cX13_minuteGoes 23 = .ok (.iaload, 1) := dk_46 (dk_at dksX13_minuteGoes_0 23 rfl rfl)
theorem dX13_minuteGoes_24 : decode cX13_minuteGoes 24 = .ok (.iconst 1, 1) := dk_4 (dk_at dksX13_minuteGoes_1 0 rfl rfl)
theorem dX13_minuteGoes_25 : decode cX13_minuteGoes 25 = .ok (.if_icmp .eq 55, 3) := dk_159 0 55 (dk_at dksX13_minuteGoes_1 1 rfl rfl)
theorem dX13_minuteGoes_28 : decode cX13_minuteGoes 28 = .ok (.aload_n 0, 1) := dk_42 (dk_at dksX13_minuteGoes_1 4 rfl rfl)
theorem dX13_minuteGoes_29 : decode cX13_minuteGoes 29 = .ok (.getfield 131, 3) := dk_180 0 131 (dk_at dksX13_minuteGoes_1 5 rfl rfl)
theorem dX13_minuteGoes_32 : decode cX13_minuteGoes 32 = .ok (.bipush 28, 2) := dk_16 28 (dk_at dksX13_minuteGoes_1 8 rfl rfl)
theorem dX13_minuteGoes_34 : decode cX13_minuteGoes 34 = .ok (.iaload, 1) := dk_46 (dk_at dksX13_minuteGoes_1 10 rfl rfl)
theorem dX13_minuteGoes_35 : decode cX13_minuteGoes 35 = .ok (.aload_n 0, 1) := dk_42 (dk_at dksX13_minuteGoes_1 11 rfl rfl)
theorem dX13_minuteGoes_36 : decode cX13_minuteGoes 36 = .ok (.getfield 134, 3) := dk_180 0 134 (dk_at dksX13_minuteGoes_1 12 rfl rfl)
theorem dX13_minuteGoes_39 : decode cX13_minuteGoes 39 = .ok (.iload_n 1, 1) := dk_27 (dk_at dksX13_minuteGoes_1 15 rfl rfl)
theorem dX13_minuteGoes_40 : decode cX13_minuteGoes 40 = .ok (.iaload, 1) := dk_46 (dk_at dksX13_minuteGoes_1 16 rfl rfl)
theorem dX13_minuteGoes_41 : decode cX13_minuteGoes 41 = .ok (.if_icmp .ge 6, 3) := dk_162 0 6 (dk_at dksX13_minuteGoes_1 17 rfl rfl)
theorem dX13_minuteGoes_44 : decode cX13_minuteGoes 44 = .ok (.goto 36, 3) := dk_167 0 36 (dk_at dksX13_minuteGoes_1 20 rfl rfl)
theorem dX13_minuteGoes_47 : decode cX13_minuteGoes 47 = .ok (.aload_n 0, 1) := dk_42 (dk_at dksX13_minuteGoes_1 23 rfl rfl)
theorem dX13_minuteGoes_48 : decode cX13_minuteGoes 48 = .ok (.iload_n 1, 1) := dk_27 (dk_at dksX13_minuteGoes_2 0 rfl rfl)
theorem dX13_minuteGoes_49 : decode cX13_minuteGoes 49 = .ok (.invokevirtual 385, 3) := dk_182 1 129 (dk_at dksX13_minuteGoes_2 1 rfl rfl)
theorem dX13_minuteGoes_52 : decode cX13_minuteGoes 52 = .ok (.istore_n 2, 1) := dk_61 (dk_at dksX13_minuteGoes_2 4 rfl rfl)
theorem dX13_minuteGoes_53 : decode cX13_minuteGoes 53 = .ok (.iload_n 2, 1) := dk_28 (dk_at dksX13_minuteGoes_2 5 rfl rfl)
theorem dX13_minuteGoes_54 : decode cX13_minuteGoes 54 = .ok (.iconst 1, 1) := dk_4 (dk_at dksX13_minuteGoes_2 6 rfl rfl)
theorem dX13_minuteGoes_55 : decode cX13_minuteGoes 55 = .ok (.iconst 4, 1) := dk_7 (dk_at dksX13_minuteGoes_2 7 rfl rfl)
theorem dX13_minuteGoes_56 : decode cX13_minuteGoes 56 = .ok (.invokestatic 345, 3) := dk_184 1 89 (dk_at dksX13_minuteGoes_2 8 rfl rfl)
theorem dX13_minuteGoes_59 : decode cX13_minuteGoes 59 = .ok (.ifCond .eq 10, 3) := dk_153 0 10 (dk_at dksX13_minuteGoes_2 11 rfl rfl)
theorem dX13_minuteGoes_62 : decode cX13_minuteGoes 62 = .ok (.aload_n 0, 1) := dk_42 (dk_at dksX13_minuteGoes_2 14 rfl rfl)
theorem dX13_minuteGoes_63 : decode cX13_minuteGoes 63 = .ok (.iload_n 1, 1) := dk_27 (dk_at dksX13_minuteGoes_2 15 rfl rfl)
theorem dX13_minuteGoes_64 : decode cX13_minuteGoes 64 = .ok (.iload_n 2, 1) := dk_28 (dk_at dksX13_minuteGoes_2 16 rfl rfl)
theorem dX13_minuteGoes_65 : decode cX13_minuteGoes 65 = .ok (.invokevirtual 388, 3) := dk_182 1 132 (dk_at dksX13_minuteGoes_2 17 rfl rfl)
theorem dX13_minuteGoes_68 : decode cX13_minuteGoes 68 = .ok (.pop, 1) := dk_87 (dk_at dksX13_minuteGoes_2 20 rfl rfl)
theorem dX13_minuteGoes_69 : decode cX13_minuteGoes 69 = .ok (.iload_n 2, 1) := dk_28 (dk_at dksX13_minuteGoes_2 21 rfl rfl)
theorem dX13_minuteGoes_70 : decode cX13_minuteGoes 70 = .ok (.iconst 5, 1) := dk_8 (dk_at dksX13_minuteGoes_2 22 rfl rfl)
theorem dX13_minuteGoes_71 : decode cX13_minuteGoes 71 = .ok (.if_icmp .ne 9, 3) := dk_160 0 9 (dk_at dksX13_minuteGoes_3 0 rfl rfl)
theorem dX13_minuteGoes_74 : decode cX13_minuteGoes 74 = .ok (.aload_n 0, 1) := dk_42 (dk_at dksX13_minuteGoes_3 3 rfl rfl)
theorem dX13_minuteGoes_75 : decode cX13_minuteGoes 75 = .ok (.iload_n 1, 1) := dk_27 (dk_at dksX13_minuteGoes_3 4 rfl rfl)
theorem dX13_minuteGoes_76 : decode cX13_minuteGoes 76 = .ok (.invokevirtual 391, 3) := dk_182 1 135 (dk_at dksX13_minuteGoes_3 5 rfl rfl)
theorem dX13_minuteGoes_79 : decode cX13_minuteGoes 79 = .ok (.pop, 1) := dk_87 (dk_at dksX13_minuteGoes_3 8 rfl rfl)
theorem dX13_minuteGoes_80 : decode cX13_minuteGoes 80 = .ok (.iinc 1 1, 3) := dk_132 1 1 (dk_at dksX13_minuteGoes_3 9 rfl rfl)
theorem dX13_minuteGoes_83 : decode cX13_minuteGoes 83 = .ok (.goto (-81), 3) := dk_167 255 175 (dk_at dksX13_minuteGoes_3 12 rfl rfl)
theorem dX13_minuteGoes_86 : decode cX13_minuteGoes 86 = .ok (.aload_n 0, 1) := dk_42 (dk_at dksX13_minuteGoes_3 15 rfl rfl)
theorem dX13_minuteGoes_87 : decode cX13_minuteGoes 87 = .ok (.getfield 131, 3) := dk_180 0 131 (dk_at dksX13_minuteGoes_3 16 rfl rfl)
theorem dX13_minuteGoes_90 : decode cX13_minuteGoes 90 = .ok (.bipush 28, 2) := dk_16 28 (dk_at dksX13_minuteGoes_3 19 rfl rfl)
theorem dX13_minuteGoes_92 : decode cX13_minuteGoes 92 = .ok (.dup2, 1) := dk_92 (dk_at dksX13_minuteGoes_3 21 rfl rfl)
theorem dX13_minuteGoes_93 : decode cX13_minuteGoes 93 = .ok (.iaload, 1) := dk_46 (dk_at dksX13_minuteGoes_3 22 rfl rfl)
theorem dX13_minuteGoes_94 : decode cX13_minuteGoes 94 = .ok (.iconst 1, 1) := dk_4 (dk_at dksX13_minuteGoes_3 23 rfl rfl)
theorem dX13_minuteGoes_95 : decode cX13_minuteGoes 95 = .ok (.iadd, 1) := dk_96 (dk_at dksX13_minuteGoes_4 0 rfl rfl)
theorem dX13_minuteGoes_96 : decode cX13_minuteGoes 96 = .ok (.iastore, 1) := dk_79 (dk_at dksX13_minuteGoes_4 1 rfl rfl)
theorem dX13_minuteGoes_97 : decode cX13_minuteGoes 97 = .ok (.return_, 1) := dk_177 (dk_at dksX13_minuteGoes_4 2 rfl rfl)
abbrev cX13_undo : ByteArray := prog_21_method_66_code
def yX13_undo : MethodName := ⟨RX13, "undo", "()Z"⟩
def dkwX13_undo_2 : List UInt8 := [96, 46, 79, 132, 1, 1, 167, 255, 225, 4, 172]
abbrev dktX13_undo_2 : List UInt8 := dkwX13_undo_2 ++ []
def dkwX13_undo_1 : List UInt8 := [17, 5, 10, 162, 0, 30, 42, 180, 0, 128, 27, 42, 180, 0, 138, 17, 5, 10, 42, 180, 1, 27, 104, 27]
abbrev dktX13_undo_1 : List UInt8 := dkwX13_undo_1 ++ dktX13_undo_2
def dkwX13_undo_0 : List UInt8 := [42, 180, 1, 27, 154, 0, 5, 3, 172, 42, 89, 180, 1, 27, 4, 100, 181, 1, 27, 3, 60, 27]
abbrev dktX13_undo_0 : List UInt8 := dkwX13_undo_0 ++ dktX13_undo_1
theorem dksX13_undo_0 : cX13_undo.data.toList.drop 0 = dktX13_undo_0 := by decide +kernel
theorem dksX13_undo_1 : cX13_undo.data.toList.drop 22 = dktX13_undo_1 := dk_seg dksX13_undo_0 22 rfl rfl
theorem dksX13_undo_2 : cX13_undo.data.toList.drop 46 = dktX13_undo_2 := dk_seg dksX13_undo_1 24 rfl rfl
theorem dX13_undo_0 : decode cX13_undo 0 = .ok (.aload_n 0, 1) := dk_42 (dk_at dksX13_undo_0 0 rfl rfl)
theorem dX13_undo_1 : decode cX13_undo 1 = .ok (.getfield 283, 3) := dk_180 1 27 (dk_at dksX13_undo_0 1 rfl rfl)
theorem dX13_undo_4 : decode cX13_undo 4 = .ok (.ifCond .ne 5, 3) := dk_154 0 5 (dk_at dksX13_undo_0 4 rfl rfl)
theorem dX13_undo_7 : decode cX13_undo 7 = .ok (.iconst 0, 1) := dk_3 (dk_at dksX13_undo_0 7 rfl rfl)
theorem dX13_undo_8 : decode cX13_undo 8 = .ok (.ireturn, 1) := dk_172 (dk_at dksX13_undo_0 8 rfl rfl)
theorem dX13_undo_9 : decode cX13_undo 9 = .ok (.aload_n 0, 1) := dk_42 (dk_at dksX13_undo_0 9 rfl rfl)
theorem dX13_undo_10 : decode cX13_undo 10 = .ok (.dup, 1) := dk_89 (dk_at dksX13_undo_0 10 rfl rfl)
theorem dX13_undo_11 : decode cX13_undo 11 = .ok (.getfield 283, 3) := dk_180 1 27 (dk_at dksX13_undo_0 11 rfl rfl)
theorem dX13_undo_14 : decode cX13_undo 14 = .ok (.iconst 1, 1) := dk_4 (dk_at dksX13_undo_0 14 rfl rfl)
theorem dX13_undo_15 : decode cX13_undo 15 = .ok (.isub, 1) := dk_100 (dk_at dksX13_undo_0 15 rfl rfl)
theorem dX13_undo_16 : decode cX13_undo 16 = .ok (.putfield 283, 3) := dk_181 1 27 (dk_at dksX13_undo_0 16 rfl rfl)
theorem dX13_undo_19 : decode cX13_undo 19 = .ok (.iconst 0, 1) := dk_3 (dk_at dksX13_undo_0 19 rfl rfl)
theorem dX13_undo_20 : decode cX13_undo 20 = .ok (.istore_n 1, 1) := dk_60 (dk_at dksX13_undo_0 20 rfl rfl)
theorem dX13_undo_21 : decode cX13_undo 21 = .ok (.iload_n 1, 1) := dk_27 (dk_at dksX13_undo_0 21 rfl rfl)
theorem dX13_undo_22 : decode cX13_undo 22 = .ok (.sipush 1290, 3) := dk_17 5 10 (dk_at dksX13_undo_1 0 rfl rfl)
theorem dX13_undo_25 : decode cX13_undo 25 = .ok (.if_icmp .ge 30, 3) := dk_162 0 30 (dk_at dksX13_undo_1 3 rfl rfl)
theorem dX13_undo_28 : decode cX13_undo 28 = .ok (.aload_n 0, 1) := dk_42 (dk_at dksX13_undo_1 6 rfl rfl)
theorem dX13_undo_29 : decode cX13_undo 29 = .ok (.getfield 128, 3) := dk_180 0 128 (dk_at dksX13_undo_1 7 rfl rfl)
theorem dX13_undo_32 : decode cX13_undo 32 = .ok (.iload_n 1, 1) := dk_27 (dk_at dksX13_undo_1 10 rfl rfl)
theorem dX13_undo_33 : decode cX13_undo 33 = .ok (.aload_n 0, 1) := dk_42 (dk_at dksX13_undo_1 11 rfl rfl)
theorem dX13_undo_34 : decode cX13_undo 34 = .ok (.getfield 138, 3) := dk_180 0 138 (dk_at dksX13_undo_1 12 rfl rfl)
theorem dX13_undo_37 : decode cX13_undo 37 = .ok (.sipush 1290, 3) := dk_17 5 10 (dk_at dksX13_undo_1 15 rfl rfl)
theorem dX13_undo_40 : decode cX13_undo 40 = .ok (.aload_n 0, 1) := dk_42 (dk_at dksX13_undo_1 18 rfl rfl)
theorem dX13_undo_41 : decode cX13_undo 41 = .ok (.getfield 283, 3) := dk_180 1 27 (dk_at dksX13_undo_1 19 rfl rfl)
theorem dX13_undo_44 : decode cX13_undo 44 = .ok (.imul, 1) := dk_104 (dk_at dksX13_undo_1 22 rfl rfl)
theorem dX13_undo_45 : decode cX13_undo 45 = .ok (.iload_n 1, 1) := dk_27 (dk_at dksX13_undo_1 23 rfl rfl)
theorem dX13_undo_46 : decode cX13_undo 46 = .ok (.iadd, 1) := dk_96 (dk_at dksX13_undo_2 0 rfl rfl)
theorem dX13_undo_47 : decode cX13_undo 47 = .ok (.iaload, 1) := dk_46 (dk_at dksX13_undo_2 1 rfl rfl)
theorem dX13_undo_48 : decode cX13_undo 48 = .ok (.iastore, 1) := dk_79 (dk_at dksX13_undo_2 2 rfl rfl)
theorem dX13_undo_49 : decode cX13_undo 49 = .ok (.iinc 1 1, 3) := dk_132 1 1 (dk_at dksX13_undo_2 3 rfl rfl)
theorem dX13_undo_52 : decode cX13_undo 52 = .ok (.goto (-31), 3) := dk_167 255 225 (dk_at dksX13_undo_2 6 rfl rfl)
theorem dX13_undo_55 : decode cX13_undo 55 = .ok (.iconst 1, 1) := dk_4 (dk_at dksX13_undo_2 9 rfl rfl)
theorem dX13_undo_56 : decode cX13_undo 56 = .ok (.ireturn, 1) := dk_172 (dk_at dksX13_undo_2 10 rfl rfl)
abbrev cX13_over : ByteArray := prog_21_method_70_code
def yX13_over : MethodName := ⟨RX13, "over", "(II)I"⟩
def dkwX13_over_0 : List UInt8 := [42, 27, 28, 182, 1, 157, 154, 0, 5, 2, 172, 42, 182, 1, 141, 42, 27, 28, 182, 1, 154, 172]
abbrev dktX13_over_0 : List UInt8 := dkwX13_over_0 ++ []
theorem dksX13_over_0 : cX13_over.data.toList.drop 0 = dktX13_over_0 := by decide +kernel
theorem dX13_over_0 : decode cX13_over 0 = .ok (.aload_n 0, 1) := dk_42 (dk_at dksX13_over_0 0 rfl rfl)
theorem dX13_over_1 : decode cX13_over 1 = .ok (.iload_n 1, 1) := dk_27 (dk_at dksX13_over_0 1 rfl rfl)
theorem dX13_over_2 : decode cX13_over 2 = .ok (.iload_n 2, 1) := dk_28 (dk_at dksX13_over_0 2 rfl rfl)
theorem dX13_over_3 : decode cX13_over 3 = .ok (.invokevirtual 413, 3) := dk_182 1 157 (dk_at dksX13_over_0 3 rfl rfl)
theorem dX13_over_6 : decode cX13_over 6 = .ok (.ifCond .ne 5, 3) := dk_154 0 5 (dk_at dksX13_over_0 6 rfl rfl)
theorem dX13_over_9 : decode cX13_over 9 = .ok (.iconst (-1), 1) := dk_2 (dk_at dksX13_over_0 9 rfl rfl)
theorem dX13_over_10 : decode cX13_over 10 = .ok (.ireturn, 1) := dk_172 (dk_at dksX13_over_0 10 rfl rfl)
theorem dX13_over_11 : decode cX13_over 11 = .ok (.aload_n 0, 1) := dk_42 (dk_at dksX13_over_0 11 rfl rfl)
theorem dX13_over_12 : decode cX13_over 12 = .ok (.invokevirtual 397, 3) := dk_182 1 141 (dk_at dksX13_over_0 12 rfl rfl)
theorem dX13_over_15 : decode cX13_over 15 = .ok (.aload_n 0, 1) := dk_42 (dk_at dksX13_over_0 15 rfl rfl)
theorem dX13_over_16 : decode cX13_over 16 = .ok (.iload_n 1, 1) := dk_27 (dk_at dksX13_over_0 16 rfl rfl)
theorem dX13_over_17 : decode cX13_over 17 = .ok (.iload_n 2, 1) := dk_28 (dk_at dksX13_over_0 17 rfl rfl)
theorem dX13_over_18 : decode cX13_over 18 = .ok (.invokevirtual 410, 3) := dk_182 1 154 (dk_at dksX13_over_0 18 rfl rfl)
theorem dX13_over_21 : decode cX13_over 21 = .ok (.ireturn, 1) := dk_172 (dk_at dksX13_over_0 21 rfl rfl)
abbrev cX13_areTwo : ByteArray := prog_21_method_69_code
def yX13_areTwo : MethodName := ⟨RX13, "areTwo", "(II)Z"⟩
def dkwX13_areTwo_1 : List UInt8 := [167, 0, 4, 3, 172]
abbrev dktX13_areTwo_1 : List UInt8 := dkwX13_areTwo_1 ++ []
def dkwX13_areTwo_0 : List UInt8 := [42, 27, 182, 1, 138, 153, 0, 20, 42, 28, 182, 1, 138, 153, 0, 12, 27, 28, 159, 0, 7, 4]
abbrev dktX13_areTwo_0 : List UInt8 := dkwX13_areTwo_0 ++ dktX13_areTwo_1
theorem dksX13_areTwo_0 : cX13_areTwo.data.toList.drop 0 = dktX13_areTwo_0 := by decide +kernel
theorem dksX13_areTwo_1 : cX13_areTwo.data.toList.drop 22 = dktX13_areTwo_1 := dk_seg dksX13_areTwo_0 22 rfl rfl
theorem dX13_areTwo_0 : decode cX13_areTwo 0 = .ok (.aload_n 0, 1) := dk_42 (dk_at dksX13_areTwo_0 0 rfl rfl)
theorem dX13_areTwo_1 : decode cX13_areTwo 1 = .ok (.iload_n 1, 1) := dk_27 (dk_at dksX13_areTwo_0 1 rfl rfl)
theorem dX13_areTwo_2 : decode cX13_areTwo 2 = .ok (.invokevirtual 394, 3) := dk_182 1 138 (dk_at dksX13_areTwo_0 2 rfl rfl)
theorem dX13_areTwo_5 : decode cX13_areTwo 5 = .ok (.ifCond .eq 20, 3) := dk_153 0 20 (dk_at dksX13_areTwo_0 5 rfl rfl)
theorem dX13_areTwo_8 : decode cX13_areTwo 8 = .ok (.aload_n 0, 1) := dk_42 (dk_at dksX13_areTwo_0 8 rfl rfl)
theorem dX13_areTwo_9 : decode cX13_areTwo 9 = .ok (.iload_n 2, 1) := dk_28 (dk_at dksX13_areTwo_0 9 rfl rfl)
theorem dX13_areTwo_10 : decode cX13_areTwo 10 = .ok (.invokevirtual 394, 3) := dk_182 1 138 (dk_at dksX13_areTwo_0 10 rfl rfl)
theorem dX13_areTwo_13 : decode cX13_areTwo 13 = .ok (.ifCond .eq 12, 3) := dk_153 0 12 (dk_at dksX13_areTwo_0 13 rfl rfl)
theorem dX13_areTwo_16 : decode cX13_areTwo 16 = .ok (.iload_n 1, 1) := dk_27 (dk_at dksX13_areTwo_0 16 rfl rfl)
theorem dX13_areTwo_17 : decode cX13_areTwo 17 = .ok (.iload_n 2, 1) := dk_28 (dk_at dksX13_areTwo_0 17 rfl rfl)
theorem dX13_areTwo_18 : decode cX13_areTwo 18 = .ok (.if_icmp .eq 7, 3) := dk_159 0 7 (dk_at dksX13_areTwo_0 18 rfl rfl)
theorem dX13_areTwo_21 : decode cX13_areTwo 21 = .ok (.iconst 1, 1) := dk_4 (dk_at dksX13_areTwo_0 21 rfl rfl)
theorem dX13_areTwo_22 : decode cX13_areTwo 22 = .ok (.goto 4, 3) := dk_167 0 4 (dk_at dksX13_areTwo_1 0 rfl rfl)
theorem dX13_areTwo_25 : decode cX13_areTwo 25 = .ok (.iconst 0, 1) := dk_3 (dk_at dksX13_areTwo_1 3 rfl rfl)
theorem dX13_areTwo_26 : decode cX13_areTwo 26 = .ok (.ireturn, 1) := dk_172 (dk_at dksX13_areTwo_1 4 rfl rfl)
abbrev cX13_overOf : ByteArray := prog_21_method_67_code
def yX13_overOf : MethodName := ⟨RX13, "overOf", "(II)I"⟩
def dkwX13_overOf_5 : List UInt8 := [132, 4, 1, 167, 255, 145, 29, 172]
abbrev dktX13_overOf_5 : List UInt8 := dkwX13_overOf_5 ++ []
def dkwX13_overOf_4 : List UInt8 := [180, 0, 131, 17, 1, 194, 21, 7, 96, 46, 164, 0, 6, 132, 3, 1, 132, 6, 1, 167, 255, 177]
abbrev dktX13_overOf_4 : List UInt8 := dkwX13_overOf_4 ++ dktX13_overOf_5
def dkwX13_overOf_3 : List UInt8 := [17, 3, 102, 21, 7, 96, 46, 160, 0, 31, 42, 180, 0, 131, 17, 1, 194, 21, 5, 96, 46, 42]
abbrev dktX13_overOf_3 : List UInt8 := dkwX13_overOf_3 ++ dktX13_overOf_4
def dkwX13_overOf_2 : List UInt8 := [28, 104, 21, 6, 96, 54, 7, 42, 180, 0, 131, 17, 3, 102, 21, 5, 96, 46, 42, 180, 0, 131]
abbrev dktX13_overOf_2 : List UInt8 := dkwX13_overOf_2 ++ dktX13_overOf_3
def dkwX13_overOf_1 : List UInt8 := [21, 4, 96, 54, 5, 3, 54, 6, 21, 6, 42, 180, 0, 131, 16, 14, 28, 96, 46, 162, 0, 71, 16, 60]
abbrev dktX13_overOf_1 : List UInt8 := dkwX13_overOf_1 ++ dktX13_overOf_2
def dkwX13_overOf_0 : List UInt8 := [3, 62, 3, 54, 4, 21, 4, 42, 180, 0, 131, 16, 14, 27, 96, 46, 162, 0, 103, 16, 60, 27, 104]
abbrev dktX13_overOf_0 : List UInt8 := dkwX13_overOf_0 ++ dktX13_overOf_1
theorem dksX13_overOf_0 : cX13_overOf.data.toList.drop 0 = dktX13_overOf_0 := by decide +kernel
theorem dksX13_overOf_1 : cX13_overOf.data.toList.drop 23 = dktX13_overOf_1 := dk_seg dksX13_overOf_0 23 rfl rfl
theorem dksX13_overOf_2 : cX13_overOf.data.toList.drop 47 = dktX13_overOf_2 := dk_seg dksX13_overOf_1 24 rfl rfl
theorem dksX13_overOf_3 : cX13_overOf.data.toList.drop 69 = dktX13_overOf_3 := dk_seg dksX13_overOf_2 22 rfl rfl
theorem dksX13_overOf_4 : cX13_overOf.data.toList.drop 91 = dktX13_overOf_4 := dk_seg dksX13_overOf_3 22 rfl rfl
theorem dksX13_overOf_5 : cX13_overOf.data.toList.drop 113 = dktX13_overOf_5 := dk_seg dksX13_overOf_4 22 rfl rfl
theorem dX13_overOf_0 : decode cX13_overOf 0 = .ok (.iconst 0, 1) := dk_3 (dk_at dksX13_overOf_0 0 rfl rfl)
theorem dX13_overOf_1 : decode cX13_overOf 1 = .ok (.istore_n 3, 1) := dk_62 (dk_at dksX13_overOf_0 1 rfl rfl)
theorem dX13_overOf_2 : decode cX13_overOf 2 = .ok (.iconst 0, 1) := dk_3 (dk_at dksX13_overOf_0 2 rfl rfl)
theorem dX13_overOf_3 : decode cX13_overOf 3 = .ok (.istore 4, 2) := dk_54 4 (dk_at dksX13_overOf_0 3 rfl rfl)
theorem dX13_overOf_5 : decode cX13_overOf 5 = .ok (.iload 4, 2) := dk_21 4 (dk_at dksX13_overOf_0 5 rfl rfl)
theorem dX13_overOf_7 : decode cX13_overOf 7 = .ok (.aload_n 0, 1) := dk_42 (dk_at dksX13_overOf_0 7 rfl rfl)
theorem dX13_overOf_8 : decode cX13_overOf 8 = .ok (.getfield 131, 3) := dk_180 0 131 (dk_at dksX13_overOf_0 8 rfl rfl)
theorem dX13_overOf_11 : decode cX13_overOf 11 = .ok (.bipush 14, 2) := dk_16 14 (dk_at dksX13_overOf_0 11 rfl rfl)
theorem dX13_overOf_13 : decode cX13_overOf 13 = .ok (.iload_n 1, 1) := dk_27 (dk_at dksX13_overOf_0 13 rfl rfl)
theorem dX13_overOf_14 : decode cX13_overOf 14 = .ok (.iadd, 1) := dk_96 (dk_at dksX13_overOf_0 14 rfl rfl)
theorem dX13_overOf_15 : decode cX13_overOf 15 = .ok (.iaload, 1) := dk_46 (dk_at dksX13_overOf_0 15 rfl rfl)
theorem dX13_overOf_16 : decode cX13_overOf 16 = .ok (.if_icmp .ge 103, 3) := dk_162 0 103 (dk_at dksX13_overOf_0 16 rfl rfl)
theorem dX13_overOf_19 : decode cX13_overOf 19 = .ok (.bipush 60, 2) := dk_16 60 (dk_at dksX13_overOf_0 19 rfl rfl)
theorem dX13_overOf_21 : decode cX13_overOf 21 = .ok (.iload_n 1, 1) := dk_27 (dk_at dksX13_overOf_0 21 rfl rfl)
theorem dX13_overOf_22 : decode cX13_overOf 22 = .ok (.imul, 1) := dk_104 (dk_at dksX13_overOf_0 22 rfl rfl)
theorem dX13_overOf_23 : decode cX13_overOf 23 = .ok (.iload 4, 2) := dk_21 4 (dk_at dksX13_overOf_1 0 rfl rfl)
theorem dX13_overOf_25 : decode cX13_overOf 25 = .ok (.iadd, 1) := dk_96 (dk_at dksX13_overOf_1 2 rfl rfl)
theorem dX13_overOf_26 : decode cX13_overOf 26 = .ok (.istore 5, 2) := dk_54 5 (dk_at dksX13_overOf_1 3 rfl rfl)
theorem dX13_overOf_28 : decode cX13_overOf 28 = .ok (.iconst 0, 1) := dk_3 (dk_at dksX13_overOf_1 5 rfl rfl)
theorem dX13_overOf_29 : decode cX13_overOf 29 = .ok (.istore 6, 2) := dk_54 6 (dk_at dksX13_overOf_1 6 rfl rfl)
theorem dX13_overOf_31 : decode cX13_overOf 31 = .ok (.iload 6, 2) := dk_21 6 (dk_at dksX13_overOf_1 8 rfl rfl)
theorem dX13_overOf_33 : decode cX13_overOf 33 = .ok (.aload_n 0, 1) := dk_42 (dk_at dksX13_overOf_1 10 rfl rfl)
theorem dX13_overOf_34 : decode cX13_overOf 34 = .ok (.getfield 131, 3) := dk_180 0 131 (dk_at dksX13_overOf_1 11 rfl rfl)
theorem dX13_overOf_37 : decode cX13_overOf 37 = .ok (.bipush 14, 2) := dk_16 14 (dk_at dksX13_overOf_1 14 rfl rfl)
theorem dX13_overOf_39 : decode cX13_overOf 39 = .ok (.iload_n 2, 1) := dk_28 (dk_at dksX13_overOf_1 16 rfl rfl)
theorem dX13_overOf_40 : decode cX13_overOf 40 = .ok (.iadd, 1) := dk_96 (dk_at dksX13_overOf_1 17 rfl rfl)
theorem dX13_overOf_41 : decode cX13_overOf 41 = .ok (.iaload, 1) := dk_46 (dk_at dksX13_overOf_1 18 rfl rfl)
theorem dX13_overOf_42 : decode cX13_overOf 42 = .ok (.if_icmp .ge 71, 3) := dk_162 0 71 (dk_at dksX13_overOf_1 19 rfl rfl)
theorem dX13_overOf_45 : decode cX13_overOf 45 = .ok (.bipush 60, 2) := dk_16 60 (dk_at dksX13_overOf_1 22 rfl rfl)
theorem dX13_overOf_47 : decode cX13_overOf 47 = .ok (.iload_n 2, 1) := dk_28 (dk_at dksX13_overOf_2 0 rfl rfl)
theorem dX13_overOf_48 : decode cX13_overOf 48 = .ok (.imul, 1) := dk_104 (dk_at dksX13_overOf_2 1 rfl rfl)
theorem dX13_overOf_49 : decode cX13_overOf 49 = .ok (.iload 6, 2) := dk_21 6 (dk_at dksX13_overOf_2 2 rfl rfl)
theorem dX13_overOf_51 : decode cX13_overOf 51 = .ok (.iadd, 1) := dk_96 (dk_at dksX13_overOf_2 4 rfl rfl)
theorem dX13_overOf_52 : decode cX13_overOf 52 = .ok (.istore 7, 2) := dk_54 7 (dk_at dksX13_overOf_2 5 rfl rfl)
theorem dX13_overOf_54 : decode cX13_overOf 54 = .ok (.aload_n 0, 1) := dk_42 (dk_at dksX13_overOf_2 7 rfl rfl)
theorem dX13_overOf_55 : decode cX13_overOf 55 = .ok (.getfield 131, 3) := dk_180 0 131 (dk_at dksX13_overOf_2 8 rfl rfl)
theorem dX13_overOf_58 : decode cX13_overOf 58 = .ok (.sipush 870, 3) := dk_17 3 102 (dk_at dksX13_overOf_2 11 rfl rfl)
theorem dX13_overOf_61 : decode cX13_overOf 61 = .ok (.iload 5, 2) := dk_21 5 (dk_at dksX13_overOf_2 14 rfl rfl)
theorem dX13_overOf_63 : decode cX13_overOf 63 = .ok (.iadd, 1) := dk_96 (dk_at dksX13_overOf_2 16 rfl rfl)
theorem dX13_overOf_64 : decode cX13_overOf 64 = .ok (.iaload, 1) := dk_46 (dk_at dksX13_overOf_2 17 rfl rfl)
theorem dX13_overOf_65 : decode cX13_overOf 65 = .ok (.aload_n 0, 1) := dk_42 (dk_at dksX13_overOf_2 18 rfl rfl)
theorem dX13_overOf_66 : decode cX13_overOf 66 = .ok (.getfield 131, 3) := dk_180 0 131 (dk_at dksX13_overOf_2 19 rfl rfl)
theorem dX13_overOf_69 : decode cX13_overOf 69 = .ok (.sipush 870, 3) := dk_17 3 102 (dk_at dksX13_overOf_3 0 rfl rfl)
theorem dX13_overOf_72 : decode cX13_overOf 72 = .ok (.iload 7, 2) := dk_21 7 (dk_at dksX13_overOf_3 3 rfl rfl)
theorem dX13_overOf_74 : decode cX13_overOf 74 = .ok (.iadd, 1) := dk_96 (dk_at dksX13_overOf_3 5 rfl rfl)
theorem dX13_overOf_75 : decode cX13_overOf 75 = .ok (.iaload, 1) := dk_46 (dk_at dksX13_overOf_3 6 rfl rfl)
theorem dX13_overOf_76 : decode cX13_overOf 76 = .ok (.if_icmp .ne 31, 3) := dk_160 0 31 (dk_at dksX13_overOf_3 7 rfl rfl)
theorem dX13_overOf_79 : decode cX13_overOf 79 = .ok (.aload_n 0, 1) := dk_42 (dk_at dksX13_overOf_3 10 rfl rfl)
theorem dX13_overOf_80 : decode cX13_overOf 80 = .ok (.getfield 131, 3) := dk_180 0 131 (dk_at dksX13_overOf_3 11 rfl rfl)
theorem dX13_overOf_83 : decode cX13_overOf 83 = .ok (.sipush 450, 3) := dk_17 1 194 (dk_at dksX13_overOf_3 14 rfl rfl)
theorem dX13_overOf_86 : decode cX13_overOf 86 = .ok (.iload 5, 2) := dk_21 5 (dk_at dksX13_overOf_3 17 rfl rfl)
theorem dX13_overOf_88 : decode cX13_overOf 88 = .ok (.iadd, 1) := dk_96 (dk_at dksX13_overOf_3 19 rfl rfl)
theorem dX13_overOf_89 : decode cX13_overOf 89 = .ok (.iaload, 1) := dk_46 (dk_at dksX13_overOf_3 20 rfl rfl)
theorem dX13_overOf_90 : decode cX13_overOf 90 = .ok (.aload_n 0, 1) := dk_42 (dk_at dksX13_overOf_3 21 rfl rfl)
theorem dX13_overOf_91 : decode cX13_overOf 91 = .ok (.getfield 131, 3) := dk_180 0 131 (dk_at dksX13_overOf_4 0 rfl rfl)
theorem dX13_overOf_94 : decode cX13_overOf 94 = .ok (.sipush 450, 3) := dk_17 1 194 (dk_at dksX13_overOf_4 3 rfl rfl)
theorem dX13_overOf_97 : decode cX13_overOf 97 = .ok (.iload 7, 2) := dk_21 7 (dk_at dksX13_overOf_4 6 rfl rfl)
theorem dX13_overOf_99 : decode cX13_overOf 99 = .ok (.iadd, 1) := dk_96 (dk_at dksX13_overOf_4 8 rfl rfl)
theorem dX13_overOf_100 : decode cX13_overOf 100 = .ok (.iaload, 1) := dk_46 (dk_at dksX13_overOf_4 9 rfl rfl)
theorem dX13_overOf_101 : decode cX13_overOf 101 = .ok (.if_icmp .le 6, 3) := dk_164 0 6 (dk_at dksX13_overOf_4 10 rfl rfl)
theorem dX13_overOf_104 : decode cX13_overOf 104 = .ok (.iinc 3 1, 3) := dk_132 3 1 (dk_at dksX13_overOf_4 13 rfl rfl)
theorem dX13_overOf_107 : decode cX13_overOf 107 = .ok (.iinc 6 1, 3) := dk_132 6 1 (dk_at dksX13_overOf_4 16 rfl rfl)
theorem dX13_overOf_110 : decode cX13_overOf 110 = .ok (.goto (-79), 3) := dk_167 255 177 (dk_at dksX13_overOf_4 19 rfl rfl)
theorem dX13_overOf_113 : decode cX13_overOf 113 = .ok (.iinc 4 1, 3) := dk_132 4 1 (dk_at dksX13_overOf_5 0 rfl rfl)
theorem dX13_overOf_116 : decode cX13_overOf 116 = .ok (.goto (-111), 3) := dk_167 255 145 (dk_at dksX13_overOf_5 3 rfl rfl)
theorem dX13_overOf_119 : decode cX13_overOf 119 = .ok (.iload_n 3, 1) := dk_29 (dk_at dksX13_overOf_5 6 rfl rfl)
theorem dX13_overOf_120 : decode cX13_overOf 120 = .ok (.ireturn, 1) := dk_172 (dk_at dksX13_overOf_5 7 rfl rfl)
abbrev cX13_waits : ByteArray := prog_21_method_71_code
def yX13_waits : MethodName := ⟨RX13, "waits", "(I)I"⟩
def dkwX13_waits_1 : List UInt8 := [46, 172]
abbrev dktX13_waits_1 : List UInt8 := dkwX13_waits_1 ++ []
def dkwX13_waits_0 : List UInt8 := [42, 27, 182, 1, 138, 154, 0, 5, 2, 172, 42, 182, 1, 141, 42, 182, 1, 160, 87, 42, 180, 0, 141, 27]
abbrev dktX13_waits_0 : List UInt8 := dkwX13_waits_0 ++ dktX13_waits_1
theorem dksX13_waits_0 : cX13_waits.data.toList.drop 0 = dktX13_waits_0 := by decide +kernel
theorem dksX13_waits_1 : cX13_waits.data.toList.drop 24 = dktX13_waits_1 := dk_seg dksX13_waits_0 24 rfl rfl
theorem dX13_waits_0 : decode cX13_waits 0 = .ok (.aload_n 0, 1) := dk_42 (dk_at dksX13_waits_0 0 rfl rfl)
theorem dX13_waits_1 : decode cX13_waits 1 = .ok (.iload_n 1, 1) := dk_27 (dk_at dksX13_waits_0 1 rfl rfl)
theorem dX13_waits_2 : decode cX13_waits 2 = .ok (.invokevirtual 394, 3) := dk_182 1 138 (dk_at dksX13_waits_0 2 rfl rfl)
theorem dX13_waits_5 : decode cX13_waits 5 = .ok (.ifCond .ne 5, 3) := dk_154 0 5 (dk_at dksX13_waits_0 5 rfl rfl)
theorem dX13_waits_8 : decode cX13_waits 8 = .ok (.iconst (-1), 1) := dk_2 (dk_at dksX13_waits_0 8 rfl rfl)
theorem dX13_waits_9 : decode cX13_waits 9 = .ok (.ireturn, 1) := dk_172 (dk_at dksX13_waits_0 9 rfl rfl)
theorem dX13_waits_10 : decode cX13_waits 10 = .ok (.aload_n 0, 1) := dk_42 (dk_at dksX13_waits_0 10 rfl rfl)
theorem dX13_waits_11 : decode cX13_waits 11 = .ok (.invokevirtual 397, 3) := dk_182 1 141 (dk_at dksX13_waits_0 11 rfl rfl)
theorem dX13_waits_14 : decode cX13_waits 14 = .ok (.aload_n 0, 1) := dk_42 (dk_at dksX13_waits_0 14 rfl rfl)
theorem dX13_waits_15 : decode cX13_waits 15 = .ok (.invokevirtual 416, 3) := dk_182 1 160 (dk_at dksX13_waits_0 15 rfl rfl)
theorem dX13_waits_18 : decode cX13_waits 18 = .ok (.pop, 1) := dk_87 (dk_at dksX13_waits_0 18 rfl rfl)
theorem dX13_waits_19 : decode cX13_waits 19 = .ok (.aload_n 0, 1) := dk_42 (dk_at dksX13_waits_0 19 rfl rfl)
theorem dX13_waits_20 : decode cX13_waits 20 = .ok (.getfield 141, 3) := dk_180 0 141 (dk_at dksX13_waits_0 20 rfl rfl)
theorem dX13_waits_23 : decode cX13_waits 23 = .ok (.iload_n 1, 1) := dk_27 (dk_at dksX13_waits_0 23 rfl rfl)
theorem dX13_waits_24 : decode cX13_waits 24 = .ok (.iaload, 1) := dk_46 (dk_at dksX13_waits_1 0 rfl rfl)
theorem dX13_waits_25 : decode cX13_waits 25 = .ok (.ireturn, 1) := dk_172 (dk_at dksX13_waits_1 1 rfl rfl)
abbrev cX13_fillsWaits : ByteArray := prog_21_method_68_code
def yX13_fillsWaits : MethodName := ⟨RX13, "fillsWaits", "()I"⟩
def dkwX13_fillsWaits_4 : List UInt8 := [167, 255, 168, 27, 172]
abbrev dktX13_fillsWaits_4 : List UInt8 := dkwX13_fillsWaits_4 ++ []
def dkwX13_fillsWaits_3 : List UInt8 := [158, 0, 15, 42, 180, 0, 141, 28, 92, 46, 4, 29, 120, 128, 79, 132, 3, 1, 167, 255, 214, 132, 2, 1]
abbrev dktX13_fillsWaits_3 : List UInt8 := dkwX13_fillsWaits_3 ++ dktX13_fillsWaits_4
def dkwX13_fillsWaits_2 : List UInt8 := [180, 0, 49, 42, 180, 1, 2, 46, 162, 0, 35, 29, 28, 159, 0, 24, 42, 29, 28, 182, 1, 154]
abbrev dktX13_fillsWaits_2 : List UInt8 := dkwX13_fillsWaits_2 ++ dktX13_fillsWaits_3
def dkwX13_fillsWaits_1 : List UInt8 := [42, 180, 0, 131, 16, 14, 28, 96, 46, 158, 0, 9, 27, 4, 28, 120, 128, 60, 3, 62, 29, 42]
abbrev dktX13_fillsWaits_1 : List UInt8 := dkwX13_fillsWaits_1 ++ dktX13_fillsWaits_2
def dkwX13_fillsWaits_0 : List UInt8 := [3, 60, 3, 61, 28, 42, 180, 0, 49, 42, 180, 1, 2, 46, 162, 0, 81, 42, 180, 0, 141, 28, 3, 79]
abbrev dktX13_fillsWaits_0 : List UInt8 := dkwX13_fillsWaits_0 ++ dktX13_fillsWaits_1
theorem dksX13_fillsWaits_0 : cX13_fillsWaits.data.toList.drop 0 = dktX13_fillsWaits_0 := by decide +kernel
theorem dksX13_fillsWaits_1 : cX13_fillsWaits.data.toList.drop 24 = dktX13_fillsWaits_1 := dk_seg dksX13_fillsWaits_0 24 rfl rfl
theorem dksX13_fillsWaits_2 : cX13_fillsWaits.data.toList.drop 46 = dktX13_fillsWaits_2 := dk_seg dksX13_fillsWaits_1 22 rfl rfl
theorem dksX13_fillsWaits_3 : cX13_fillsWaits.data.toList.drop 68 = dktX13_fillsWaits_3 := dk_seg dksX13_fillsWaits_2 22 rfl rfl
theorem dksX13_fillsWaits_4 : cX13_fillsWaits.data.toList.drop 92 = dktX13_fillsWaits_4 := dk_seg dksX13_fillsWaits_3 24 rfl rfl
theorem dX13_fillsWaits_0 : decode cX13_fillsWaits 0 = .ok (.iconst 0, 1) := dk_3 (dk_at dksX13_fillsWaits_0 0 rfl rfl)
theorem dX13_fillsWaits_1 : decode cX13_fillsWaits 1 = .ok (.istore_n 1, 1) := dk_60 (dk_at dksX13_fillsWaits_0 1 rfl rfl)
theorem dX13_fillsWaits_2 : decode cX13_fillsWaits 2 = .ok (.iconst 0, 1) := dk_3 (dk_at dksX13_fillsWaits_0 2 rfl rfl)
theorem dX13_fillsWaits_3 : decode cX13_fillsWaits 3 = .ok (.istore_n 2, 1) := dk_61 (dk_at dksX13_fillsWaits_0 3 rfl rfl)
theorem dX13_fillsWaits_4 : decode cX13_fillsWaits 4 = .ok (.iload_n 2, 1) := dk_28 (dk_at dksX13_fillsWaits_0 4 rfl rfl)
theorem dX13_fillsWaits_5 : decode cX13_fillsWaits 5 = .ok (.aload_n 0, 1) := dk_42 (dk_at dksX13_fillsWaits_0 5 rfl rfl)
theorem dX13_fillsWaits_6 : decode cX13_fillsWaits 6 = .ok (.getfield 49, 3) := dk_180 0 49 (dk_at dksX13_fillsWaits_0 6 rfl rfl)
theorem dX13_fillsWaits_9 : decode cX13_fillsWaits 9 = .ok (.aload_n 0, 1) := dk_42 (dk_at dksX13_fillsWaits_0 9 rfl rfl)
theorem dX13_fillsWaits_10 : decode cX13_fillsWaits 10 = .ok (.getfield 258, 3) := dk_180 1 2 (dk_at dksX13_fillsWaits_0 10 rfl rfl)
theorem dX13_fillsWaits_13 : decode cX13_fillsWaits 13 = .ok (.iaload, 1) := dk_46 (dk_at dksX13_fillsWaits_0 13 rfl rfl)
theorem dX13_fillsWaits_14 : decode cX13_fillsWaits 14 = .ok (.if_icmp .ge 81, 3) := dk_162 0 81 (dk_at dksX13_fillsWaits_0 14 rfl rfl)
theorem dX13_fillsWaits_17 : decode cX13_fillsWaits 17 = .ok (.aload_n 0, 1) := dk_42 (dk_at dksX13_fillsWaits_0 17 rfl rfl)
theorem dX13_fillsWaits_18 : decode cX13_fillsWaits 18 = .ok (.getfield 141, 3) := dk_180 0 141 (dk_at dksX13_fillsWaits_0 18 rfl rfl)
theorem dX13_fillsWaits_21 : decode cX13_fillsWaits 21 = .ok (.iload_n 2, 1) := dk_28 (dk_at dksX13_fillsWaits_0 21 rfl rfl)
theorem dX13_fillsWaits_22 : decode cX13_fillsWaits 22 = .ok (.iconst 0, 1) := dk_3 (dk_at dksX13_fillsWaits_0 22 rfl rfl)
theorem dX13_fillsWaits_23 : decode cX13_fillsWaits 23 = .ok (.iastore, 1) := dk_79 (dk_at dksX13_fillsWaits_0 23 rfl rfl)
theorem dX13_fillsWaits_24 : decode cX13_fillsWaits 24 = .ok (.aload_n 0, 1) := dk_42 (dk_at dksX13_fillsWaits_1 0 rfl rfl)
theorem dX13_fillsWaits_25 : decode cX13_fillsWaits 25 = .ok (.getfield 131, 3) := dk_180 0 131 (dk_at dksX13_fillsWaits_1 1 rfl rfl)
theorem dX13_fillsWaits_28 : decode cX13_fillsWaits 28 = .ok (.bipush 14, 2) := dk_16 14 (dk_at dksX13_fillsWaits_1 4 rfl rfl)
theorem dX13_fillsWaits_30 : decode cX13_fillsWaits 30 = .ok (.iload_n 2, 1) := dk_28 (dk_at dksX13_fillsWaits_1 6 rfl rfl)
theorem dX13_fillsWaits_31 : decode cX13_fillsWaits 31 = .ok (.iadd, 1) := dk_96 (dk_at dksX13_fillsWaits_1 7 rfl rfl)
theorem dX13_fillsWaits_32 : decode cX13_fillsWaits 32 = .ok (.iaload, 1) := dk_46 (dk_at dksX13_fillsWaits_1 8 rfl rfl)
theorem dX13_fillsWaits_33 : decode cX13_fillsWaits 33 = .ok (.ifCond .le 9, 3) := dk_158 0 9 (dk_at dksX13_fillsWaits_1 9 rfl rfl)
theorem dX13_fillsWaits_36 : decode cX13_fillsWaits 36 = .ok (.iload_n 1, 1) := dk_27 (dk_at dksX13_fillsWaits_1 12 rfl rfl)
theorem dX13_fillsWaits_37 : decode cX13_fillsWaits 37 = .ok (.iconst 1, 1) := dk_4 (dk_at dksX13_fillsWaits_1 13 rfl rfl)
theorem dX13_fillsWaits_38 : decode cX13_fillsWaits 38 = .ok (.iload_n 2, 1) := dk_28 (dk_at dksX13_fillsWaits_1 14 rfl rfl)
theorem dX13_fillsWaits_39 : decode cX13_fillsWaits 39 = .ok (.ishl, 1) := dk_120 (dk_at dksX13_fillsWaits_1 15 rfl rfl)
theorem dX13_fillsWaits_40 : decode cX13_fillsWaits 40 = .ok (.ior, 1) := dk_128 (dk_at dksX13_fillsWaits_1 16 rfl rfl)
theorem dX13_fillsWaits_41 : decode cX13_fillsWaits 41 = .ok (.istore_n 1, 1) := dk_60 (dk_at dksX13_fillsWaits_1 17 rfl rfl)
theorem dX13_fillsWaits_42 : decode cX13_fillsWaits 42 = .ok (.iconst 0, 1) := dk_3 (dk_at dksX13_fillsWaits_1 18 rfl rfl)
theorem dX13_fillsWaits_43 : decode cX13_fillsWaits 43 = .ok (.istore_n 3, 1) := dk_62 (dk_at dksX13_fillsWaits_1 19 rfl rfl)
theorem dX13_fillsWaits_44 : decode cX13_fillsWaits 44 = .ok (.iload_n 3, 1) := dk_29 (dk_at dksX13_fillsWaits_1 20 rfl rfl)
theorem dX13_fillsWaits_45 : decode cX13_fillsWaits 45 = .ok (.aload_n 0, 1) := dk_42 (dk_at dksX13_fillsWaits_1 21 rfl rfl)
theorem dX13_fillsWaits_46 : decode cX13_fillsWaits 46 = .ok (.getfield 49, 3) := dk_180 0 49 (dk_at dksX13_fillsWaits_2 0 rfl rfl)
theorem dX13_fillsWaits_49 : decode cX13_fillsWaits 49 = .ok (.aload_n 0, 1) := dk_42 (dk_at dksX13_fillsWaits_2 3 rfl rfl)
theorem dX13_fillsWaits_50 : decode cX13_fillsWaits 50 = .ok (.getfield 258, 3) := dk_180 1 2 (dk_at dksX13_fillsWaits_2 4 rfl rfl)
theorem dX13_fillsWaits_53 : decode cX13_fillsWaits 53 = .ok (.iaload, 1) := dk_46 (dk_at dksX13_fillsWaits_2 7 rfl rfl)
theorem dX13_fillsWaits_54 : decode cX13_fillsWaits 54 = .ok (.if_icmp .ge 35, 3) := dk_162 0 35 (dk_at dksX13_fillsWaits_2 8 rfl rfl)
theorem dX13_fillsWaits_57 : decode cX13_fillsWaits 57 = .ok (.iload_n 3, 1) := dk_29 (dk_at dksX13_fillsWaits_2 11 rfl rfl)
theorem dX13_fillsWaits_58 : decode cX13_fillsWaits 58 = .ok (.iload_n 2, 1) := dk_28 (dk_at dksX13_fillsWaits_2 12 rfl rfl)
theorem dX13_fillsWaits_59 : decode cX13_fillsWaits 59 = .ok (.if_icmp .eq 24, 3) := dk_159 0 24 (dk_at dksX13_fillsWaits_2 13 rfl rfl)
theorem dX13_fillsWaits_62 : decode cX13_fillsWaits 62 = .ok (.aload_n 0, 1) := dk_42 (dk_at dksX13_fillsWaits_2 16 rfl rfl)
theorem dX13_fillsWaits_63 : decode cX13_fillsWaits 63 = .ok (.iload_n 3, 1) := dk_29 (dk_at dksX13_fillsWaits_2 17 rfl rfl)
theorem dX13_fillsWaits_64 : decode cX13_fillsWaits 64 = .ok (.iload_n 2, 1) := dk_28 (dk_at dksX13_fillsWaits_2 18 rfl rfl)
theorem dX13_fillsWaits_65 : decode cX13_fillsWaits 65 = .ok (.invokevirtual 410, 3) := dk_182 1 154 (dk_at dksX13_fillsWaits_2 19 rfl rfl)
theorem dX13_fillsWaits_68 : decode cX13_fillsWaits 68 = .ok (.ifCond .le 15, 3) := dk_158 0 15 (dk_at dksX13_fillsWaits_3 0 rfl rfl)
theorem dX13_fillsWaits_71 : decode cX13_fillsWaits 71 = .ok (.aload_n 0, 1) := dk_42 (dk_at dksX13_fillsWaits_3 3 rfl rfl)
theorem dX13_fillsWaits_72 : decode cX13_fillsWaits 72 = .ok (.getfield 141, 3) := dk_180 0 141 (dk_at dksX13_fillsWaits_3 4 rfl rfl)
theorem dX13_fillsWaits_75 : decode cX13_fillsWaits 75 = .ok (.iload_n 2, 1) := dk_28 (dk_at dksX13_fillsWaits_3 7 rfl rfl)
theorem dX13_fillsWaits_76 : decode cX13_fillsWaits 76 = .ok (.dup2, 1) := dk_92 (dk_at dksX13_fillsWaits_3 8 rfl rfl)
theorem dX13_fillsWaits_77 : decode cX13_fillsWaits 77 = .ok (.iaload, 1) := dk_46 (dk_at dksX13_fillsWaits_3 9 rfl rfl)
theorem dX13_fillsWaits_78 : decode cX13_fillsWaits 78 = .ok (.iconst 1, 1) := dk_4 (dk_at dksX13_fillsWaits_3 10 rfl rfl)
theorem dX13_fillsWaits_79 : decode cX13_fillsWaits 79 = .ok (.iload_n 3, 1) := dk_29 (dk_at dksX13_fillsWaits_3 11 rfl rfl)
theorem dX13_fillsWaits_80 : decode cX13_fillsWaits 80 = .ok (.ishl, 1) := dk_120 (dk_at dksX13_fillsWaits_3 12 rfl rfl)
theorem dX13_fillsWaits_81 : decode cX13_fillsWaits 81 = .ok (.ior, 1) := dk_128 (dk_at dksX13_fillsWaits_3 13 rfl rfl)
theorem dX13_fillsWaits_82 : decode cX13_fillsWaits 82 = .ok (.iastore, 1) := dk_79 (dk_at dksX13_fillsWaits_3 14 rfl rfl)
theorem dX13_fillsWaits_83 : decode cX13_fillsWaits 83 = .ok (.iinc 3 1, 3) := dk_132 3 1 (dk_at dksX13_fillsWaits_3 15 rfl rfl)
theorem dX13_fillsWaits_86 : decode cX13_fillsWaits 86 = .ok (.goto (-42), 3) := dk_167 255 214 (dk_at dksX13_fillsWaits_3 18 rfl rfl)
theorem dX13_fillsWaits_89 : decode cX13_fillsWaits 89 = .ok (.iinc 2 1, 3) := dk_132 2 1 (dk_at dksX13_fillsWaits_3 21 rfl rfl)
theorem dX13_fillsWaits_92 : decode cX13_fillsWaits 92 = .ok (.goto (-88), 3) := dk_167 255 168 (dk_at dksX13_fillsWaits_4 0 rfl rfl)
theorem dX13_fillsWaits_95 : decode cX13_fillsWaits 95 = .ok (.iload_n 1, 1) := dk_27 (dk_at dksX13_fillsWaits_4 3 rfl rfl)
theorem dX13_fillsWaits_96 : decode cX13_fillsWaits 96 = .ok (.ireturn, 1) := dk_172 (dk_at dksX13_fillsWaits_4 4 rfl rfl)
abbrev cX13_orders : ByteArray := prog_21_method_73_code
def yX13_orders : MethodName := ⟨RX13, "orders", "()I"⟩
def dkwX13_orders_0 : List UInt8 := [42, 182, 1, 141, 42, 182, 1, 160, 60, 42, 182, 1, 163, 42, 180, 0, 144, 27, 46, 172]
abbrev dktX13_orders_0 : List UInt8 := dkwX13_orders_0 ++ []
theorem dksX13_orders_0 : cX13_orders.data.toList.drop 0 = dktX13_orders_0 := by decide +kernel
theorem dX13_orders_0 : decode cX13_orders 0 = .ok (.aload_n 0, 1) := dk_42 (dk_at dksX13_orders_0 0 rfl rfl)
theorem dX13_orders_1 : decode cX13_orders 1 = .ok (.invokevirtual 397, 3) := dk_182 1 141 (dk_at dksX13_orders_0 1 rfl rfl)
theorem dX13_orders_4 : decode cX13_orders 4 = .ok (.aload_n 0, 1) := dk_42 (dk_at dksX13_orders_0 4 rfl rfl)
theorem dX13_orders_5 : decode cX13_orders 5 = .ok (.invokevirtual 416, 3) := dk_182 1 160 (dk_at dksX13_orders_0 5 rfl rfl)
theorem dX13_orders_8 : decode cX13_orders 8 = .ok (.istore_n 1, 1) := dk_60 (dk_at dksX13_orders_0 8 rfl rfl)
theorem dX13_orders_9 : decode cX13_orders 9 = .ok (.aload_n 0, 1) := dk_42 (dk_at dksX13_orders_0 9 rfl rfl)
theorem dX13_orders_10 : decode cX13_orders 10 = .ok (.invokevirtual 419, 3) := dk_182 1 163 (dk_at dksX13_orders_0 10 rfl rfl)
theorem dX13_orders_13 : decode cX13_orders 13 = .ok (.aload_n 0, 1) := dk_42 (dk_at dksX13_orders_0 13 rfl rfl)
theorem dX13_orders_14 : decode cX13_orders 14 = .ok (.getfield 144, 3) := dk_180 0 144 (dk_at dksX13_orders_0 14 rfl rfl)
theorem dX13_orders_17 : decode cX13_orders 17 = .ok (.iload_n 1, 1) := dk_27 (dk_at dksX13_orders_0 17 rfl rfl)
theorem dX13_orders_18 : decode cX13_orders 18 = .ok (.iaload, 1) := dk_46 (dk_at dksX13_orders_0 18 rfl rfl)
theorem dX13_orders_19 : decode cX13_orders 19 = .ok (.ireturn, 1) := dk_172 (dk_at dksX13_orders_0 19 rfl rfl)
abbrev cX13_fillsOrders : ByteArray := prog_21_method_72_code
def yX13_fillsOrders : MethodName := ⟨RX13, "fillsOrders", "()V"⟩
def dkwX13_fillsOrders_3 : List UInt8 := [120, 2, 130, 126, 46, 96, 79, 132, 2, 1, 167, 255, 199, 132, 1, 1, 167, 255, 177, 177]
abbrev dktX13_fillsOrders_3 : List UInt8 := dkwX13_fillsOrders_3 ++ []
def dkwX13_fillsOrders_2 : List UInt8 := [180, 0, 141, 28, 46, 27, 126, 154, 0, 24, 42, 180, 0, 144, 27, 92, 46, 42, 180, 0, 144, 27, 4, 28]
abbrev dktX13_fillsOrders_2 : List UInt8 := dkwX13_fillsOrders_2 ++ dktX13_fillsOrders_3
def dkwX13_fillsOrders_1 : List UInt8 := [61, 28, 42, 180, 0, 49, 42, 180, 1, 2, 46, 162, 0, 50, 27, 28, 122, 4, 126, 4, 160, 0, 35, 42]
abbrev dktX13_fillsOrders_1 : List UInt8 := dkwX13_fillsOrders_1 ++ dktX13_fillsOrders_2
def dkwX13_fillsOrders_0 : List UInt8 := [42, 180, 0, 144, 3, 4, 79, 4, 60, 27, 17, 0, 128, 162, 0, 78, 42, 180, 0, 144, 27, 3, 79, 3]
abbrev dktX13_fillsOrders_0 : List UInt8 := dkwX13_fillsOrders_0 ++ dktX13_fillsOrders_1
theorem dksX13_fillsOrders_0 : cX13_fillsOrders.data.toList.drop 0 = dktX13_fillsOrders_0 := by decide +kernel
theorem dksX13_fillsOrders_1 : cX13_fillsOrders.data.toList.drop 24 = dktX13_fillsOrders_1 := dk_seg dksX13_fillsOrders_0 24 rfl rfl
theorem dksX13_fillsOrders_2 : cX13_fillsOrders.data.toList.drop 48 = dktX13_fillsOrders_2 := dk_seg dksX13_fillsOrders_1 24 rfl rfl
theorem dksX13_fillsOrders_3 : cX13_fillsOrders.data.toList.drop 72 = dktX13_fillsOrders_3 := dk_seg dksX13_fillsOrders_2 24 rfl rfl
theorem dX13_fillsOrders_0 : decode cX13_fillsOrders 0 = .ok (.aload_n 0, 1) := dk_42 (dk_at dksX13_fillsOrders_0 0 rfl rfl)
theorem dX13_fillsOrders_1 : decode cX13_fillsOrders 1 = .ok (.getfield 144, 3) := dk_180 0 144 (dk_at dksX13_fillsOrders_0 1 rfl rfl)
theorem dX13_fillsOrders_4 : decode cX13_fillsOrders 4 = .ok (.iconst 0, 1) := dk_3 (dk_at dksX13_fillsOrders_0 4 rfl rfl)
theorem dX13_fillsOrders_5 : decode cX13_fillsOrders 5 = .ok (.iconst 1, 1) := dk_4 (dk_at dksX13_fillsOrders_0 5 rfl rfl)
theorem dX13_fillsOrders_6 : decode cX13_fillsOrders 6 = .ok (.iastore, 1) := dk_79 (dk_at dksX13_fillsOrders_0 6 rfl rfl)
theorem dX13_fillsOrders_7 : decode cX13_fillsOrders 7 = .ok (.iconst 1, 1) := dk_4 (dk_at dksX13_fillsOrders_0 7 rfl rfl)
theorem dX13_fillsOrders_8 : decode cX13_fillsOrders 8 = .ok (.istore_n 1, 1) := dk_60 (dk_at dksX13_fillsOrders_0 8 rfl rfl)
theorem dX13_fillsOrders_9 : decode cX13_fillsOrders 9 = .ok (.iload_n 1, 1) := dk_27 (dk_at dksX13_fillsOrders_0 9 rfl rfl)
theorem dX13_fillsOrders_10 : decode cX13_fillsOrders 10 = .ok (.sipush 128, 3) := dk_17 0 128 (dk_at dksX13_fillsOrders_0 10 rfl rfl)
theorem dX13_fillsOrders_13 : decode cX13_fillsOrders 13 = .ok (.if_icmp .ge 78, 3) := dk_162 0 78 (dk_at dksX13_fillsOrders_0 13 rfl rfl)
theorem dX13_fillsOrders_16 : decode cX13_fillsOrders 16 = .ok (.aload_n 0, 1) := dk_42 (dk_at dksX13_fillsOrders_0 16 rfl rfl)
theorem dX13_fillsOrders_17 : decode cX13_fillsOrders 17 = .ok (.getfield 144, 3) := dk_180 0 144 (dk_at dksX13_fillsOrders_0 17 rfl rfl)
theorem dX13_fillsOrders_20 : decode cX13_fillsOrders 20 = .ok (.iload_n 1, 1) := dk_27 (dk_at dksX13_fillsOrders_0 20 rfl rfl)
theorem dX13_fillsOrders_21 : decode cX13_fillsOrders 21 = .ok (.iconst 0, 1) := dk_3 (dk_at dksX13_fillsOrders_0 21 rfl rfl)
theorem dX13_fillsOrders_22 : decode cX13_fillsOrders 22 = .ok (.iastore, 1) := dk_79 (dk_at dksX13_fillsOrders_0 22 rfl rfl)
theorem dX13_fillsOrders_23 : decode cX13_fillsOrders 23 = .ok (.iconst 0, 1) := dk_3 (dk_at dksX13_fillsOrders_0 23 rfl rfl)
theorem dX13_fillsOrders_24 : decode cX13_fillsOrders 24 = .ok (.istore_n 2, 1) := dk_61 (dk_at dksX13_fillsOrders_1 0 rfl rfl)
theorem dX13_fillsOrders_25 : decode cX13_fillsOrders 25 = .ok (.iload_n 2, 1) := dk_28 (dk_at dksX13_fillsOrders_1 1 rfl rfl)
theorem dX13_fillsOrders_26 : decode cX13_fillsOrders 26 = .ok (.aload_n 0, 1) := dk_42 (dk_at dksX13_fillsOrders_1 2 rfl rfl)
theorem dX13_fillsOrders_27 : decode cX13_fillsOrders 27 = .ok (.getfield 49, 3) := dk_180 0 49 (dk_at dksX13_fillsOrders_1 3 rfl rfl)
theorem dX13_fillsOrders_30 : decode cX13_fillsOrders 30 = .ok (.aload_n 0, 1) := dk_42 (dk_at dksX13_fillsOrders_1 6 rfl rfl)
theorem dX13_fillsOrders_31 : decode cX13_fillsOrders 31 = .ok (.getfield 258, 3) := dk_180 1 2 (dk_at dksX13_fillsOrders_1 7 rfl rfl)
theorem dX13_fillsOrders_34 : decode cX13_fillsOrders 34 = .ok (.iaload, 1) := dk_46 (dk_at dksX13_fillsOrders_1 10 rfl rfl)
theorem dX13_fillsOrders_35 : decode cX13_fillsOrders 35 = .ok (.if_icmp .ge 50, 3) := dk_162 0 50 (dk_at dksX13_fillsOrders_1 11 rfl rfl)
theorem dX13_fillsOrders_38 : decode cX13_fillsOrders 38 = .ok (.iload_n 1, 1) := dk_27 (dk_at dksX13_fillsOrders_1 14 rfl rfl)
theorem dX13_fillsOrders_39 : decode cX13_fillsOrders 39 = .ok (.iload_n 2, 1) := dk_28 (dk_at dksX13_fillsOrders_1 15 rfl rfl)
theorem dX13_fillsOrders_40 : decode cX13_fillsOrders 40 = .ok (.ishr, 1) := dk_122 (dk_at dksX13_fillsOrders_1 16 rfl rfl)
theorem dX13_fillsOrders_41 : decode cX13_fillsOrders 41 = .ok (.iconst 1, 1) := dk_4 (dk_at dksX13_fillsOrders_1 17 rfl rfl)
theorem dX13_fillsOrders_42 : decode cX13_fillsOrders 42 = .ok (.iand, 1) := dk_126 (dk_at dksX13_fillsOrders_1 18 rfl rfl)
theorem dX13_fillsOrders_43 : decode cX13_fillsOrders 43 = .ok (.iconst 1, 1) := dk_4 (dk_at dksX13_fillsOrders_1 19 rfl rfl)
theorem dX13_fillsOrders_44 : decode cX13_fillsOrders 44 = .ok (.if_icmp .ne 35, 3) := dk_160 0 35 (dk_at dksX13_fillsOrders_1 20 rfl rfl)
theorem dX13_fillsOrders_47 : decode cX13_fillsOrders 47 = .ok (.aload_n 0, 1) := dk_42 (dk_at dksX13_fillsOrders_1 23 rfl rfl)
theorem dX13_fillsOrders_48 : decode cX13_fillsOrders 48 = .ok (.getfield 141, 3) := dk_180 0 141 (dk_at dksX13_fillsOrders_2 0 rfl rfl)
theorem dX13_fillsOrders_51 : decode cX13_fillsOrders 51 = .ok (.iload_n 2, 1) := dk_28 (dk_at dksX13_fillsOrders_2 3 rfl rfl)
theorem dX13_fillsOrders_52 : decode cX13_fillsOrders 52 = .ok (.iaload, 1) := dk_46 (dk_at dksX13_fillsOrders_2 4 rfl rfl)
theorem dX13_fillsOrders_53 : decode cX13_fillsOrders 53 = .ok (.iload_n 1, 1) := dk_27 (dk_at dksX13_fillsOrders_2 5 rfl rfl)
theorem dX13_fillsOrders_54 : decode cX13_fillsOrders 54 = .ok (.iand, 1) := dk_126 (dk_at dksX13_fillsOrders_2 6 rfl rfl)
theorem dX13_fillsOrders_55 : decode cX13_fillsOrders 55 = .ok (.ifCond .ne 24, 3) := dk_154 0 24 (dk_at dksX13_fillsOrders_2 7 rfl rfl)
theorem dX13_fillsOrders_58 : decode cX13_fillsOrders 58 = .ok (.aload_n 0, 1) := dk_42 (dk_at dksX13_fillsOrders_2 10 rfl rfl)
theorem dX13_fillsOrders_59 : decode cX13_fillsOrders 59 = .ok (.getfield 144, 3) := dk_180 0 144 (dk_at dksX13_fillsOrders_2 11 rfl rfl)
theorem dX13_fillsOrders_62 : decode cX13_fillsOrders 62 = .ok (.iload_n 1, 1) := dk_27 (dk_at dksX13_fillsOrders_2 14 rfl rfl)
theorem dX13_fillsOrders_63 : decode cX13_fillsOrders 63 = .ok (.dup2, 1) := dk_92 (dk_at dksX13_fillsOrders_2 15 rfl rfl)
theorem dX13_fillsOrders_64 : decode cX13_fillsOrders 64 = .ok (.iaload, 1) := dk_46 (dk_at dksX13_fillsOrders_2 16 rfl rfl)
theorem dX13_fillsOrders_65 : decode cX13_fillsOrders 65 = .ok (.aload_n 0, 1) := dk_42 (dk_at dksX13_fillsOrders_2 17 rfl rfl)
theorem dX13_fillsOrders_66 : decode cX13_fillsOrders 66 = .ok (.getfield 144, 3) := dk_180 0 144 (dk_at dksX13_fillsOrders_2 18 rfl rfl)
theorem dX13_fillsOrders_69 : decode cX13_fillsOrders 69 = .ok (.iload_n 1, 1) := dk_27 (dk_at dksX13_fillsOrders_2 21 rfl rfl)
theorem dX13_fillsOrders_70 : decode cX13_fillsOrders 70 = .ok (.iconst 1, 1) := dk_4 (dk_at dksX13_fillsOrders_2 22 rfl rfl)
theorem dX13_fillsOrders_71 : decode cX13_fillsOrders 71 = .ok (.iload_n 2, 1) := dk_28 (dk_at dksX13_fillsOrders_2 23 rfl rfl)
theorem dX13_fillsOrders_72 : decode cX13_fillsOrders 72 = .ok (.ishl, 1) := dk_120 (dk_at dksX13_fillsOrders_3 0 rfl rfl)
theorem dX13_fillsOrders_73 : decode cX13_fillsOrders 73 = .ok (.iconst (-1), 1) := dk_2 (dk_at dksX13_fillsOrders_3 1 rfl rfl)
theorem dX13_fillsOrders_74 : decode cX13_fillsOrders 74 = .ok (.ixor, 1) := dk_130 (dk_at dksX13_fillsOrders_3 2 rfl rfl)
theorem dX13_fillsOrders_75 : decode cX13_fillsOrders 75 = .ok (.iand, 1) := dk_126 (dk_at dksX13_fillsOrders_3 3 rfl rfl)
theorem dX13_fillsOrders_76 : decode cX13_fillsOrders 76 = .ok (.iaload, 1) := dk_46 (dk_at dksX13_fillsOrders_3 4 rfl rfl)
theorem dX13_fillsOrders_77 : decode cX13_fillsOrders 77 = .ok (.iadd, 1) := dk_96 (dk_at dksX13_fillsOrders_3 5 rfl rfl)
theorem dX13_fillsOrders_78 : decode cX13_fillsOrders 78 = .ok (.iastore, 1) := dk_79 (dk_at dksX13_fillsOrders_3 6 rfl rfl)
theorem dX13_fillsOrders_79 : decode cX13_fillsOrders 79 = .ok (.iinc 2 1, 3) := dk_132 2 1 (dk_at dksX13_fillsOrders_3 7 rfl rfl)
theorem dX13_fillsOrders_82 : decode cX13_fillsOrders 82 = .ok (.goto (-57), 3) := dk_167 255 199 (dk_at dksX13_fillsOrders_3 10 rfl rfl)
theorem dX13_fillsOrders_85 : decode cX13_fillsOrders 85 = .ok (.iinc 1 1, 3) := dk_132 1 1 (dk_at dksX13_fillsOrders_3 13 rfl rfl)
theorem dX13_fillsOrders_88 : decode cX13_fillsOrders 88 = .ok (.goto (-79), 3) := dk_167 255 177 (dk_at dksX13_fillsOrders_3 16 rfl rfl)
theorem dX13_fillsOrders_91 : decode cX13_fillsOrders 91 = .ok (.return_, 1) := dk_177 (dk_at dksX13_fillsOrders_3 19 rfl rfl)
abbrev cX13_orderAt : ByteArray := prog_21_method_74_code
def yX13_orderAt : MethodName := ⟨RX13, "orderAt", "(I)I"⟩
def dkwX13_orderAt_4 : List UInt8 := [21, 4, 120, 2, 130, 126, 61, 132, 3, 1, 167, 255, 186, 2, 172]
abbrev dktX13_orderAt_4 : List UInt8 := dkwX13_orderAt_4 ++ []
def dkwX13_orderAt_3 : List UInt8 := [2, 130, 126, 46, 154, 0, 9, 132, 4, 1, 167, 255, 216, 29, 27, 160, 0, 6, 21, 4, 172, 28, 4]
abbrev dktX13_orderAt_3 : List UInt8 := dkwX13_orderAt_3 ++ dktX13_orderAt_4
def dkwX13_orderAt_2 : List UInt8 := [153, 0, 31, 42, 180, 0, 141, 21, 4, 46, 28, 126, 154, 0, 19, 42, 180, 0, 144, 28, 4, 21, 4, 120]
abbrev dktX13_orderAt_2 : List UInt8 := dkwX13_orderAt_2 ++ dktX13_orderAt_3
def dkwX13_orderAt_1 : List UInt8 := [46, 154, 0, 6, 16, 254, 172, 3, 62, 28, 153, 0, 72, 3, 54, 4, 28, 21, 4, 122, 4, 126]
abbrev dktX13_orderAt_1 : List UInt8 := dkwX13_orderAt_1 ++ dktX13_orderAt_2
def dkwX13_orderAt_0 : List UInt8 := [27, 156, 0, 5, 2, 172, 42, 182, 1, 141, 42, 182, 1, 160, 61, 42, 182, 1, 163, 42, 180, 0, 144, 28]
abbrev dktX13_orderAt_0 : List UInt8 := dkwX13_orderAt_0 ++ dktX13_orderAt_1
theorem dksX13_orderAt_0 : cX13_orderAt.data.toList.drop 0 = dktX13_orderAt_0 := by decide +kernel
theorem dksX13_orderAt_1 : cX13_orderAt.data.toList.drop 24 = dktX13_orderAt_1 := dk_seg dksX13_orderAt_0 24 rfl rfl
theorem dksX13_orderAt_2 : cX13_orderAt.data.toList.drop 46 = dktX13_orderAt_2 := dk_seg dksX13_orderAt_1 22 rfl rfl
theorem dksX13_orderAt_3 : cX13_orderAt.data.toList.drop 70 = dktX13_orderAt_3 := dk_seg dksX13_orderAt_2 24 rfl rfl
theorem dksX13_orderAt_4 : cX13_orderAt.data.toList.drop 93 = dktX13_orderAt_4 := dk_seg dksX13_orderAt_3 23 rfl rfl
theorem dX13_orderAt_0 : decode cX13_orderAt 0 = .ok (.iload_n 1, 1) := dk_27 (dk_at dksX13_orderAt_0 0 rfl rfl)
theorem dX13_orderAt_1 : decode cX13_orderAt 1 = .ok (.ifCond .ge 5, 3) := dk_156 0 5 (dk_at dksX13_orderAt_0 1 rfl rfl)
theorem dX13_orderAt_4 : decode cX13_orderAt 4 = .ok (.iconst (-1), 1) := dk_2 (dk_at dksX13_orderAt_0 4 rfl rfl)
theorem dX13_orderAt_5 : decode cX13_orderAt 5 = .ok (.ireturn, 1) := dk_172 (dk_at dksX13_orderAt_0 5 rfl rfl)
theorem dX13_orderAt_6 : decode cX13_orderAt 6 = .ok (.aload_n 0, 1) := dk_42 (dk_at dksX13_orderAt_0 6 rfl rfl)
theorem dX13_orderAt_7 : decode cX13_orderAt 7 = .ok (.invokevirtual 397, 3) := dk_182 1 141 (dk_at dksX13_orderAt_0 7 rfl rfl)
theorem dX13_orderAt_10 : decode cX13_orderAt 10 = .ok (.aload_n 0, 1) := dk_42 (dk_at dksX13_orderAt_0 10 rfl rfl)
theorem dX13_orderAt_11 : decode cX13_orderAt 11 = .ok (.invokevirtual 416, 3) := dk_182 1 160 (dk_at dksX13_orderAt_0 11 rfl rfl)
theorem dX13_orderAt_14 : decode cX13_orderAt 14 = .ok (.istore_n 2, 1) := dk_61 (dk_at dksX13_orderAt_0 14 rfl rfl)
theorem dX13_orderAt_15 : decode cX13_orderAt 15 = .ok (.aload_n 0, 1) := dk_42 (dk_at dksX13_orderAt_0 15 rfl rfl)
theorem dX13_orderAt_16 : decode cX13_orderAt 16 = .ok (.invokevirtual 419, 3) := dk_182 1 163 (dk_at dksX13_orderAt_0 16 rfl rfl)
theorem dX13_orderAt_19 : decode cX13_orderAt 19 = .ok (.aload_n 0, 1) := dk_42 (dk_at dksX13_orderAt_0 19 rfl rfl)
theorem dX13_orderAt_20 : decode cX13_orderAt 20 = .ok (.getfield 144, 3) := dk_180 0 144 (dk_at dksX13_orderAt_0 20 rfl rfl)
theorem dX13_orderAt_23 : decode cX13_orderAt 23 = .ok (.iload_n 2, 1) := dk_28 (dk_at dksX13_orderAt_0 23 rfl rfl)
theorem dX13_orderAt_24 : decode cX13_orderAt 24 = .ok (.iaload, 1) := dk_46 (dk_at dksX13_orderAt_1 0 rfl rfl)
theorem dX13_orderAt_25 : decode cX13_orderAt 25 = .ok (.ifCond .ne 6, 3) := dk_154 0 6 (dk_at dksX13_orderAt_1 1 rfl rfl)
theorem dX13_orderAt_28 : decode cX13_orderAt 28 = .ok (.bipush (-2), 2) := dk_16 254 (dk_at dksX13_orderAt_1 4 rfl rfl)
theorem dX13_orderAt_30 : decode cX13_orderAt 30 = .ok (.ireturn, 1) := dk_172 (dk_at dksX13_orderAt_1 6 rfl rfl)
theorem dX13_orderAt_31 : decode cX13_orderAt 31 = .ok (.iconst 0, 1) := dk_3 (dk_at dksX13_orderAt_1 7 rfl rfl)
theorem dX13_orderAt_32 : decode cX13_orderAt 32 = .ok (.istore_n 3, 1) := dk_62 (dk_at dksX13_orderAt_1 8 rfl rfl)
theorem dX13_orderAt_33 : decode cX13_orderAt 33 = .ok (.iload_n 2, 1) := dk_28 (dk_at dksX13_orderAt_1 9 rfl rfl)
theorem dX13_orderAt_34 : decode cX13_orderAt 34 = .ok (.ifCond .eq 72, 3) := dk_153 0 72 (dk_at dksX13_orderAt_1 10 rfl rfl)
theorem dX13_orderAt_37 : decode cX13_orderAt 37 = .ok (.iconst 0, 1) := dk_3 (dk_at dksX13_orderAt_1 13 rfl rfl)
theorem dX13_orderAt_38 : decode cX13_orderAt 38 = .ok (.istore 4, 2) := dk_54 4 (dk_at dksX13_orderAt_1 14 rfl rfl)
theorem dX13_orderAt_40 : decode cX13_orderAt 40 = .ok (.iload_n 2, 1) := dk_28 (dk_at dksX13_orderAt_1 16 rfl rfl)
theorem dX13_orderAt_41 : decode cX13_orderAt 41 = .ok (.iload 4, 2) := dk_21 4 (dk_at dksX13_orderAt_1 17 rfl rfl)
theorem dX13_orderAt_43 : decode cX13_orderAt 43 = .ok (.ishr, 1) := dk_122 (dk_at dksX13_orderAt_1 19 rfl rfl)
theorem dX13_orderAt_44 : decode cX13_orderAt 44 = .ok (.iconst 1, 1) := dk_4 (dk_at dksX13_orderAt_1 20 rfl rfl)
theorem dX13_orderAt_45 : decode cX13_orderAt 45 = .ok (.iand, 1) := dk_126 (dk_at dksX13_orderAt_1 21 rfl rfl)
theorem dX13_orderAt_46 : decode cX13_orderAt 46 = .ok (.ifCond .eq 31, 3) := dk_153 0 31 (dk_at dksX13_orderAt_2 0 rfl rfl)
theorem dX13_orderAt_49 : decode cX13_orderAt 49 = .ok (.aload_n 0, 1) := dk_42 (dk_at dksX13_orderAt_2 3 rfl rfl)
theorem dX13_orderAt_50 : decode cX13_orderAt 50 = .ok (.getfield 141, 3) := dk_180 0 141 (dk_at dksX13_orderAt_2 4 rfl rfl)
theorem dX13_orderAt_53 : decode cX13_orderAt 53 = .ok (.iload 4, 2) := dk_21 4 (dk_at dksX13_orderAt_2 7 rfl rfl)
theorem dX13_orderAt_55 : decode cX13_orderAt 55 = .ok (.iaload, 1) := dk_46 (dk_at dksX13_orderAt_2 9 rfl rfl)
theorem dX13_orderAt_56 : decode cX13_orderAt 56 = .ok (.iload_n 2, 1) := dk_28 (dk_at dksX13_orderAt_2 10 rfl rfl)
theorem dX13_orderAt_57 : decode cX13_orderAt 57 = .ok (.iand, 1) := dk_126 (dk_at dksX13_orderAt_2 11 rfl rfl)
theorem dX13_orderAt_58 : decode cX13_orderAt 58 = .ok (.ifCond .ne 19, 3) := dk_154 0 19 (dk_at dksX13_orderAt_2 12 rfl rfl)
theorem dX13_orderAt_61 : decode cX13_orderAt 61 = .ok (.aload_n 0, 1) := dk_42 (dk_at dksX13_orderAt_2 15 rfl rfl)
theorem dX13_orderAt_62 : decode cX13_orderAt 62 = .ok (.getfield 144, 3) := dk_180 0 144 (dk_at dksX13_orderAt_2 16 rfl rfl)
theorem dX13_orderAt_65 : decode cX13_orderAt 65 = .ok (.iload_n 2, 1) := dk_28 (dk_at dksX13_orderAt_2 19 rfl rfl)
theorem dX13_orderAt_66 : decode cX13_orderAt 66 = .ok (.iconst 1, 1) := dk_4 (dk_at dksX13_orderAt_2 20 rfl rfl)
theorem dX13_orderAt_67 : decode cX13_orderAt 67 = .ok (.iload 4, 2) := dk_21 4 (dk_at dksX13_orderAt_2 21 rfl rfl)
theorem dX13_orderAt_69 : decode cX13_orderAt 69 = .ok (.ishl, 1) := dk_120 (dk_at dksX13_orderAt_2 23 rfl rfl)
theorem dX13_orderAt_70 : decode cX13_orderAt 70 = .ok (.iconst (-1), 1) := dk_2 (dk_at dksX13_orderAt_3 0 rfl rfl)
theorem dX13_orderAt_71 : decode cX13_orderAt 71 = .ok (.ixor, 1) := dk_130 (dk_at dksX13_orderAt_3 1 rfl rfl)
theorem dX13_orderAt_72 : decode cX13_orderAt 72 = .ok (.iand, 1) := dk_126 (dk_at dksX13_orderAt_3 2 rfl rfl)
theorem dX13_orderAt_73 : decode cX13_orderAt 73 = .ok (.iaload, 1) := dk_46 (dk_at dksX13_orderAt_3 3 rfl rfl)
theorem dX13_orderAt_74 : decode cX13_orderAt 74 = .ok (.ifCond .ne 9, 3) := dk_154 0 9 (dk_at dksX13_orderAt_3 4 rfl rfl)
theorem dX13_orderAt_77 : decode cX13_orderAt 77 = .ok (.iinc 4 1, 3) := dk_132 4 1 (dk_at dksX13_orderAt_3 7 rfl rfl)
theorem dX13_orderAt_80 : decode cX13_orderAt 80 = .ok (.goto (-40), 3) := dk_167 255 216 (dk_at dksX13_orderAt_3 10 rfl rfl)
theorem dX13_orderAt_83 : decode cX13_orderAt 83 = .ok (.iload_n 3, 1) := dk_29 (dk_at dksX13_orderAt_3 13 rfl rfl)
theorem dX13_orderAt_84 : decode cX13_orderAt 84 = .ok (.iload_n 1, 1) := dk_27 (dk_at dksX13_orderAt_3 14 rfl rfl)
theorem dX13_orderAt_85 : decode cX13_orderAt 85 = .ok (.if_icmp .ne 6, 3) := dk_160 0 6 (dk_at dksX13_orderAt_3 15 rfl rfl)
theorem dX13_orderAt_88 : decode cX13_orderAt 88 = .ok (.iload 4, 2) := dk_21 4 (dk_at dksX13_orderAt_3 18 rfl rfl)
theorem dX13_orderAt_90 : decode cX13_orderAt 90 = .ok (.ireturn, 1) := dk_172 (dk_at dksX13_orderAt_3 20 rfl rfl)
theorem dX13_orderAt_91 : decode cX13_orderAt 91 = .ok (.iload_n 2, 1) := dk_28 (dk_at dksX13_orderAt_3 21 rfl rfl)
theorem dX13_orderAt_92 : decode cX13_orderAt 92 = .ok (.iconst 1, 1) := dk_4 (dk_at dksX13_orderAt_3 22 rfl rfl)
theorem dX13_orderAt_93 : decode cX13_orderAt 93 = .ok (.iload 4, 2) := dk_21 4 (dk_at dksX13_orderAt_4 0 rfl rfl)
theorem dX13_orderAt_95 : decode cX13_orderAt 95 = .ok (.ishl, 1) := dk_120 (dk_at dksX13_orderAt_4 2 rfl rfl)
theorem dX13_orderAt_96 : decode cX13_orderAt 96 = .ok (.iconst (-1), 1) := dk_2 (dk_at dksX13_orderAt_4 3 rfl rfl)
theorem dX13_orderAt_97 : decode cX13_orderAt 97 = .ok (.ixor, 1) := dk_130 (dk_at dksX13_orderAt_4 4 rfl rfl)
theorem dX13_orderAt_98 : decode cX13_orderAt 98 = .ok (.iand, 1) := dk_126 (dk_at dksX13_orderAt_4 5 rfl rfl)
theorem dX13_orderAt_99 : decode cX13_orderAt 99 = .ok (.istore_n 2, 1) := dk_61 (dk_at dksX13_orderAt_4 6 rfl rfl)
theorem dX13_orderAt_100 : decode cX13_orderAt 100 = .ok (.iinc 3 1, 3) := dk_132 3 1 (dk_at dksX13_orderAt_4 7 rfl rfl)
theorem dX13_orderAt_103 : decode cX13_orderAt 103 = .ok (.goto (-70), 3) := dk_167 255 186 (dk_at dksX13_orderAt_4 10 rfl rfl)
theorem dX13_orderAt_106 : decode cX13_orderAt 106 = .ok (.iconst (-1), 1) := dk_2 (dk_at dksX13_orderAt_4 13 rfl rfl)
theorem dX13_orderAt_107 : decode cX13_orderAt 107 = .ok (.ireturn, 1) := dk_172 (dk_at dksX13_orderAt_4 14 rfl rfl)
abbrev cX13_cuts : ByteArray := prog_21_method_77_code
def yX13_cuts : MethodName := ⟨RX13, "cuts", "(I)I"⟩
def dkwX13_cuts_5 : List UInt8 := [167, 0, 17, 27, 4, 160, 0, 11, 42, 29, 182, 1, 169, 167, 0, 4, 29, 172]
abbrev dktX13_cuts_5 : List UInt8 := dkwX13_cuts_5 ++ []
def dkwX13_cuts_4 : List UInt8 := [182, 1, 169, 162, 0, 6, 21, 4, 62, 132, 4, 1, 167, 255, 180, 27, 154, 0, 10, 29, 184, 1, 166]
abbrev dktX13_cuts_4 : List UInt8 := dkwX13_cuts_4 ++ dktX13_cuts_5
def dkwX13_cuts_3 : List UInt8 := [184, 1, 166, 100, 54, 5, 21, 5, 155, 0, 22, 21, 5, 154, 0, 20, 42, 21, 4, 182, 1, 169, 42, 29]
abbrev dktX13_cuts_3 : List UInt8 := dkwX13_cuts_3 ++ dktX13_cuts_4
def dkwX13_cuts_2 : List UInt8 := [180, 0, 144, 28, 21, 4, 2, 130, 126, 46, 154, 0, 6, 167, 0, 42, 21, 4, 184, 1, 166, 29]
abbrev dktX13_cuts_2 : List UInt8 := dkwX13_cuts_2 ++ dktX13_cuts_3
def dkwX13_cuts_1 : List UInt8 := [28, 62, 3, 54, 4, 21, 4, 17, 0, 128, 162, 0, 74, 21, 4, 28, 2, 130, 126, 154, 0, 59, 42]
abbrev dktX13_cuts_1 : List UInt8 := dkwX13_cuts_1 ++ dktX13_cuts_2
def dkwX13_cuts_0 : List UInt8 := [27, 3, 5, 184, 1, 89, 154, 0, 5, 2, 172, 42, 182, 1, 141, 42, 182, 1, 160, 61, 42, 182, 1, 163]
abbrev dktX13_cuts_0 : List UInt8 := dkwX13_cuts_0 ++ dktX13_cuts_1
theorem dksX13_cuts_0 : cX13_cuts.data.toList.drop 0 = dktX13_cuts_0 := by decide +kernel
theorem dksX13_cuts_1 : cX13_cuts.data.toList.drop 24 = dktX13_cuts_1 := dk_seg dksX13_cuts_0 24 rfl rfl
theorem dksX13_cuts_2 : cX13_cuts.data.toList.drop 47 = dktX13_cuts_2 := dk_seg dksX13_cuts_1 23 rfl rfl
theorem dksX13_cuts_3 : cX13_cuts.data.toList.drop 69 = dktX13_cuts_3 := dk_seg dksX13_cuts_2 22 rfl rfl
theorem dksX13_cuts_4 : cX13_cuts.data.toList.drop 93 = dktX13_cuts_4 := dk_seg dksX13_cuts_3 24 rfl rfl
theorem dksX13_cuts_5 : cX13_cuts.data.toList.drop 116 = dktX13_cuts_5 := dk_seg dksX13_cuts_4 23 rfl rfl
theorem dX13_cuts_0 : decode cX13_cuts 0 = .ok (.iload_n 1, 1) := dk_27 (dk_at dksX13_cuts_0 0 rfl rfl)
theorem dX13_cuts_1 : decode cX13_cuts 1 = .ok (.iconst 0, 1) := dk_3 (dk_at dksX13_cuts_0 1 rfl rfl)
theorem dX13_cuts_2 : decode cX13_cuts 2 = .ok (.iconst 2, 1) := dk_5 (dk_at dksX13_cuts_0 2 rfl rfl)
theorem dX13_cuts_3 : decode cX13_cuts 3 = .ok (.invokestatic 345, 3) := dk_184 1 89 (dk_at dksX13_cuts_0 3 rfl rfl)
theorem dX13_cuts_6 : decode cX13_cuts 6 = .ok (.ifCond .ne 5, 3) := dk_154 0 5 (dk_at dksX13_cuts_0 6 rfl rfl)
theorem dX13_cuts_9 : decode cX13_cuts 9 = .ok (.iconst (-1), 1) := dk_2 (dk_at dksX13_cuts_0 9 rfl rfl)
theorem dX13_cuts_10 : decode cX13_cuts 10 = .ok (.ireturn, 1) := dk_172 (dk_at dksX13_cuts_0 10 rfl rfl)
theorem dX13_cuts_11 : decode cX13_cuts 11 = .ok (.aload_n 0, 1) := dk_42 (dk_at dksX13_cuts_0 11 rfl rfl)
theorem dX13_cuts_12 : decode cX13_cuts 12 = .ok (.invokevirtual 397, 3) := dk_182 1 141 (dk_at dksX13_cuts_0 12 rfl rfl)
theorem dX13_cuts_15 : decode cX13_cuts 15 = .ok (.aload_n 0, 1) := dk_42 (dk_at dksX13_cuts_0 15 rfl rfl)
theorem dX13_cuts_16 : decode cX13_cuts 16 = .ok (.invokevirtual 416, 3) := dk_182 1 160 (dk_at dksX13_cuts_0 16 rfl rfl)
theorem dX13_cuts_19 : decode cX13_cuts 19 = .ok (.istore_n 2, 1) := dk_61 (dk_at dksX13_cuts_0 19 rfl rfl)
theorem dX13_cuts_20 : decode cX13_cuts 20 = .ok (.aload_n 0, 1) := dk_42 (dk_at dksX13_cuts_0 20 rfl rfl)
theorem dX13_cuts_21 : decode cX13_cuts 21 = .ok (.invokevirtual 419, 3) := dk_182 1 163 (dk_at dksX13_cuts_0 21 rfl rfl)
theorem dX13_cuts_24 : decode cX13_cuts 24 = .ok (.iload_n 2, 1) := dk_28 (dk_at dksX13_cuts_1 0 rfl rfl)
theorem dX13_cuts_25 : decode cX13_cuts 25 = .ok (.istore_n 3, 1) := dk_62 (dk_at dksX13_cuts_1 1 rfl rfl)
theorem dX13_cuts_26 : decode cX13_cuts 26 = .ok (.iconst 0, 1) := dk_3 (dk_at dksX13_cuts_1 2 rfl rfl)
theorem dX13_cuts_27 : decode cX13_cuts 27 = .ok (.istore 4, 2) := dk_54 4 (dk_at dksX13_cuts_1 3 rfl rfl)
theorem dX13_cuts_29 : decode cX13_cuts 29 = .ok (.iload 4, 2) := dk_21 4 (dk_at dksX13_cuts_1 5 rfl rfl)
theorem dX13_cuts_31 : decode cX13_cuts 31 = .ok (.sipush 128, 3) := dk_17 0 128 (dk_at dksX13_cuts_1 7 rfl rfl)
theorem dX13_cuts_34 : decode cX13_cuts 34 = .ok (.if_icmp .ge 74, 3) := dk_162 0 74 (dk_at dksX13_cuts_1 10 rfl rfl)
theorem dX13_cuts_37 : decode cX13_cuts 37 = .ok (.iload 4, 2) := dk_21 4 (dk_at dksX13_cuts_1 13 rfl rfl)
theorem dX13_cuts_39 : decode cX13_cuts 39 = .ok (.iload_n 2, 1) := dk_28 (dk_at dksX13_cuts_1 15 rfl rfl)
theorem dX13_cuts_40 : decode cX13_cuts 40 = .ok (.iconst (-1), 1) := dk_2 (dk_at dksX13_cuts_1 16 rfl rfl)
theorem dX13_cuts_41 : decode cX13_cuts 41 = .ok (.ixor, 1) := dk_130 (dk_at dksX13_cuts_1 17 rfl rfl)
theorem dX13_cuts_42 : decode cX13_cuts 42 = .ok (.iand, 1) := dk_126 (dk_at dksX13_cuts_1 18 rfl rfl)
theorem dX13_cuts_43 : decode cX13_cuts 43 = .ok (.ifCond .ne 59, 3) := dk_154 0 59 (dk_at dksX13_cuts_1 19 rfl rfl)
theorem dX13_cuts_46 : decode cX13_cuts 46 = .ok (.aload_n 0, 1) := dk_42 (dk_at dksX13_cuts_1 22 rfl rfl)
theorem dX13_cuts_47 : decode cX13_cuts 47 = .ok (.getfield 144, 3) := dk_180 0 144 (dk_at dksX13_cuts_2 0 rfl rfl)
theorem dX13_cuts_50 : decode cX13_cuts 50 = .ok (.iload_n 2, 1) := dk_28 (dk_at dksX13_cuts_2 3 rfl rfl)
theorem dX13_cuts_51 : decode cX13_cuts 51 = .ok (.iload 4, 2) := dk_21 4 (dk_at dksX13_cuts_2 4 rfl rfl)
theorem dX13_cuts_53 : decode cX13_cuts 53 = .ok (.iconst (-1), 1) := dk_2 (dk_at dksX13_cuts_2 6 rfl rfl)
theorem dX13_cuts_54 : decode cX13_cuts 54 = .ok (.ixor, 1) := dk_130 (dk_at dksX13_cuts_2 7 rfl rfl)
theorem dX13_cuts_55 : decode cX13_cuts 55 = .ok (.iand, 1) := dk_126 (dk_at dksX13_cuts_2 8 rfl rfl)
theorem dX13_cuts_56 : decode cX13_cuts 56 = .ok (.iaload, 1) := dk_46 (dk_at dksX13_cuts_2 9 rfl rfl)
theorem dX13_cuts_57 : decode cX13_cuts 57 = .ok (.ifCond .ne 6, 3) := dk_154 0 6 (dk_at dksX13_cuts_2 10 rfl rfl)
theorem dX13_cuts_60 : decode cX13_cuts 60 = .ok (.goto 42, 3) := dk_167 0 42 (dk_at dksX13_cuts_2 13 rfl rfl)
theorem dX13_cuts_63 : decode cX13_cuts 63 = .ok (.iload 4, 2) := dk_21 4 (dk_at dksX13_cuts_2 16 rfl rfl)
theorem dX13_cuts_65 : decode cX13_cuts 65 = .ok (.invokestatic 422, 3) := dk_184 1 166 (dk_at dksX13_cuts_2 18 rfl rfl)
theorem dX13_cuts_68 : decode cX13_cuts 68 = .ok (.iload_n 3, 1) := dk_29 (dk_at dksX13_cuts_2 21 rfl rfl)
theorem dX13_cuts_69 : decode cX13_cuts 69 = .ok (.invokestatic 422, 3) := dk_184 1 166 (dk_at dksX13_cuts_3 0 rfl rfl)
theorem dX13_cuts_72 : decode cX13_cuts 72 = .ok (.isub, 1) := dk_100 (dk_at dksX13_cuts_3 3 rfl rfl)
theorem dX13_cuts_73 : decode cX13_cuts 73 = .ok (.istore 5, 2) := dk_54 5 (dk_at dksX13_cuts_3 4 rfl rfl)
theorem dX13_cuts_75 : decode cX13_cuts 75 = .ok (.iload 5, 2) := dk_21 5 (dk_at dksX13_cuts_3 6 rfl rfl)
theorem dX13_cuts_77 : decode cX13_cuts 77 = .ok (.ifCond .lt 22, 3) := dk_155 0 22 (dk_at dksX13_cuts_3 8 rfl rfl)
theorem dX13_cuts_80 : decode cX13_cuts 80 = .ok (.iload 5, 2) := dk_21 5 (dk_at dksX13_cuts_3 11 rfl rfl)
theorem dX13_cuts_82 : decode cX13_cuts 82 = .ok (.ifCond .ne 20, 3) := dk_154 0 20 (dk_at dksX13_cuts_3 13 rfl rfl)
theorem dX13_cuts_85 : decode cX13_cuts 85 = .ok (.aload_n 0, 1) := dk_42 (dk_at dksX13_cuts_3 16 rfl rfl)
theorem dX13_cuts_86 : decode cX13_cuts 86 = .ok (.iload 4, 2) := dk_21 4 (dk_at dksX13_cuts_3 17 rfl rfl)
theorem dX13_cuts_88 : decode cX13_cuts 88 = .ok (.invokevirtual 425, 3) := dk_182 1 169 (dk_at dksX13_cuts_3 19 rfl rfl)
theorem dX13_cuts_91 : decode cX13_cuts 91 = .ok (.aload_n 0, 1) := dk_42 (dk_at dksX13_cuts_3 22 rfl rfl)
theorem dX13_cuts_92 : decode cX13_cuts 92 = .ok (.iload_n 3, 1) := dk_29 (dk_at dksX13_cuts_3 23 rfl rfl)
theorem dX13_cuts_93 : decode cX13_cuts 93 = .ok (.invokevirtual 425, 3) := dk_182 1 169 (dk_at dksX13_cuts_4 0 rfl rfl)
theorem dX13_cuts_96 : decode cX13_cuts 96 = .ok (.if_icmp .ge 6, 3) := dk_162 0 6 (dk_at dksX13_cuts_4 3 rfl rfl)
theorem dX13_cuts_99 : decode cX13_cuts 99 = .ok (.iload 4, 2) := dk_21 4 (dk_at dksX13_cuts_4 6 rfl rfl)
theorem dX13_cuts_101 : decode cX13_cuts 101 = .ok (.istore_n 3, 1) := dk_62 (dk_at dksX13_cuts_4 8 rfl rfl)
theorem dX13_cuts_102 : decode cX13_cuts 102 = .ok (.iinc 4 1, 3) := dk_132 4 1 (dk_at dksX13_cuts_4 9 rfl rfl)
theorem dX13_cuts_105 : decode cX13_cuts 105 = .ok (.goto (-76), 3) := dk_167 255 180 (dk_at dksX13_cuts_4 12 rfl rfl)
theorem dX13_cuts_108 : decode cX13_cuts 108 = .ok (.iload_n 1, 1) := dk_27 (dk_at dksX13_cuts_4 15 rfl rfl)
theorem dX13_cuts_109 : decode cX13_cuts 109 = .ok (.ifCond .ne 10, 3) := dk_154 0 10 (dk_at dksX13_cuts_4 16 rfl rfl)
theorem dX13_cuts_112 : decode cX13_cuts 112 = .ok (.iload_n 3, 1) := dk_29 (dk_at dksX13_cuts_4 19 rfl rfl)
theorem dX13_cuts_113 : decode cX13_cuts 113 = .ok (.invokestatic 422, 3) := dk_184 1 166 (dk_at dksX13_cuts_4 20 rfl rfl)
theorem dX13_cuts_116 : decode cX13_cuts 116 = .ok (.goto 17, 3) := dk_167 0 17 (dk_at dksX13_cuts_5 0 rfl rfl)
theorem dX13_cuts_119 : decode cX13_cuts 119 = .ok (.iload_n 1, 1) := dk_27 (dk_at dksX13_cuts_5 3 rfl rfl)
theorem dX13_cuts_120 : decode cX13_cuts 120 = .ok (.iconst 1, 1) := dk_4 (dk_at dksX13_cuts_5 4 rfl rfl)
theorem dX13_cuts_121 : decode cX13_cuts 121 = .ok (.if_icmp .ne 11, 3) := dk_160 0 11 (dk_at dksX13_cuts_5 5 rfl rfl)
theorem dX13_cuts_124 : decode cX13_cuts 124 = .ok (.aload_n 0, 1) := dk_42 (dk_at dksX13_cuts_5 8 rfl rfl)
theorem dX13_cuts_125 : decode cX13_cuts 125 = .ok (.iload_n 3, 1) := dk_29 (dk_at dksX13_cuts_5 9 rfl rfl)
theorem dX13_cuts_126 : decode cX13_cuts 126 = .ok (.invokevirtual 425, 3) := dk_182 1 169 (dk_at dksX13_cuts_5 10 rfl rfl)
theorem dX13_cuts_129 : decode cX13_cuts 129 = .ok (.goto 4, 3) := dk_167 0 4 (dk_at dksX13_cuts_5 13 rfl rfl)
theorem dX13_cuts_132 : decode cX13_cuts 132 = .ok (.iload_n 3, 1) := dk_29 (dk_at dksX13_cuts_5 16 rfl rfl)
theorem dX13_cuts_133 : decode cX13_cuts 133 = .ok (.ireturn, 1) := dk_172 (dk_at dksX13_cuts_5 17 rfl rfl)
abbrev cX13_bits : ByteArray := prog_21_method_75_code
def yX13_bits : MethodName := ⟨RX13, "bits", "(I)I"⟩
def dkwX13_bits_1 : List UInt8 := [27, 172]
abbrev dktX13_bits_1 : List UInt8 := dkwX13_bits_1 ++ []
def dkwX13_bits_0 : List UInt8 := [3, 60, 3, 61, 28, 16, 7, 162, 0, 17, 27, 26, 28, 122, 4, 126, 96, 60, 132, 2, 1, 167, 255, 239]
abbrev dktX13_bits_0 : List UInt8 := dkwX13_bits_0 ++ dktX13_bits_1
theorem dksX13_bits_0 : cX13_bits.data.toList.drop 0 = dktX13_bits_0 := by decide +kernel
theorem dksX13_bits_1 : cX13_bits.data.toList.drop 24 = dktX13_bits_1 := dk_seg dksX13_bits_0 24 rfl rfl
theorem dX13_bits_0 : decode cX13_bits 0 = .ok (.iconst 0, 1) := dk_3 (dk_at dksX13_bits_0 0 rfl rfl)
theorem dX13_bits_1 : decode cX13_bits 1 = .ok (.istore_n 1, 1) := dk_60 (dk_at dksX13_bits_0 1 rfl rfl)
theorem dX13_bits_2 : decode cX13_bits 2 = .ok (.iconst 0, 1) := dk_3 (dk_at dksX13_bits_0 2 rfl rfl)
theorem dX13_bits_3 : decode cX13_bits 3 = .ok (.istore_n 2, 1) := dk_61 (dk_at dksX13_bits_0 3 rfl rfl)
theorem dX13_bits_4 : decode cX13_bits 4 = .ok (.iload_n 2, 1) := dk_28 (dk_at dksX13_bits_0 4 rfl rfl)
theorem dX13_bits_5 : decode cX13_bits 5 = .ok (.bipush 7, 2) := dk_16 7 (dk_at dksX13_bits_0 5 rfl rfl)
theorem dX13_bits_7 : decode cX13_bits 7 = .ok (.if_icmp .ge 17, 3) := dk_162 0 17 (dk_at dksX13_bits_0 7 rfl rfl)
theorem dX13_bits_10 : decode cX13_bits 10 = .ok (.iload_n 1, 1) := dk_27 (dk_at dksX13_bits_0 10 rfl rfl)
theorem dX13_bits_11 : decode cX13_bits 11 = .ok (.iload_n 0, 1) := dk_26 (dk_at dksX13_bits_0 11 rfl rfl)
theorem dX13_bits_12 : decode cX13_bits 12 = .ok (.iload_n 2, 1) := dk_28 (dk_at dksX13_bits_0 12 rfl rfl)
theorem dX13_bits_13 : decode cX13_bits 13 = .ok (.ishr, 1) := dk_122 (dk_at dksX13_bits_0 13 rfl rfl)
theorem dX13_bits_14 : decode cX13_bits 14 = .ok (.iconst 1, 1) := dk_4 (dk_at dksX13_bits_0 14 rfl rfl)
theorem dX13_bits_15 : decode cX13_bits 15 = .ok (.iand, 1) := dk_126 (dk_at dksX13_bits_0 15 rfl rfl)
theorem dX13_bits_16 : decode cX13_bits 16 = .ok (.iadd, 1) := dk_96 (dk_at dksX13_bits_0 16 rfl rfl)
theorem dX13_bits_17 : decode cX13_bits 17 = .ok (.istore_n 1, 1) := dk_60 (dk_at dksX13_bits_0 17 rfl rfl)
theorem dX13_bits_18 : decode cX13_bits 18 = .ok (.iinc 2 1, 3) := dk_132 2 1 (dk_at dksX13_bits_0 18 rfl rfl)
theorem dX13_bits_21 : decode cX13_bits 21 = .ok (.goto (-17), 3) := dk_167 255 239 (dk_at dksX13_bits_0 21 rfl rfl)
theorem dX13_bits_24 : decode cX13_bits 24 = .ok (.iload_n 1, 1) := dk_27 (dk_at dksX13_bits_1 0 rfl rfl)
theorem dX13_bits_25 : decode cX13_bits 25 = .ok (.ireturn, 1) := dk_172 (dk_at dksX13_bits_1 1 rfl rfl)
abbrev cX13_piecesOf : ByteArray := prog_21_method_76_code
def yX13_piecesOf : MethodName := ⟨RX13, "piecesOf", "(I)I"⟩
def dkwX13_piecesOf_1 : List UInt8 := [160, 0, 15, 28, 42, 180, 0, 131, 16, 14, 29, 96, 46, 96, 61, 132, 3, 1, 167, 255, 219, 28, 172]
abbrev dktX13_piecesOf_1 : List UInt8 := dkwX13_piecesOf_1 ++ []
def dkwX13_piecesOf_0 : List UInt8 := [3, 61, 3, 62, 29, 42, 180, 0, 49, 42, 180, 1, 2, 46, 162, 0, 30, 27, 29, 122, 4, 126, 4]
abbrev dktX13_piecesOf_0 : List UInt8 := dkwX13_piecesOf_0 ++ dktX13_piecesOf_1
theorem dksX13_piecesOf_0 : cX13_piecesOf.data.toList.drop 0 = dktX13_piecesOf_0 := by decide +kernel
theorem dksX13_piecesOf_1 : cX13_piecesOf.data.toList.drop 23 = dktX13_piecesOf_1 := dk_seg dksX13_piecesOf_0 23 rfl rfl
theorem dX13_piecesOf_0 : decode cX13_piecesOf 0 = .ok (.iconst 0, 1) := dk_3 (dk_at dksX13_piecesOf_0 0 rfl rfl)
theorem dX13_piecesOf_1 : decode cX13_piecesOf 1 = .ok (.istore_n 2, 1) := dk_61 (dk_at dksX13_piecesOf_0 1 rfl rfl)
theorem dX13_piecesOf_2 : decode cX13_piecesOf 2 = .ok (.iconst 0, 1) := dk_3 (dk_at dksX13_piecesOf_0 2 rfl rfl)
theorem dX13_piecesOf_3 : decode cX13_piecesOf 3 = .ok (.istore_n 3, 1) := dk_62 (dk_at dksX13_piecesOf_0 3 rfl rfl)
theorem dX13_piecesOf_4 : decode cX13_piecesOf 4 = .ok (.iload_n 3, 1) := dk_29 (dk_at dksX13_piecesOf_0 4 rfl rfl)
theorem dX13_piecesOf_5 : decode cX13_piecesOf 5 = .ok (.aload_n 0, 1) := dk_42 (dk_at dksX13_piecesOf_0 5 rfl rfl)
theorem dX13_piecesOf_6 : decode cX13_piecesOf 6 = .ok (.getfield 49, 3) := dk_180 0 49 (dk_at dksX13_piecesOf_0 6 rfl rfl)
theorem dX13_piecesOf_9 : decode cX13_piecesOf 9 = .ok (.aload_n 0, 1) := dk_42 (dk_at dksX13_piecesOf_0 9 rfl rfl)
theorem dX13_piecesOf_10 : decode cX13_piecesOf 10 = .ok (.getfield 258, 3) := dk_180 1 2 (dk_at dksX13_piecesOf_0 10 rfl rfl)
theorem dX13_piecesOf_13 : decode cX13_piecesOf 13 = .ok (.iaload, 1) := dk_46 (dk_at dksX13_piecesOf_0 13 rfl rfl)
theorem dX13_piecesOf_14 : decode cX13_piecesOf 14 = .ok (.if_icmp .ge 30, 3) := dk_162 0 30 (dk_at dksX13_piecesOf_0 14 rfl rfl)
theorem dX13_piecesOf_17 : decode cX13_piecesOf 17 = .ok (.iload_n 1, 1) := dk_27 (dk_at dksX13_piecesOf_0 17 rfl rfl)
theorem dX13_piecesOf_18 : decode cX13_piecesOf 18 = .ok (.iload_n 3, 1) := dk_29 (dk_at dksX13_piecesOf_0 18 rfl rfl)
theorem dX13_piecesOf_19 : decode cX13_piecesOf 19 = .ok (.ishr, 1) := dk_122 (dk_at dksX13_piecesOf_0 19 rfl rfl)
theorem dX13_piecesOf_20 : decode cX13_piecesOf 20 = .ok (.iconst 1, 1) := dk_4 (dk_at dksX13_piecesOf_0 20 rfl rfl)
theorem dX13_piecesOf_21 : decode cX13_piecesOf 21 = .ok (.iand, 1) := dk_126 (dk_at dksX13_piecesOf_0 21 rfl rfl)
theorem dX13_piecesOf_22 : decode cX13_piecesOf 22 = .ok (.iconst 1, 1) := dk_4 (dk_at dksX13_piecesOf_0 22 rfl rfl)
theorem dX13_piecesOf_23 : decode cX13_piecesOf 23 = .ok (.if_icmp .ne 15, 3) := dk_160 0 15 (dk_at dksX13_piecesOf_1 0 rfl rfl)
theorem dX13_piecesOf_26 : decode cX13_piecesOf 26 = .ok (.iload_n 2, 1) := dk_28 (dk_at dksX13_piecesOf_1 3 rfl rfl)
theorem dX13_piecesOf_27 : decode cX13_piecesOf 27 = .ok (.aload_n 0, 1) := dk_42 (dk_at dksX13_piecesOf_1 4 rfl rfl)
theorem dX13_piecesOf_28 : decode cX13_piecesOf 28 = .ok (.getfield 131, 3) := dk_180 0 131 (dk_at dksX13_piecesOf_1 5 rfl rfl)
theorem dX13_piecesOf_31 : decode cX13_piecesOf 31 = .ok (.bipush 14, 2) := dk_16 14 (dk_at dksX13_piecesOf_1 8 rfl rfl)
theorem dX13_piecesOf_33 : decode cX13_piecesOf 33 = .ok (.iload_n 3, 1) := dk_29 (dk_at dksX13_piecesOf_1 10 rfl rfl)
theorem dX13_piecesOf_34 : decode cX13_piecesOf 34 = .ok (.iadd, 1) := dk_96 (dk_at dksX13_piecesOf_1 11 rfl rfl)
theorem dX13_piecesOf_35 : decode cX13_piecesOf 35 = .ok (.iaload, 1) := dk_46 (dk_at dksX13_piecesOf_1 12 rfl rfl)
theorem dX13_piecesOf_36 : decode cX13_piecesOf 36 = .ok (.iadd, 1) := dk_96 (dk_at dksX13_piecesOf_1 13 rfl rfl)
theorem dX13_piecesOf_37 : decode cX13_piecesOf 37 = .ok (.istore_n 2, 1) := dk_61 (dk_at dksX13_piecesOf_1 14 rfl rfl)
theorem dX13_piecesOf_38 : decode cX13_piecesOf 38 = .ok (.iinc 3 1, 3) := dk_132 3 1 (dk_at dksX13_piecesOf_1 15 rfl rfl)
theorem dX13_piecesOf_41 : decode cX13_piecesOf 41 = .ok (.goto (-37), 3) := dk_167 255 219 (dk_at dksX13_piecesOf_1 18 rfl rfl)
theorem dX13_piecesOf_44 : decode cX13_piecesOf 44 = .ok (.iload_n 2, 1) := dk_28 (dk_at dksX13_piecesOf_1 21 rfl rfl)
theorem dX13_piecesOf_45 : decode cX13_piecesOf 45 = .ok (.ireturn, 1) := dk_172 (dk_at dksX13_piecesOf_1 22 rfl rfl)
abbrev cX13_way : ByteArray := prog_21_method_81_code
def yX13_way : MethodName := ⟨RX13, "way", "(I)I"⟩
def dkwX13_way_0 : List UInt8 := [42, 27, 182, 1, 138, 153, 0, 11, 42, 27, 182, 1, 178, 167, 0, 4, 2, 172]
abbrev dktX13_way_0 : List UInt8 := dkwX13_way_0 ++ []
theorem dksX13_way_0 : cX13_way.data.toList.drop 0 = dktX13_way_0 := by decide +kernel
theorem dX13_way_0 : decode cX13_way 0 = .ok (.aload_n 0, 1) := dk_42 (dk_at dksX13_way_0 0 rfl rfl)
theorem dX13_way_1 : decode cX13_way 1 = .ok (.iload_n 1, 1) := dk_27 (dk_at dksX13_way_0 1 rfl rfl)
theorem dX13_way_2 : decode cX13_way 2 = .ok (.invokevirtual 394, 3) := dk_182 1 138 (dk_at dksX13_way_0 2 rfl rfl)
theorem dX13_way_5 : decode cX13_way 5 = .ok (.ifCond .eq 11, 3) := dk_153 0 11 (dk_at dksX13_way_0 5 rfl rfl)
theorem dX13_way_8 : decode cX13_way 8 = .ok (.aload_n 0, 1) := dk_42 (dk_at dksX13_way_0 8 rfl rfl)
theorem dX13_way_9 : decode cX13_way 9 = .ok (.iload_n 1, 1) := dk_27 (dk_at dksX13_way_0 9 rfl rfl)
theorem dX13_way_10 : decode cX13_way 10 = .ok (.invokevirtual 434, 3) := dk_182 1 178 (dk_at dksX13_way_0 10 rfl rfl)
theorem dX13_way_13 : decode cX13_way 13 = .ok (.goto 4, 3) := dk_167 0 4 (dk_at dksX13_way_0 13 rfl rfl)
theorem dX13_way_16 : decode cX13_way 16 = .ok (.iconst (-1), 1) := dk_2 (dk_at dksX13_way_0 16 rfl rfl)
theorem dX13_way_17 : decode cX13_way 17 = .ok (.ireturn, 1) := dk_172 (dk_at dksX13_way_0 17 rfl rfl)
abbrev cX13_wayOf : ByteArray := prog_21_method_80_code
def yX13_wayOf : MethodName := ⟨RX13, "wayOf", "(I)I"⟩
def dkwX13_wayOf_1 : List UInt8 := [180, 1, 2, 104, 27, 96, 46, 182, 1, 175, 172]
abbrev dktX13_wayOf_1 : List UInt8 := dkwX13_wayOf_1 ++ []
def dkwX13_wayOf_0 : List UInt8 := [42, 27, 42, 180, 0, 52, 16, 7, 42, 180, 1, 2, 104, 27, 96, 46, 42, 180, 0, 55, 16, 7, 42]
abbrev dktX13_wayOf_0 : List UInt8 := dkwX13_wayOf_0 ++ dktX13_wayOf_1
theorem dksX13_wayOf_0 : cX13_wayOf.data.toList.drop 0 = dktX13_wayOf_0 := by decide +kernel
theorem dksX13_wayOf_1 : cX13_wayOf.data.toList.drop 23 = dktX13_wayOf_1 := dk_seg dksX13_wayOf_0 23 rfl rfl
theorem dX13_wayOf_0 : decode cX13_wayOf 0 = .ok (.aload_n 0, 1) := dk_42 (dk_at dksX13_wayOf_0 0 rfl rfl)
theorem dX13_wayOf_1 : decode cX13_wayOf 1 = .ok (.iload_n 1, 1) := dk_27 (dk_at dksX13_wayOf_0 1 rfl rfl)
theorem dX13_wayOf_2 : decode cX13_wayOf 2 = .ok (.aload_n 0, 1) := dk_42 (dk_at dksX13_wayOf_0 2 rfl rfl)
theorem dX13_wayOf_3 : decode cX13_wayOf 3 = .ok (.getfield 52, 3) := dk_180 0 52 (dk_at dksX13_wayOf_0 3 rfl rfl)
theorem dX13_wayOf_6 : decode cX13_wayOf 6 = .ok (.bipush 7, 2) := dk_16 7 (dk_at dksX13_wayOf_0 6 rfl rfl)
theorem dX13_wayOf_8 : decode cX13_wayOf 8 = .ok (.aload_n 0, 1) := dk_42 (dk_at dksX13_wayOf_0 8 rfl rfl)
theorem dX13_wayOf_9 : decode cX13_wayOf 9 = .ok (.getfield 258, 3) := dk_180 1 2 (dk_at dksX13_wayOf_0 9 rfl rfl)
theorem dX13_wayOf_12 : decode cX13_wayOf 12 = .ok (.imul, 1) := dk_104 (dk_at dksX13_wayOf_0 12 rfl rfl)
theorem dX13_wayOf_13 : decode cX13_wayOf 13 = .ok (.iload_n 1, 1) := dk_27 (dk_at dksX13_wayOf_0 13 rfl rfl)
theorem dX13_wayOf_14 : decode cX13_wayOf 14 = .ok (.iadd, 1) := dk_96 (dk_at dksX13_wayOf_0 14 rfl rfl)
theorem dX13_wayOf_15 : decode cX13_wayOf 15 = .ok (.iaload, 1) := dk_46 (dk_at dksX13_wayOf_0 15 rfl rfl)
theorem dX13_wayOf_16 : decode cX13_wayOf 16 = .ok (.aload_n 0, 1) := dk_42 (dk_at dksX13_wayOf_0 16 rfl rfl)
theorem dX13_wayOf_17 : decode cX13_wayOf 17 = .ok (.getfield 55, 3) := dk_180 0 55 (dk_at dksX13_wayOf_0 17 rfl rfl)
theorem dX13_wayOf_20 : decode cX13_wayOf 20 = .ok (.bipush 7, 2) := dk_16 7 (dk_at dksX13_wayOf_0 20 rfl rfl)
theorem dX13_wayOf_22 : decode cX13_wayOf 22 = .ok (.aload_n 0, 1) := dk_42 (dk_at dksX13_wayOf_0 22 rfl rfl)
theorem dX13_wayOf_23 : decode cX13_wayOf 23 = .ok (.getfield 258, 3) := dk_180 1 2 (dk_at dksX13_wayOf_1 0 rfl rfl)
theorem dX13_wayOf_26 : decode cX13_wayOf 26 = .ok (.imul, 1) := dk_104 (dk_at dksX13_wayOf_1 3 rfl rfl)
theorem dX13_wayOf_27 : decode cX13_wayOf 27 = .ok (.iload_n 1, 1) := dk_27 (dk_at dksX13_wayOf_1 4 rfl rfl)
theorem dX13_wayOf_28 : decode cX13_wayOf 28 = .ok (.iadd, 1) := dk_96 (dk_at dksX13_wayOf_1 5 rfl rfl)
theorem dX13_wayOf_29 : decode cX13_wayOf 29 = .ok (.iaload, 1) := dk_46 (dk_at dksX13_wayOf_1 6 rfl rfl)
theorem dX13_wayOf_30 : decode cX13_wayOf 30 = .ok (.invokevirtual 431, 3) := dk_182 1 175 (dk_at dksX13_wayOf_1 7 rfl rfl)
theorem dX13_wayOf_33 : decode cX13_wayOf 33 = .ok (.ireturn, 1) := dk_172 (dk_at dksX13_wayOf_1 10 rfl rfl)
abbrev cX13_wayFrom : ByteArray := prog_21_method_79_code
def yX13_wayFrom : MethodName := ⟨RX13, "wayFrom", "(III)I"⟩
def dkwX13_wayFrom_8 : List UInt8 := [132, 10, 1, 167, 255, 232, 42, 21, 4, 182, 1, 172, 54, 6, 167, 255, 102, 21, 5, 172]
abbrev dktX13_wayFrom_8 : List UInt8 := dkwX13_wayFrom_8 ++ []
def dkwX13_wayFrom_7 : List UInt8 := [54, 10, 21, 10, 21, 4, 162, 0, 23, 42, 180, 0, 150, 21, 10, 42, 180, 0, 147, 21, 10, 46, 79]
abbrev dktX13_wayFrom_7 : List UInt8 := dkwX13_wayFrom_7 ++ dktX13_wayFrom_8
def dkwX13_wayFrom_6 : List UInt8 := [132, 10, 1, 167, 255, 176, 21, 5, 155, 0, 10, 21, 7, 21, 5, 162, 0, 37, 21, 7, 54, 5, 3]
abbrev dktX13_wayFrom_6 : List UInt8 := dkwX13_wayFrom_6 ++ dktX13_wayFrom_7
def dkwX13_wayFrom_5 : List UInt8 := [96, 96, 54, 7, 42, 180, 0, 64, 21, 11, 46, 54, 8, 42, 180, 0, 67, 21, 11, 46, 54, 9]
abbrev dktX13_wayFrom_5 : List UInt8 := dkwX13_wayFrom_5 ++ dktX13_wayFrom_6
def dkwX13_wayFrom_4 : List UInt8 := [21, 8, 42, 180, 0, 64, 21, 11, 46, 184, 1, 144, 21, 9, 42, 180, 0, 67, 21, 11, 46, 184, 1, 144]
abbrev dktX13_wayFrom_4 : List UInt8 := dkwX13_wayFrom_4 ++ dktX13_wayFrom_5
def dkwX13_wayFrom_3 : List UInt8 := [16, 42, 42, 180, 1, 2, 104, 16, 6, 27, 104, 96, 42, 180, 0, 147, 21, 10, 46, 96, 54, 11, 21, 7]
abbrev dktX13_wayFrom_3 : List UInt8 := dkwX13_wayFrom_3 ++ dktX13_wayFrom_4
def dkwX13_wayFrom_2 : List UInt8 := [21, 6, 153, 0, 155, 3, 54, 7, 28, 54, 8, 29, 54, 9, 3, 54, 10, 21, 10, 21, 4, 162, 0, 79]
abbrev dktX13_wayFrom_2 : List UInt8 := dkwX13_wayFrom_2 ++ dktX13_wayFrom_3
def dkwX13_wayFrom_1 : List UInt8 := [162, 0, 18, 42, 180, 0, 147, 21, 5, 21, 5, 79, 132, 5, 1, 167, 255, 237, 2, 54, 5, 4, 54, 6]
abbrev dktX13_wayFrom_1 : List UInt8 := dkwX13_wayFrom_1 ++ dktX13_wayFrom_2
def dkwX13_wayFrom_0 : List UInt8 := [42, 180, 0, 61, 16, 7, 42, 180, 1, 2, 104, 27, 96, 46, 54, 4, 3, 54, 5, 21, 5, 21, 4]
abbrev dktX13_wayFrom_0 : List UInt8 := dkwX13_wayFrom_0 ++ dktX13_wayFrom_1
theorem dksX13_wayFrom_0 : cX13_wayFrom.data.toList.drop 0 = dktX13_wayFrom_0 := by decide +kernel
theorem dksX13_wayFrom_1 : cX13_wayFrom.data.toList.drop 23 = dktX13_wayFrom_1 := dk_seg dksX13_wayFrom_0 23 rfl rfl
theorem dksX13_wayFrom_2 : cX13_wayFrom.data.toList.drop 47 = dktX13_wayFrom_2 := dk_seg dksX13_wayFrom_1 24 rfl rfl
theorem dksX13_wayFrom_3 : cX13_wayFrom.data.toList.drop 71 = dktX13_wayFrom_3 := dk_seg dksX13_wayFrom_2 24 rfl rfl
theorem dksX13_wayFrom_4 : cX13_wayFrom.data.toList.drop 95 = dktX13_wayFrom_4 := dk_seg dksX13_wayFrom_3 24 rfl rfl
theorem dksX13_wayFrom_5 : cX13_wayFrom.data.toList.drop 119 = dktX13_wayFrom_5 := dk_seg dksX13_wayFrom_4 24 rfl rfl
theorem dksX13_wayFrom_6 : cX13_wayFrom.data.toList.drop 141 = dktX13_wayFrom_6 := dk_seg dksX13_wayFrom_5 22 rfl rfl
theorem dksX13_wayFrom_7 : cX13_wayFrom.data.toList.drop 164 = dktX13_wayFrom_7 := dk_seg dksX13_wayFrom_6 23 rfl rfl
theorem dksX13_wayFrom_8 : cX13_wayFrom.data.toList.drop 187 = dktX13_wayFrom_8 := dk_seg dksX13_wayFrom_7 23 rfl rfl
theorem dX13_wayFrom_0 : decode cX13_wayFrom 0 = .ok (.aload_n 0, 1) := dk_42 (dk_at dksX13_wayFrom_0 0 rfl rfl)
theorem dX13_wayFrom_1 : decode cX13_wayFrom 1 = .ok (.getfield 61, 3) := dk_180 0 61 (dk_at dksX13_wayFrom_0 1 rfl rfl)
theorem dX13_wayFrom_4 : decode cX13_wayFrom 4 = .ok (.bipush 7, 2) := dk_16 7 (dk_at dksX13_wayFrom_0 4 rfl rfl)
theorem dX13_wayFrom_6 : decode cX13_wayFrom 6 = .ok (.aload_n 0, 1) := dk_42 (dk_at dksX13_wayFrom_0 6 rfl rfl)
theorem dX13_wayFrom_7 : decode cX13_wayFrom 7 = .ok (.getfield 258, 3) := dk_180 1 2 (dk_at dksX13_wayFrom_0 7 rfl rfl)
theorem dX13_wayFrom_10 : decode cX13_wayFrom 10 = .ok (.imul, 1) := dk_104 (dk_at dksX13_wayFrom_0 10 rfl rfl)
theorem dX13_wayFrom_11 : decode cX13_wayFrom 11 = .ok (.iload_n 1, 1) := dk_27 (dk_at dksX13_wayFrom_0 11 rfl rfl)
theorem dX13_wayFrom_12 : decode cX13_wayFrom 12 = .ok (.iadd, 1) := dk_96 (dk_at dksX13_wayFrom_0 12 rfl rfl)
theorem dX13_wayFrom_13 : decode cX13_wayFrom 13 = .ok (.iaload, 1) := dk_46 (dk_at dksX13_wayFrom_0 13 rfl rfl)
theorem dX13_wayFrom_14 : decode cX13_wayFrom 14 = .ok (.istore 4, 2) := dk_54 4 (dk_at dksX13_wayFrom_0 14 rfl rfl)
theorem dX13_wayFrom_16 : decode cX13_wayFrom 16 = .ok (.iconst 0, 1) := dk_3 (dk_at dksX13_wayFrom_0 16 rfl rfl)
theorem dX13_wayFrom_17 : decode cX13_wayFrom 17 = .ok (.istore 5, 2) := dk_54 5 (dk_at dksX13_wayFrom_0 17 rfl rfl)
theorem dX13_wayFrom_19 : decode cX13_wayFrom 19 = .ok (.iload 5, 2) := dk_21 5 (dk_at dksX13_wayFrom_0 19 rfl rfl)
theorem dX13_wayFrom_21 : decode cX13_wayFrom 21 = .ok (.iload 4, 2) := dk_21 4 (dk_at dksX13_wayFrom_0 21 rfl rfl)
theorem dX13_wayFrom_23 : decode cX13_wayFrom 23 = .ok (.if_icmp .ge 18, 3) := dk_162 0 18 (dk_at dksX13_wayFrom_1 0 rfl rfl)
theorem dX13_wayFrom_26 : decode cX13_wayFrom 26 = .ok (.aload_n 0, 1) := dk_42 (dk_at dksX13_wayFrom_1 3 rfl rfl)
theorem dX13_wayFrom_27 : decode cX13_wayFrom 27 = .ok (.getfield 147, 3) := dk_180 0 147 (dk_at dksX13_wayFrom_1 4 rfl rfl)
theorem dX13_wayFrom_30 : decode cX13_wayFrom 30 = .ok (.iload 5, 2) := dk_21 5 (dk_at dksX13_wayFrom_1 7 rfl rfl)
theorem dX13_wayFrom_32 : decode cX13_wayFrom 32 = .ok (.iload 5, 2) := dk_21 5 (dk_at dksX13_wayFrom_1 9 rfl rfl)
theorem dX13_wayFrom_34 : decode cX13_wayFrom 34 = .ok (.iastore, 1) := dk_79 (dk_at dksX13_wayFrom_1 11 rfl rfl)
theorem dX13_wayFrom_35 : decode cX13_wayFrom 35 = .ok (.iinc 5 1, 3) := dk_132 5 1 (dk_at dksX13_wayFrom_1 12 rfl rfl)
theorem dX13_wayFrom_38 : decode cX13_wayFrom 38 = .ok (.goto (-19), 3) := dk_167 255 237 (dk_at dksX13_wayFrom_1 15 rfl rfl)
theorem dX13_wayFrom_41 : decode cX13_wayFrom 41 = .ok (.iconst (-1), 1) := dk_2 (dk_at dksX13_wayFrom_1 18 rfl rfl)
theorem dX13_wayFrom_42 : decode cX13_wayFrom 42 = .ok (.istore 5, 2) := dk_54 5 (dk_at dksX13_wayFrom_1 19 rfl rfl)
theorem dX13_wayFrom_44 : decode cX13_wayFrom 44 = .ok (.iconst 1, 1) := dk_4 (dk_at dksX13_wayFrom_1 21 rfl rfl)
theorem dX13_wayFrom_45 : decode cX13_wayFrom 45 = .ok (.istore 6, 2) := dk_54 6 (dk_at dksX13_wayFrom_1 22 rfl rfl)
theorem dX13_wayFrom_47 : decode cX13_wayFrom 47 = .ok (.iload 6, 2) := dk_21 6 (dk_at dksX13_wayFrom_2 0 rfl rfl)
theorem dX13_wayFrom_49 : decode cX13_wayFrom 49 = .ok (.ifCond .eq 155, 3) := dk_153 0 155 (dk_at dksX13_wayFrom_2 2 rfl rfl)
theorem dX13_wayFrom_52 : decode cX13_wayFrom 52 = .ok (.iconst 0, 1) := dk_3 (dk_at dksX13_wayFrom_2 5 rfl rfl)
theorem dX13_wayFrom_53 : decode cX13_wayFrom 53 = .ok (.istore 7, 2) := dk_54 7 (dk_at dksX13_wayFrom_2 6 rfl rfl)
theorem dX13_wayFrom_55 : decode cX13_wayFrom 55 = .ok (.iload_n 2, 1) := dk_28 (dk_at dksX13_wayFrom_2 8 rfl rfl)
theorem dX13_wayFrom_56 : decode cX13_wayFrom 56 = .ok (.istore 8, 2) := dk_54 8 (dk_at dksX13_wayFrom_2 9 rfl rfl)
theorem dX13_wayFrom_58 : decode cX13_wayFrom 58 = .ok (.iload_n 3, 1) := dk_29 (dk_at dksX13_wayFrom_2 11 rfl rfl)
theorem dX13_wayFrom_59 : decode cX13_wayFrom 59 = .ok (.istore 9, 2) := dk_54 9 (dk_at dksX13_wayFrom_2 12 rfl rfl)
theorem dX13_wayFrom_61 : decode cX13_wayFrom 61 = .ok (.iconst 0, 1) := dk_3 (dk_at dksX13_wayFrom_2 14 rfl rfl)
theorem dX13_wayFrom_62 : decode cX13_wayFrom 62 = .ok (.istore 10, 2) := dk_54 10 (dk_at dksX13_wayFrom_2 15 rfl rfl)
theorem dX13_wayFrom_64 : decode cX13_wayFrom 64 = .ok (.iload 10, 2) := dk_21 10 (dk_at dksX13_wayFrom_2 17 rfl rfl)
theorem dX13_wayFrom_66 : decode cX13_wayFrom 66 = .ok (.iload 4, 2) := dk_21 4 (dk_at dksX13_wayFrom_2 19 rfl rfl)
theorem dX13_wayFrom_68 : decode cX13_wayFrom 68 = .ok (.if_icmp .ge 79, 3) := dk_162 0 79 (dk_at dksX13_wayFrom_2 21 rfl rfl)
theorem dX13_wayFrom_71 : decode cX13_wayFrom 71 = .ok (.bipush 42, 2) := dk_16 42 (dk_at dksX13_wayFrom_3 0 rfl rfl)
theorem dX13_wayFrom_73 : decode cX13_wayFrom 73 = .ok (.aload_n 0, 1) := dk_42 (dk_at dksX13_wayFrom_3 2 rfl rfl)
theorem dX13_wayFrom_74 : decode cX13_wayFrom 74 = .ok (.getfield 258, 3) := dk_180 1 2 (dk_at dksX13_wayFrom_3 3 rfl rfl)
theorem dX13_wayFrom_77 : decode cX13_wayFrom 77 = .ok (.imul, 1) := dk_104 (dk_at dksX13_wayFrom_3 6 rfl rfl)
theorem dX13_wayFrom_78 : decode cX13_wayFrom 78 = .ok (.bipush 6, 2) := dk_16 6 (dk_at dksX13_wayFrom_3 7 rfl rfl)
theorem dX13_wayFrom_80 : decode cX13_wayFrom 80 = .ok (.iload_n 1, 1) := dk_27 (dk_at dksX13_wayFrom_3 9 rfl rfl)
theorem dX13_wayFrom_81 : decode cX13_wayFrom 81 = .ok (.imul, 1) := dk_104 (dk_at dksX13_wayFrom_3 10 rfl rfl)
theorem dX13_wayFrom_82 : decode cX13_wayFrom 82 = .ok (.iadd, 1) := dk_96 (dk_at dksX13_wayFrom_3 11 rfl rfl)
theorem dX13_wayFrom_83 : decode cX13_wayFrom 83 = .ok (.aload_n 0, 1) := dk_42 (dk_at dksX13_wayFrom_3 12 rfl rfl)
theorem dX13_wayFrom_84 : decode cX13_wayFrom 84 = .ok (.getfield 147, 3) := dk_180 0 147 (dk_at dksX13_wayFrom_3 13 rfl rfl)
theorem dX13_wayFrom_87 : decode cX13_wayFrom 87 = .ok (.iload 10, 2) := dk_21 10 (dk_at dksX13_wayFrom_3 16 rfl rfl)
theorem dX13_wayFrom_89 : decode cX13_wayFrom 89 = .ok (.iaload, 1) := dk_46 (dk_at dksX13_wayFrom_3 18 rfl rfl)
theorem dX13_wayFrom_90 : decode cX13_wayFrom 90 = .ok (.iadd, 1) := dk_96 (dk_at dksX13_wayFrom_3 19 rfl rfl)
theorem dX13_wayFrom_91 : decode cX13_wayFrom 91 = .ok (.istore 11, 2) := dk_54 11 (dk_at dksX13_wayFrom_3 20 rfl rfl)
theorem dX13_wayFrom_93 : decode cX13_wayFrom 93 = .ok (.iload 7, 2) := dk_21 7 (dk_at dksX13_wayFrom_3 22 rfl rfl)
theorem dX13_wayFrom_95 : decode cX13_wayFrom 95 = .ok (.iload 8, 2) := dk_21 8 (dk_at dksX13_wayFrom_4 0 rfl rfl)
theorem dX13_wayFrom_97 : decode cX13_wayFrom 97 = .ok (.aload_n 0, 1) := dk_42 (dk_at dksX13_wayFrom_4 2 rfl rfl)
theorem dX13_wayFrom_98 : decode cX13_wayFrom 98 = .ok (.getfield 64, 3) := dk_180 0 64 (dk_at dksX13_wayFrom_4 3 rfl rfl)
theorem dX13_wayFrom_101 : decode cX13_wayFrom 101 = .ok (.iload 11, 2) := dk_21 11 (dk_at dksX13_wayFrom_4 6 rfl rfl)
theorem dX13_wayFrom_103 : decode cX13_wayFrom 103 = .ok (.iaload, 1) := dk_46 (dk_at dksX13_wayFrom_4 8 rfl rfl)
theorem dX13_wayFrom_104 : decode cX13_wayFrom 104 = .ok (.invokestatic 400, 3) := dk_184 1 144 (dk_at dksX13_wayFrom_4 9 rfl rfl)
theorem dX13_wayFrom_107 : decode cX13_wayFrom 107 = .ok (.iload 9, 2) := dk_21 9 (dk_at dksX13_wayFrom_4 12 rfl rfl)
theorem dX13_wayFrom_109 : decode cX13_wayFrom 109 = .ok (.aload_n 0, 1) := dk_42 (dk_at dksX13_wayFrom_4 14 rfl rfl)
theorem dX13_wayFrom_110 : decode cX13_wayFrom 110 = .ok (.getfield 67, 3) := dk_180 0 67 (dk_at dksX13_wayFrom_4 15 rfl rfl)
theorem dX13_wayFrom_113 : decode cX13_wayFrom 113 = .ok (.iload 11, 2) := dk_21 11 (dk_at dksX13_wayFrom_4 18 rfl rfl)
theorem dX13_wayFrom_115 : decode cX13_wayFrom 115 = .ok (.iaload, 1) := dk_46 (dk_at dksX13_wayFrom_4 20 rfl rfl)
theorem dX13_wayFrom_116 : decode cX13_wayFrom 116 = .ok (.invokestatic 400, 3) := dk_184 1 144 (dk_at dksX13_wayFrom_4 21 rfl rfl)
theorem dX13_wayFrom_119 : decode cX13_wayFrom 119 = .ok (.iadd, 1) := dk_96 (dk_at dksX13_wayFrom_5 0 rfl rfl)
theorem dX13_wayFrom_120 : decode cX13_wayFrom 120 = .ok (.iadd, 1) := dk_96 (dk_at dksX13_wayFrom_5 1 rfl rfl)
theorem dX13_wayFrom_121 : decode cX13_wayFrom 121 = .ok (.istore 7, 2) := dk_54 7 (dk_at dksX13_wayFrom_5 2 rfl rfl)
theorem dX13_wayFrom_123 : decode cX13_wayFrom 123 = .ok (.aload_n 0, 1) := dk_42 (dk_at dksX13_wayFrom_5 4 rfl rfl)
theorem dX13_wayFrom_124 : decode cX13_wayFrom 124 = .ok (.getfield 64, 3) := dk_180 0 64 (dk_at dksX13_wayFrom_5 5 rfl rfl)
theorem dX13_wayFrom_127 : decode cX13_wayFrom 127 = .ok (.iload 11, 2) := dk_21 11 (dk_at dksX13_wayFrom_5 8 rfl rfl)
theorem dX13_wayFrom_129 : decode cX13_wayFrom 129 = .ok (.iaload, 1) := dk_46 (dk_at dksX13_wayFrom_5 10 rfl rfl)
theorem dX13_wayFrom_130 : decode cX13_wayFrom 130 = .ok (.istore 8, 2) := dk_54 8 (dk_at dksX13_wayFrom_5 11 rfl rfl)
theorem dX13_wayFrom_132 : decode cX13_wayFrom 132 = .ok (.aload_n 0, 1) := dk_42 (dk_at dksX13_wayFrom_5 13 rfl rfl)
theorem dX13_wayFrom_133 : decode cX13_wayFrom 133 = .ok (.getfield 67, 3) := dk_180 0 67 (dk_at dksX13_wayFrom_5 14 rfl rfl)
theorem dX13_wayFrom_136 : decode cX13_wayFrom 136 = .ok (.iload 11, 2) := dk_21 11 (dk_at dksX13_wayFrom_5 17 rfl rfl)
theorem dX13_wayFrom_138 : decode cX13_wayFrom 138 = .ok (.iaload, 1) := dk_46 (dk_at dksX13_wayFrom_5 19 rfl rfl)
theorem dX13_wayFrom_139 : decode cX13_wayFrom 139 = .ok (.istore 9, 2) := dk_54 9 (dk_at dksX13_wayFrom_5 20 rfl rfl)
theorem dX13_wayFrom_141 : decode cX13_wayFrom 141 = .ok (.iinc 10 1, 3) := dk_132 10 1 (dk_at dksX13_wayFrom_6 0 rfl rfl)
theorem dX13_wayFrom_144 : decode cX13_wayFrom 144 = .ok (.goto (-80), 3) := dk_167 255 176 (dk_at dksX13_wayFrom_6 3 rfl rfl)
theorem dX13_wayFrom_147 : decode cX13_wayFrom 147 = .ok (.iload 5, 2) := dk_21 5 (dk_at dksX13_wayFrom_6 6 rfl rfl)
theorem dX13_wayFrom_149 : decode cX13_wayFrom 149 = .ok (.ifCond .lt 10, 3) := dk_155 0 10 (dk_at dksX13_wayFrom_6 8 rfl rfl)
theorem dX13_wayFrom_152 : decode cX13_wayFrom 152 = .ok (.iload 7, 2) := dk_21 7 (dk_at dksX13_wayFrom_6 11 rfl rfl)
theorem dX13_wayFrom_154 : decode cX13_wayFrom 154 = .ok (.iload 5, 2) := dk_21 5 (dk_at dksX13_wayFrom_6 13 rfl rfl)
theorem dX13_wayFrom_156 : decode cX13_wayFrom 156 = .ok (.if_icmp .ge 37, 3) := dk_162 0 37 (dk_at dksX13_wayFrom_6 15 rfl rfl)
theorem dX13_wayFrom_159 : decode cX13_wayFrom 159 = .ok (.iload 7, 2) := dk_21 7 (dk_at dksX13_wayFrom_6 18 rfl rfl)
theorem dX13_wayFrom_161 : decode cX13_wayFrom 161 = .ok (.istore 5, 2) := dk_54 5 (dk_at dksX13_wayFrom_6 20 rfl rfl)
theorem dX13_wayFrom_163 : decode cX13_wayFrom 163 = .ok (.iconst 0, 1) := dk_3 (dk_at dksX13_wayFrom_6 22 rfl rfl)
theorem dX13_wayFrom_164 : decode cX13_wayFrom 164 = .ok (.istore 10, 2) := dk_54 10 (dk_at dksX13_wayFrom_7 0 rfl rfl)
theorem dX13_wayFrom_166 : decode cX13_wayFrom 166 = .ok (.iload 10, 2) := dk_21 10 (dk_at dksX13_wayFrom_7 2 rfl rfl)
theorem dX13_wayFrom_168 : decode cX13_wayFrom 168 = .ok (.iload 4, 2) := dk_21 4 (dk_at dksX13_wayFrom_7 4 rfl rfl)
theorem dX13_wayFrom_170 : decode cX13_wayFrom 170 = .ok (.if_icmp .ge 23, 3) := dk_162 0 23 (dk_at dksX13_wayFrom_7 6 rfl rfl)
theorem dX13_wayFrom_173 : decode cX13_wayFrom 173 = .ok (.aload_n 0, 1) := dk_42 (dk_at dksX13_wayFrom_7 9 rfl rfl)
theorem dX13_wayFrom_174 : decode cX13_wayFrom 174 = .ok (.getfield 150, 3) := dk_180 0 150 (dk_at dksX13_wayFrom_7 10 rfl rfl)
theorem dX13_wayFrom_177 : decode cX13_wayFrom 177 = .ok (.iload 10, 2) := dk_21 10 (dk_at dksX13_wayFrom_7 13 rfl rfl)
theorem dX13_wayFrom_179 : decode cX13_wayFrom 179 = .ok (.aload_n 0, 1) := dk_42 (dk_at dksX13_wayFrom_7 15 rfl rfl)
theorem dX13_wayFrom_180 : decode cX13_wayFrom 180 = .ok (.getfield 147, 3) := dk_180 0 147 (dk_at dksX13_wayFrom_7 16 rfl rfl)
theorem dX13_wayFrom_183 : decode cX13_wayFrom 183 = .ok (.iload 10, 2) := dk_21 10 (dk_at dksX13_wayFrom_7 19 rfl rfl)
theorem dX13_wayFrom_185 : decode cX13_wayFrom 185 = .ok (.iaload, 1) := dk_46 (dk_at dksX13_wayFrom_7 21 rfl rfl)
theorem dX13_wayFrom_186 : decode cX13_wayFrom 186 = .ok (.iastore, 1) := dk_79 (dk_at dksX13_wayFrom_7 22 rfl rfl)
theorem dX13_wayFrom_187 : decode cX13_wayFrom 187 = .ok (.iinc 10 1, 3) := dk_132 10 1 (dk_at dksX13_wayFrom_8 0 rfl rfl)
theorem dX13_wayFrom_190 : decode cX13_wayFrom 190 = .ok (.goto (-24), 3) := dk_167 255 232 (dk_at dksX13_wayFrom_8 3 rfl rfl)
theorem dX13_wayFrom_193 : decode cX13_wayFrom 193 = .ok (.aload_n 0, 1) := dk_42 (dk_at dksX13_wayFrom_8 6 rfl rfl)
theorem dX13_wayFrom_194 : decode cX13_wayFrom 194 = .ok (.iload 4, 2) := dk_21 4 (dk_at dksX13_wayFrom_8 7 rfl rfl)
theorem dX13_wayFrom_196 : decode cX13_wayFrom 196 = .ok (.invokevirtual 428, 3) := dk_182 1 172 (dk_at dksX13_wayFrom_8 9 rfl rfl)
theorem dX13_wayFrom_199 : decode cX13_wayFrom 199 = .ok (.istore 6, 2) := dk_54 6 (dk_at dksX13_wayFrom_8 12 rfl rfl)
theorem dX13_wayFrom_201 : decode cX13_wayFrom 201 = .ok (.goto (-154), 3) := dk_167 255 102 (dk_at dksX13_wayFrom_8 14 rfl rfl)
theorem dX13_wayFrom_204 : decode cX13_wayFrom 204 = .ok (.iload 5, 2) := dk_21 5 (dk_at dksX13_wayFrom_8 17 rfl rfl)
theorem dX13_wayFrom_206 : decode cX13_wayFrom 206 = .ok (.ireturn, 1) := dk_172 (dk_at dksX13_wayFrom_8 19 rfl rfl)
abbrev cX13_nextOrder : ByteArray := prog_21_method_78_code
def yX13_nextOrder : MethodName := ⟨RX13, "nextOrder", "(I)Z"⟩
def dkwX13_nextOrder_6 : List UInt8 := [132, 5, 1, 132, 6, 255, 167, 255, 211, 4, 172]
abbrev dktX13_nextOrder_6 : List UInt8 := dkwX13_nextOrder_6 ++ []
def dkwX13_nextOrder_5 : List UInt8 := [180, 0, 147, 21, 5, 42, 180, 0, 147, 21, 6, 46, 79, 42, 180, 0, 147, 21, 6, 21, 4, 79]
abbrev dktX13_nextOrder_5 : List UInt8 := dkwX13_nextOrder_5 ++ dktX13_nextOrder_6
def dkwX13_nextOrder_4 : List UInt8 := [54, 5, 27, 4, 100, 54, 6, 21, 5, 21, 6, 162, 0, 44, 42, 180, 0, 147, 21, 5, 46, 54, 4, 42]
abbrev dktX13_nextOrder_4 : List UInt8 := dkwX13_nextOrder_4 ++ dktX13_nextOrder_5
def dkwX13_nextOrder_3 : List UInt8 := [42, 180, 0, 147, 28, 42, 180, 0, 147, 29, 46, 79, 42, 180, 0, 147, 29, 21, 4, 79, 28, 4, 96]
abbrev dktX13_nextOrder_3 : List UInt8 := dkwX13_nextOrder_3 ++ dktX13_nextOrder_4
def dkwX13_nextOrder_2 : List UInt8 := [46, 42, 180, 0, 147, 28, 46, 162, 0, 9, 132, 3, 255, 167, 255, 238, 42, 180, 0, 147, 28, 46, 54, 4]
abbrev dktX13_nextOrder_2 : List UInt8 := dkwX13_nextOrder_2 ++ dktX13_nextOrder_3
def dkwX13_nextOrder_1 : List UInt8 := [164, 0, 9, 132, 2, 255, 167, 255, 232, 28, 156, 0, 5, 3, 172, 27, 4, 100, 62, 42, 180, 0, 147, 29]
abbrev dktX13_nextOrder_1 : List UInt8 := dkwX13_nextOrder_1 ++ dktX13_nextOrder_2
def dkwX13_nextOrder_0 : List UInt8 := [27, 5, 100, 61, 28, 155, 0, 26, 42, 180, 0, 147, 28, 46, 42, 180, 0, 147, 28, 4, 96, 46]
abbrev dktX13_nextOrder_0 : List UInt8 := dkwX13_nextOrder_0 ++ dktX13_nextOrder_1
theorem dksX13_nextOrder_0 : cX13_nextOrder.data.toList.drop 0 = dktX13_nextOrder_0 := by decide +kernel
theorem dksX13_nextOrder_1 : cX13_nextOrder.data.toList.drop 22 = dktX13_nextOrder_1 := dk_seg dksX13_nextOrder_0 22 rfl rfl
theorem dksX13_nextOrder_2 : cX13_nextOrder.data.toList.drop 46 = dktX13_nextOrder_2 := dk_seg dksX13_nextOrder_1 24 rfl rfl
theorem dksX13_nextOrder_3 : cX13_nextOrder.data.toList.drop 70 = dktX13_nextOrder_3 := dk_seg dksX13_nextOrder_2 24 rfl rfl
theorem dksX13_nextOrder_4 : cX13_nextOrder.data.toList.drop 93 = dktX13_nextOrder_4 := dk_seg dksX13_nextOrder_3 23 rfl rfl
theorem dksX13_nextOrder_5 : cX13_nextOrder.data.toList.drop 117 = dktX13_nextOrder_5 := dk_seg dksX13_nextOrder_4 24 rfl rfl
theorem dksX13_nextOrder_6 : cX13_nextOrder.data.toList.drop 139 = dktX13_nextOrder_6 := dk_seg dksX13_nextOrder_5 22 rfl rfl
theorem dX13_nextOrder_0 : decode cX13_nextOrder 0 = .ok (.iload_n 1, 1) := dk_27 (dk_at dksX13_nextOrder_0 0 rfl rfl)
theorem dX13_nextOrder_1 : decode cX13_nextOrder 1 = .ok (.iconst 2, 1) := dk_5 (dk_at dksX13_nextOrder_0 1 rfl rfl)
theorem dX13_nextOrder_2 : decode cX13_nextOrder 2 = .ok (.isub, 1) := dk_100 (dk_at dksX13_nextOrder_0 2 rfl rfl)
theorem dX13_nextOrder_3 : decode cX13_nextOrder 3 = .ok (.istore_n 2, 1) := dk_61 (dk_at dksX13_nextOrder_0 3 rfl rfl)
theorem dX13_nextOrder_4 : decode cX13_nextOrder 4 = .ok (.iload_n 2, 1) := dk_28 (dk_at dksX13_nextOrder_0 4 rfl rfl)
theorem dX13_nextOrder_5 : decode cX13_nextOrder 5 = .ok (.ifCond .lt 26, 3) := dk_155 0 26 (dk_at dksX13_nextOrder_0 5 rfl rfl)
theorem dX13_nextOrder_8 : decode cX13_nextOrder 8 = .ok (.aload_n 0, 1) := dk_42 (dk_at dksX13_nextOrder_0 8 rfl rfl)
theorem dX13_nextOrder_9 : decode cX13_nextOrder 9 = .ok (.getfield 147, 3) := dk_180 0 147 (dk_at dksX13_nextOrder_0 9 rfl rfl)
theorem dX13_nextOrder_12 : decode cX13_nextOrder 12 = .ok (.iload_n 2, 1) := dk_28 (dk_at dksX13_nextOrder_0 12 rfl rfl)
theorem dX13_nextOrder_13 : decode cX13_nextOrder 13 = .ok (.iaload, 1) := dk_46 (dk_at dksX13_nextOrder_0 13 rfl rfl)
theorem dX13_nextOrder_14 : decode cX13_nextOrder 14 = .ok (.aload_n 0, 1) := dk_42 (dk_at dksX13_nextOrder_0 14 rfl rfl)
theorem dX13_nextOrder_15 : decode cX13_nextOrder 15 = .ok (.getfield 147, 3) := dk_180 0 147 (dk_at dksX13_nextOrder_0 15 rfl rfl)
theorem dX13_nextOrder_18 : decode cX13_nextOrder 18 = .ok (.iload_n 2, 1) := dk_28 (dk_at dksX13_nextOrder_0 18 rfl rfl)
theorem dX13_nextOrder_19 : decode cX13_nextOrder 19 = .ok (.iconst 1, 1) := dk_4 (dk_at dksX13_nextOrder_0 19 rfl rfl)
theorem dX13_nextOrder_20 : decode cX13_nextOrder 20 = .ok (.iadd, 1) := dk_96 (dk_at dksX13_nextOrder_0 20 rfl rfl)
theorem dX13_nextOrder_21 : decode cX13_nextOrder 21 = .ok (.iaload, 1) := dk_46 (dk_at dksX13_nextOrder_0 21 rfl rfl)
theorem dX13_nextOrder_22 : decode cX13_nextOrder 22 = .ok (.if_icmp .le 9, 3) := dk_164 0 9 (dk_at dksX13_nextOrder_1 0 rfl rfl)
theorem dX13_nextOrder_25 : decode cX13_nextOrder 25 = .ok (.iinc 2 (-1), 3) := dk_132 2 255 (dk_at dksX13_nextOrder_1 3 rfl rfl)
theorem dX13_nextOrder_28 : decode cX13_nextOrder 28 = .ok (.goto (-24), 3) := dk_167 255 232 (dk_at dksX13_nextOrder_1 6 rfl rfl)
theorem dX13_nextOrder_31 : decode cX13_nextOrder 31 = .ok (.iload_n 2, 1) := dk_28 (dk_at dksX13_nextOrder_1 9 rfl rfl)
theorem dX13_nextOrder_32 : decode cX13_nextOrder 32 = .ok (.ifCond .ge 5, 3) := dk_156 0 5 (dk_at dksX13_nextOrder_1 10 rfl rfl)
theorem dX13_nextOrder_35 : decode cX13_nextOrder 35 = .ok (.iconst 0, 1) := dk_3 (dk_at dksX13_nextOrder_1 13 rfl rfl)
theorem dX13_nextOrder_36 : decode cX13_nextOrder 36 = .ok (.ireturn, 1) := dk_172 (dk_at dksX13_nextOrder_1 14 rfl rfl)
theorem dX13_nextOrder_37 : decode cX13_nextOrder 37 = .ok (.iload_n 1, 1) := dk_27 (dk_at dksX13_nextOrder_1 15 rfl rfl)
theorem dX13_nextOrder_38 : decode cX13_nextOrder 38 = .ok (.iconst 1, 1) := dk_4 (dk_at dksX13_nextOrder_1 16 rfl rfl)
theorem dX13_nextOrder_39 : decode cX13_nextOrder 39 = .ok (.isub, 1) := dk_100 (dk_at dksX13_nextOrder_1 17 rfl rfl)
theorem dX13_nextOrder_40 : decode cX13_nextOrder 40 = .ok (.istore_n 3, 1) := dk_62 (dk_at dksX13_nextOrder_1 18 rfl rfl)
theorem dX13_nextOrder_41 : decode cX13_nextOrder 41 = .ok (.aload_n 0, 1) := dk_42 (dk_at dksX13_nextOrder_1 19 rfl rfl)
theorem dX13_nextOrder_42 : decode cX13_nextOrder 42 = .ok (.getfield 147, 3) := dk_180 0 147 (dk_at dksX13_nextOrder_1 20 rfl rfl)
theorem dX13_nextOrder_45 : decode cX13_nextOrder 45 = .ok (.iload_n 3, 1) := dk_29 (dk_at dksX13_nextOrder_1 23 rfl rfl)
theorem dX13_nextOrder_46 : decode cX13_nextOrder 46 = .ok (.iaload, 1) := dk_46 (dk_at dksX13_nextOrder_2 0 rfl rfl)
theorem dX13_nextOrder_47 : decode cX13_nextOrder 47 = .ok (.aload_n 0, 1) := dk_42 (dk_at dksX13_nextOrder_2 1 rfl rfl)
theorem dX13_nextOrder_48 : decode cX13_nextOrder 48 = .ok (.getfield 147, 3) := dk_180 0 147 (dk_at dksX13_nextOrder_2 2 rfl rfl)
theorem dX13_nextOrder_51 : decode cX13_nextOrder 51 = .ok (.iload_n 2, 1) := dk_28 (dk_at dksX13_nextOrder_2 5 rfl rfl)
theorem dX13_nextOrder_52 : decode cX13_nextOrder 52 = .ok (.iaload, 1) := dk_46 (dk_at dksX13_nextOrder_2 6 rfl rfl)
theorem dX13_nextOrder_53 : decode cX13_nextOrder 53 = .ok (.if_icmp .ge 9, 3) := dk_162 0 9 (dk_at dksX13_nextOrder_2 7 rfl rfl)
theorem dX13_nextOrder_56 : decode cX13_nextOrder 56 = .ok (.iinc 3 (-1), 3) := dk_132 3 255 (dk_at dksX13_nextOrder_2 10 rfl rfl)
theorem dX13_nextOrder_59 : decode cX13_nextOrder 59 = .ok (.goto (-18), 3) := dk_167 255 238 (dk_at dksX13_nextOrder_2 13 rfl rfl)
theorem dX13_nextOrder_62 : decode cX13_nextOrder 62 = .ok (.aload_n 0, 1) := dk_42 (dk_at dksX13_nextOrder_2 16 rfl rfl)
theorem dX13_nextOrder_63 : decode cX13_nextOrder 63 = .ok (.getfield 147, 3) := dk_180 0 147 (dk_at dksX13_nextOrder_2 17 rfl rfl)
theorem dX13_nextOrder_66 : decode cX13_nextOrder 66 = .ok (.iload_n 2, 1) := dk_28 (dk_at dksX13_nextOrder_2 20 rfl rfl)
theorem dX13_nextOrder_67 : decode cX13_nextOrder 67 = .ok (.iaload, 1) := dk_46 (dk_at dksX13_nextOrder_2 21 rfl rfl)
theorem dX13_nextOrder_68 : decode cX13_nextOrder 68 = .ok (.istore 4, 2) := dk_54 4 (dk_at dksX13_nextOrder_2 22 rfl rfl)
theorem dX13_nextOrder_70 : decode cX13_nextOrder 70 = .ok (.aload_n 0, 1) := dk_42 (dk_at dksX13_nextOrder_3 0 rfl rfl)
theorem dX13_nextOrder_71 : decode cX13_nextOrder 71 = .ok (.getfield 147, 3) := dk_180 0 147 (dk_at dksX13_nextOrder_3 1 rfl rfl)
theorem dX13_nextOrder_74 : decode cX13_nextOrder 74 = .ok (.iload_n 2, 1) := dk_28 (dk_at dksX13_nextOrder_3 4 rfl rfl)
theorem dX13_nextOrder_75 : decode cX13_nextOrder 75 = .ok (.aload_n 0, 1) := dk_42 (dk_at dksX13_nextOrder_3 5 rfl rfl)
theorem dX13_nextOrder_76 : decode cX13_nextOrder 76 = .ok (.getfield 147, 3) := dk_180 0 147 (dk_at dksX13_nextOrder_3 6 rfl rfl)
theorem dX13_nextOrder_79 : decode cX13_nextOrder 79 = .ok (.iload_n 3, 1) := dk_29 (dk_at dksX13_nextOrder_3 9 rfl rfl)
theorem dX13_nextOrder_80 : decode cX13_nextOrder 80 = .ok (.iaload, 1) := dk_46 (dk_at dksX13_nextOrder_3 10 rfl rfl)
theorem dX13_nextOrder_81 : decode cX13_nextOrder 81 = .ok (.iastore, 1) := dk_79 (dk_at dksX13_nextOrder_3 11 rfl rfl)
theorem dX13_nextOrder_82 : decode cX13_nextOrder 82 = .ok (.aload_n 0, 1) := dk_42 (dk_at dksX13_nextOrder_3 12 rfl rfl)
theorem dX13_nextOrder_83 : decode cX13_nextOrder 83 = .ok (.getfield 147, 3) := dk_180 0 147 (dk_at dksX13_nextOrder_3 13 rfl rfl)
theorem dX13_nextOrder_86 : decode cX13_nextOrder 86 = .ok (.iload_n 3, 1) := dk_29 (dk_at dksX13_nextOrder_3 16 rfl rfl)
theorem dX13_nextOrder_87 : decode cX13_nextOrder 87 = .ok (.iload 4, 2) := dk_21 4 (dk_at dksX13_nextOrder_3 17 rfl rfl)
theorem dX13_nextOrder_89 : decode cX13_nextOrder 89 = .ok (.iastore, 1) := dk_79 (dk_at dksX13_nextOrder_3 19 rfl rfl)
theorem dX13_nextOrder_90 : decode cX13_nextOrder 90 = .ok (.iload_n 2, 1) := dk_28 (dk_at dksX13_nextOrder_3 20 rfl rfl)
theorem dX13_nextOrder_91 : decode cX13_nextOrder 91 = .ok (.iconst 1, 1) := dk_4 (dk_at dksX13_nextOrder_3 21 rfl rfl)
theorem dX13_nextOrder_92 : decode cX13_nextOrder 92 = .ok (.iadd, 1) := dk_96 (dk_at dksX13_nextOrder_3 22 rfl rfl)
theorem dX13_nextOrder_93 : decode cX13_nextOrder 93 = .ok (.istore 5, 2) := dk_54 5 (dk_at dksX13_nextOrder_4 0 rfl rfl)
theorem dX13_nextOrder_95 : decode cX13_nextOrder 95 = .ok (.iload_n 1, 1) := dk_27 (dk_at dksX13_nextOrder_4 2 rfl rfl)
theorem dX13_nextOrder_96 : decode cX13_nextOrder 96 = .ok (.iconst 1, 1) := dk_4 (dk_at dksX13_nextOrder_4 3 rfl rfl)
theorem dX13_nextOrder_97 : decode cX13_nextOrder 97 = .ok (.isub, 1) := dk_100 (dk_at dksX13_nextOrder_4 4 rfl rfl)
theorem dX13_nextOrder_98 : decode cX13_nextOrder 98 = .ok (.istore 6, 2) := dk_54 6 (dk_at dksX13_nextOrder_4 5 rfl rfl)
theorem dX13_nextOrder_100 : decode cX13_nextOrder 100 = .ok (.iload 5, 2) := dk_21 5 (dk_at dksX13_nextOrder_4 7 rfl rfl)
theorem dX13_nextOrder_102 : decode cX13_nextOrder 102 = .ok (.iload 6, 2) := dk_21 6 (dk_at dksX13_nextOrder_4 9 rfl rfl)
theorem dX13_nextOrder_104 : decode cX13_nextOrder 104 = .ok (.if_icmp .ge 44, 3) := dk_162 0 44 (dk_at dksX13_nextOrder_4 11 rfl rfl)
theorem dX13_nextOrder_107 : decode cX13_nextOrder 107 = .ok (.aload_n 0, 1) := dk_42 (dk_at dksX13_nextOrder_4 14 rfl rfl)
theorem dX13_nextOrder_108 : decode cX13_nextOrder 108 = .ok (.getfield 147, 3) := dk_180 0 147 (dk_at dksX13_nextOrder_4 15 rfl rfl)
theorem dX13_nextOrder_111 : decode cX13_nextOrder 111 = .ok (.iload 5, 2) := dk_21 5 (dk_at dksX13_nextOrder_4 18 rfl rfl)
theorem dX13_nextOrder_113 : decode cX13_nextOrder 113 = .ok (.iaload, 1) := dk_46 (dk_at dksX13_nextOrder_4 20 rfl rfl)
theorem dX13_nextOrder_114 : decode cX13_nextOrder 114 = .ok (.istore 4, 2) := dk_54 4 (dk_at dksX13_nextOrder_4 21 rfl rfl)
theorem dX13_nextOrder_116 : decode cX13_nextOrder 116 = .ok (.aload_n 0, 1) := dk_42 (dk_at dksX13_nextOrder_4 23 rfl rfl)
theorem dX13_nextOrder_117 : decode cX13_nextOrder 117 = .ok (.getfield 147, 3) := dk_180 0 147 (dk_at dksX13_nextOrder_5 0 rfl rfl)
theorem dX13_nextOrder_120 : decode cX13_nextOrder 120 = .ok (.iload 5, 2) := dk_21 5 (dk_at dksX13_nextOrder_5 3 rfl rfl)
theorem dX13_nextOrder_122 : decode cX13_nextOrder 122 = .ok (.aload_n 0, 1) := dk_42 (dk_at dksX13_nextOrder_5 5 rfl rfl)
theorem dX13_nextOrder_123 : decode cX13_nextOrder 123 = .ok (.getfield 147, 3) := dk_180 0 147 (dk_at dksX13_nextOrder_5 6 rfl rfl)
theorem dX13_nextOrder_126 : decode cX13_nextOrder 126 = .ok (.iload 6, 2) := dk_21 6 (dk_at dksX13_nextOrder_5 9 rfl rfl)
theorem dX13_nextOrder_128 : decode cX13_nextOrder 128 = .ok (.iaload, 1) := dk_46 (dk_at dksX13_nextOrder_5 11 rfl rfl)
theorem dX13_nextOrder_129 : decode cX13_nextOrder 129 = .ok (.iastore, 1) := dk_79 (dk_at dksX13_nextOrder_5 12 rfl rfl)
theorem dX13_nextOrder_130 : decode cX13_nextOrder 130 = .ok (.aload_n 0, 1) := dk_42 (dk_at dksX13_nextOrder_5 13 rfl rfl)
theorem dX13_nextOrder_131 : decode cX13_nextOrder 131 = .ok (.getfield 147, 3) := dk_180 0 147 (dk_at dksX13_nextOrder_5 14 rfl rfl)
theorem dX13_nextOrder_134 : decode cX13_nextOrder 134 = .ok (.iload 6, 2) := dk_21 6 (dk_at dksX13_nextOrder_5 17 rfl rfl)
theorem dX13_nextOrder_136 : decode cX13_nextOrder 136 = .ok (.iload 4, 2) := dk_21 4 (dk_at dksX13_nextOrder_5 19 rfl rfl)
theorem dX13_nextOrder_138 : decode cX13_nextOrder 138 = .ok (.iastore, 1) := dk_79 (dk_at dksX13_nextOrder_5 21 rfl rfl)
theorem dX13_nextOrder_139 : decode cX13_nextOrder 139 = .ok (.iinc 5 1, 3) := dk_132 5 1 (dk_at dksX13_nextOrder_6 0 rfl rfl)
theorem dX13_nextOrder_142 : decode cX13_nextOrder 142 = .ok (.iinc 6 (-1), 3) := dk_132 6 255 (dk_at dksX13_nextOrder_6 3 rfl rfl)
theorem dX13_nextOrder_145 : decode cX13_nextOrder 145 = .ok (.goto (-45), 3) := dk_167 255 211 (dk_at dksX13_nextOrder_6 6 rfl rfl)
theorem dX13_nextOrder_148 : decode cX13_nextOrder 148 = .ok (.iconst 1, 1) := dk_4 (dk_at dksX13_nextOrder_6 9 rfl rfl)
theorem dX13_nextOrder_149 : decode cX13_nextOrder 149 = .ok (.ireturn, 1) := dk_172 (dk_at dksX13_nextOrder_6 10 rfl rfl)
abbrev cX13_wayAt : ByteArray := prog_21_method_82_code
def yX13_wayAt : MethodName := ⟨RX13, "wayAt", "(II)I"⟩
def dkwX13_wayAt_1 : List UInt8 := [4, 100, 184, 1, 89, 154, 0, 5, 2, 172, 42, 27, 182, 1, 178, 87, 42, 180, 0, 150, 28, 46, 172]
abbrev dktX13_wayAt_1 : List UInt8 := dkwX13_wayAt_1 ++ []
def dkwX13_wayAt_0 : List UInt8 := [42, 27, 182, 1, 138, 153, 0, 27, 28, 3, 42, 180, 0, 61, 16, 7, 42, 180, 1, 2, 104, 27, 96, 46]
abbrev dktX13_wayAt_0 : List UInt8 := dkwX13_wayAt_0 ++ dktX13_wayAt_1
theorem dksX13_wayAt_0 : cX13_wayAt.data.toList.drop 0 = dktX13_wayAt_0 := by decide +kernel
theorem dksX13_wayAt_1 : cX13_wayAt.data.toList.drop 24 = dktX13_wayAt_1 := dk_seg dksX13_wayAt_0 24 rfl rfl
theorem dX13_wayAt_0 : decode cX13_wayAt 0 = .ok (.aload_n 0, 1) := dk_42 (dk_at dksX13_wayAt_0 0 rfl rfl)
theorem dX13_wayAt_1 : decode cX13_wayAt 1 = .ok (.iload_n 1, 1) := dk_27 (dk_at dksX13_wayAt_0 1 rfl rfl)
theorem dX13_wayAt_2 : decode cX13_wayAt 2 = .ok (.invokevirtual 394, 3) := dk_182 1 138 (dk_at dksX13_wayAt_0 2 rfl rfl)
theorem dX13_wayAt_5 : decode cX13_wayAt 5 = .ok (.ifCond .eq 27, 3) := dk_153 0 27 (dk_at dksX13_wayAt_0 5 rfl rfl)
theorem dX13_wayAt_8 : decode cX13_wayAt 8 = .ok (.iload_n 2, 1) := dk_28 (dk_at dksX13_wayAt_0 8 rfl rfl)
theorem dX13_wayAt_9 : decode cX13_wayAt 9 = .ok (.iconst 0, 1) := dk_3 (dk_at dksX13_wayAt_0 9 rfl rfl)
theorem dX13_wayAt_10 : decode cX13_wayAt 10 = .ok (.aload_n 0, 1) := dk_42 (dk_at dksX13_wayAt_0 10 rfl rfl)
theorem dX13_wayAt_11 : decode cX13_wayAt 11 = .ok (.getfield 61, 3) := dk_180 0 61 (dk_at dksX13_wayAt_0 11 rfl rfl)
theorem dX13_wayAt_14 : decode cX13_wayAt 14 = .ok (.bipush 7, 2) := dk_16 7 (dk_at dksX13_wayAt_0 14 rfl rfl)
theorem dX13_wayAt_16 : decode cX13_wayAt 16 = .ok (.aload_n 0, 1) := dk_42 (dk_at dksX13_wayAt_0 16 rfl rfl)
theorem dX13_wayAt_17 : decode cX13_wayAt 17 = .ok (.getfield 258, 3) := dk_180 1 2 (dk_at dksX13_wayAt_0 17 rfl rfl)
theorem dX13_wayAt_20 : decode cX13_wayAt 20 = .ok (.imul, 1) := dk_104 (dk_at dksX13_wayAt_0 20 rfl rfl)
theorem dX13_wayAt_21 : decode cX13_wayAt 21 = .ok (.iload_n 1, 1) := dk_27 (dk_at dksX13_wayAt_0 21 rfl rfl)
theorem dX13_wayAt_22 : decode cX13_wayAt 22 = .ok (.iadd, 1) := dk_96 (dk_at dksX13_wayAt_0 22 rfl rfl)
theorem dX13_wayAt_23 : decode cX13_wayAt 23 = .ok (.iaload, 1) := dk_46 (dk_at dksX13_wayAt_0 23 rfl rfl)
theorem dX13_wayAt_24 : decode cX13_wayAt 24 = .ok (.iconst 1, 1) := dk_4 (dk_at dksX13_wayAt_1 0 rfl rfl)
theorem dX13_wayAt_25 : decode cX13_wayAt 25 = .ok (.isub, 1) := dk_100 (dk_at dksX13_wayAt_1 1 rfl rfl)
theorem dX13_wayAt_26 : decode cX13_wayAt 26 = .ok (.invokestatic 345, 3) := dk_184 1 89 (dk_at dksX13_wayAt_1 2 rfl rfl)
theorem dX13_wayAt_29 : decode cX13_wayAt 29 = .ok (.ifCond .ne 5, 3) := dk_154 0 5 (dk_at dksX13_wayAt_1 5 rfl rfl)
theorem dX13_wayAt_32 : decode cX13_wayAt 32 = .ok (.iconst (-1), 1) := dk_2 (dk_at dksX13_wayAt_1 8 rfl rfl)
theorem dX13_wayAt_33 : decode cX13_wayAt 33 = .ok (.ireturn, 1) := dk_172 (dk_at dksX13_wayAt_1 9 rfl rfl)
theorem dX13_wayAt_34 : decode cX13_wayAt 34 = .ok (.aload_n 0, 1) := dk_42 (dk_at dksX13_wayAt_1 10 rfl rfl)
theorem dX13_wayAt_35 : decode cX13_wayAt 35 = .ok (.iload_n 1, 1) := dk_27 (dk_at dksX13_wayAt_1 11 rfl rfl)
theorem dX13_wayAt_36 : decode cX13_wayAt 36 = .ok (.invokevirtual 434, 3) := dk_182 1 178 (dk_at dksX13_wayAt_1 12 rfl rfl)
theorem dX13_wayAt_39 : decode cX13_wayAt 39 = .ok (.pop, 1) := dk_87 (dk_at dksX13_wayAt_1 15 rfl rfl)
theorem dX13_wayAt_40 : decode cX13_wayAt 40 = .ok (.aload_n 0, 1) := dk_42 (dk_at dksX13_wayAt_1 16 rfl rfl)
theorem dX13_wayAt_41 : decode cX13_wayAt 41 = .ok (.getfield 150, 3) := dk_180 0 150 (dk_at dksX13_wayAt_1 17 rfl rfl)
theorem dX13_wayAt_44 : decode cX13_wayAt 44 = .ok (.iload_n 2, 1) := dk_28 (dk_at dksX13_wayAt_1 20 rfl rfl)
theorem dX13_wayAt_45 : decode cX13_wayAt 45 = .ok (.iaload, 1) := dk_46 (dk_at dksX13_wayAt_1 21 rfl rfl)
theorem dX13_wayAt_46 : decode cX13_wayAt 46 = .ok (.ireturn, 1) := dk_172 (dk_at dksX13_wayAt_1 22 rfl rfl)
abbrev cX13_lives : ByteArray := prog_21_method_83_code
def yX13_lives : MethodName := ⟨RX13, "lives", "(I)I"⟩
def dkwX13_lives_3 : List UInt8 := [167, 255, 223, 132, 4, 1, 167, 255, 200, 29, 172]
abbrev dktX13_lives_3 : List UInt8 := dkwX13_lives_3 ++ []
def dkwX13_lives_2 : List UInt8 := [46, 162, 0, 25, 42, 27, 21, 5, 21, 4, 182, 1, 175, 28, 163, 0, 6, 132, 3, 1, 132, 5, 1]
abbrev dktX13_lives_2 : List UInt8 := dkwX13_lives_2 ++ dktX13_lives_3
def dkwX13_lives_1 : List UInt8 := [180, 0, 46, 42, 180, 1, 2, 46, 162, 0, 48, 3, 54, 5, 21, 5, 42, 180, 0, 43, 42, 180, 1, 2]
abbrev dktX13_lives_1 : List UInt8 := dkwX13_lives_1 ++ dktX13_lives_2
def dkwX13_lives_0 : List UInt8 := [42, 27, 182, 1, 138, 154, 0, 5, 2, 172, 42, 27, 182, 1, 103, 61, 3, 62, 3, 54, 4, 21, 4, 42]
abbrev dktX13_lives_0 : List UInt8 := dkwX13_lives_0 ++ dktX13_lives_1
theorem dksX13_lives_0 : cX13_lives.data.toList.drop 0 = dktX13_lives_0 := by decide +kernel
theorem dksX13_lives_1 : cX13_lives.data.toList.drop 24 = dktX13_lives_1 := dk_seg dksX13_lives_0 24 rfl rfl
theorem dksX13_lives_2 : cX13_lives.data.toList.drop 48 = dktX13_lives_2 := dk_seg dksX13_lives_1 24 rfl rfl
theorem dksX13_lives_3 : cX13_lives.data.toList.drop 71 = dktX13_lives_3 := dk_seg dksX13_lives_2 23 rfl rfl
theorem dX13_lives_0 : decode cX13_lives 0 = .ok (.aload_n 0, 1) := dk_42 (dk_at dksX13_lives_0 0 rfl rfl)
theorem dX13_lives_1 : decode cX13_lives 1 = .ok (.iload_n 1, 1) := dk_27 (dk_at dksX13_lives_0 1 rfl rfl)
theorem dX13_lives_2 : decode cX13_lives 2 = .ok (.invokevirtual 394, 3) := dk_182 1 138 (dk_at dksX13_lives_0 2 rfl rfl)
theorem dX13_lives_5 : decode cX13_lives 5 = .ok (.ifCond .ne 5, 3) := dk_154 0 5 (dk_at dksX13_lives_0 5 rfl rfl)
theorem dX13_lives_8 : decode cX13_lives 8 = .ok (.iconst (-1), 1) := dk_2 (dk_at dksX13_lives_0 8 rfl rfl)
theorem dX13_lives_9 : decode cX13_lives 9 = .ok (.ireturn, 1) := dk_172 (dk_at dksX13_lives_0 9 rfl rfl)
theorem dX13_lives_10 : decode cX13_lives 10 = .ok (.aload_n 0, 1) := dk_42 (dk_at dksX13_lives_0 10 rfl rfl)
theorem dX13_lives_11 : decode cX13_lives 11 = .ok (.iload_n 1, 1) := dk_27 (dk_at dksX13_lives_0 11 rfl rfl)
theorem dX13_lives_12 : decode cX13_lives 12 = .ok (.invokevirtual 359, 3) := dk_182 1 103 (dk_at dksX13_lives_0 12 rfl rfl)
theorem dX13_lives_15 : decode cX13_lives 15 = .ok (.istore_n 2, 1) := dk_61 (dk_at dksX13_lives_0 15 rfl rfl)
theorem dX13_lives_16 : decode cX13_lives 16 = .ok (.iconst 0, 1) := dk_3 (dk_at dksX13_lives_0 16 rfl rfl)
theorem dX13_lives_17 : decode cX13_lives 17 = .ok (.istore_n 3, 1) := dk_62 (dk_at dksX13_lives_0 17 rfl rfl)
theorem dX13_lives_18 : decode cX13_lives 18 = .ok (.iconst 0, 1) := dk_3 (dk_at dksX13_lives_0 18 rfl rfl)
theorem dX13_lives_19 : decode cX13_lives 19 = .ok (.istore 4, 2) := dk_54 4 (dk_at dksX13_lives_0 19 rfl rfl)
theorem dX13_lives_21 : decode cX13_lives 21 = .ok (.iload 4, 2) := dk_21 4 (dk_at dksX13_lives_0 21 rfl rfl)
theorem dX13_lives_23 : decode cX13_lives 23 = .ok (.aload_n 0, 1) := dk_42 (dk_at dksX13_lives_0 23 rfl rfl)
theorem dX13_lives_24 : decode cX13_lives 24 = .ok (.getfield 46, 3) := dk_180 0 46 (dk_at dksX13_lives_1 0 rfl rfl)
theorem dX13_lives_27 : decode cX13_lives 27 = .ok (.aload_n 0, 1) := dk_42 (dk_at dksX13_lives_1 3 rfl rfl)
theorem dX13_lives_28 : decode cX13_lives 28 = .ok (.getfield 258, 3) := dk_180 1 2 (dk_at dksX13_lives_1 4 rfl rfl)
theorem dX13_lives_31 : decode cX13_lives 31 = .ok (.iaload, 1) := dk_46 (dk_at dksX13_lives_1 7 rfl rfl)
theorem dX13_lives_32 : decode cX13_lives 32 = .ok (.if_icmp .ge 48, 3) := dk_162 0 48 (dk_at dksX13_lives_1 8 rfl rfl)
theorem dX13_lives_35 : decode cX13_lives 35 = .ok (.iconst 0, 1) := dk_3 (dk_at dksX13_lives_1 11 rfl rfl)
theorem dX13_lives_36 : decode cX13_lives 36 = .ok (.istore 5, 2) := dk_54 5 (dk_at dksX13_lives_1 12 rfl rfl)
theorem dX13_lives_38 : decode cX13_lives 38 = .ok (.iload 5, 2) := dk_21 5 (dk_at dksX13_lives_1 14 rfl rfl)
theorem dX13_lives_40 : decode cX13_lives 40 = .ok (.aload_n 0, 1) := dk_42 (dk_at dksX13_lives_1 16 rfl rfl)
theorem dX13_lives_41 : decode cX13_lives 41 = .ok (.getfield 43, 3) := dk_180 0 43 (dk_at dksX13_lives_1 17 rfl rfl)
theorem dX13_lives_44 : decode cX13_lives 44 = .ok (.aload_n 0, 1) := dk_42 (dk_at dksX13_lives_1 20 rfl rfl)
theorem dX13_lives_45 : decode cX13_lives 45 = .ok (.getfield 258, 3) := dk_180 1 2 (dk_at dksX13_lives_1 21 rfl rfl)
theorem dX13_lives_48 : decode cX13_lives 48 = .ok (.iaload, 1) := dk_46 (dk_at dksX13_lives_2 0 rfl rfl)
theorem dX13_lives_49 : decode cX13_lives 49 = .ok (.if_icmp .ge 25, 3) := dk_162 0 25 (dk_at dksX13_lives_2 1 rfl rfl)
theorem dX13_lives_52 : decode cX13_lives 52 = .ok (.aload_n 0, 1) := dk_42 (dk_at dksX13_lives_2 4 rfl rfl)
theorem dX13_lives_53 : decode cX13_lives 53 = .ok (.iload_n 1, 1) := dk_27 (dk_at dksX13_lives_2 5 rfl rfl)
theorem dX13_lives_54 : decode cX13_lives 54 = .ok (.iload 5, 2) := dk_21 5 (dk_at dksX13_lives_2 6 rfl rfl)
theorem dX13_lives_56 : decode cX13_lives 56 = .ok (.iload 4, 2) := dk_21 4 (dk_at dksX13_lives_2 8 rfl rfl)
theorem dX13_lives_58 : decode cX13_lives 58 = .ok (.invokevirtual 431, 3) := dk_182 1 175 (dk_at dksX13_lives_2 10 rfl rfl)
theorem dX13_lives_61 : decode cX13_lives 61 = .ok (.iload_n 2, 1) := dk_28 (dk_at dksX13_lives_2 13 rfl rfl)
theorem dX13_lives_62 : decode cX13_lives 62 = .ok (.if_icmp .gt 6, 3) := dk_163 0 6 (dk_at dksX13_lives_2 14 rfl rfl)
theorem dX13_lives_65 : decode cX13_lives 65 = .ok (.iinc 3 1, 3) := dk_132 3 1 (dk_at dksX13_lives_2 17 rfl rfl)
theorem dX13_lives_68 : decode cX13_lives 68 = .ok (.iinc 5 1, 3) := dk_132 5 1 (dk_at dksX13_lives_2 20 rfl rfl)
theorem dX13_lives_71 : decode cX13_lives 71 = .ok (.goto (-33), 3) := dk_167 255 223 (dk_at dksX13_lives_3 0 rfl rfl)
theorem dX13_lives_74 : decode cX13_lives 74 = .ok (.iinc 4 1, 3) := dk_132 4 1 (dk_at dksX13_lives_3 3 rfl rfl)
theorem dX13_lives_77 : decode cX13_lives 77 = .ok (.goto (-56), 3) := dk_167 255 200 (dk_at dksX13_lives_3 6 rfl rfl)
theorem dX13_lives_80 : decode cX13_lives 80 = .ok (.iload_n 3, 1) := dk_29 (dk_at dksX13_lives_3 9 rfl rfl)
theorem dX13_lives_81 : decode cX13_lives 81 = .ok (.ireturn, 1) := dk_172 (dk_at dksX13_lives_3 10 rfl rfl)
abbrev cX13_turns : ByteArray := prog_21_method_85_code
def yX13_turns : MethodName := ⟨RX13, "turns", "(II)I"⟩
def dkwX13_turns_1 : List UInt8 := [154, 0, 7, 17, 252, 24, 172, 42, 182, 1, 141, 42, 27, 28, 182, 1, 181, 172]
abbrev dktX13_turns_1 : List UInt8 := dkwX13_turns_1 ++ []
def dkwX13_turns_0 : List UInt8 := [42, 27, 182, 1, 138, 153, 0, 22, 28, 3, 42, 180, 0, 70, 42, 180, 1, 2, 46, 4, 100, 184, 1, 89]
abbrev dktX13_turns_0 : List UInt8 := dkwX13_turns_0 ++ dktX13_turns_1
theorem dksX13_turns_0 : cX13_turns.data.toList.drop 0 = dktX13_turns_0 := by decide +kernel
theorem dksX13_turns_1 : cX13_turns.data.toList.drop 24 = dktX13_turns_1 := dk_seg dksX13_turns_0 24 rfl rfl
theorem dX13_turns_0 : decode cX13_turns 0 = .ok (.aload_n 0, 1) := dk_42 (dk_at dksX13_turns_0 0 rfl rfl)
theorem dX13_turns_1 : decode cX13_turns 1 = .ok (.iload_n 1, 1) := dk_27 (dk_at dksX13_turns_0 1 rfl rfl)
theorem dX13_turns_2 : decode cX13_turns 2 = .ok (.invokevirtual 394, 3) := dk_182 1 138 (dk_at dksX13_turns_0 2 rfl rfl)
theorem dX13_turns_5 : decode cX13_turns 5 = .ok (.ifCond .eq 22, 3) := dk_153 0 22 (dk_at dksX13_turns_0 5 rfl rfl)
theorem dX13_turns_8 : decode cX13_turns 8 = .ok (.iload_n 2, 1) := dk_28 (dk_at dksX13_turns_0 8 rfl rfl)
theorem dX13_turns_9 : decode cX13_turns 9 = .ok (.iconst 0, 1) := dk_3 (dk_at dksX13_turns_0 9 rfl rfl)
theorem dX13_turns_10 : decode cX13_turns 10 = .ok (.aload_n 0, 1) := dk_42 (dk_at dksX13_turns_0 10 rfl rfl)
theorem dX13_turns_11 : decode cX13_turns 11 = .ok (.getfield 70, 3) := dk_180 0 70 (dk_at dksX13_turns_0 11 rfl rfl)
theorem dX13_turns_14 : decode cX13_turns 14 = .ok (.aload_n 0, 1) := dk_42 (dk_at dksX13_turns_0 14 rfl rfl)
theorem dX13_turns_15 : decode cX13_turns 15 = .ok (.getfield 258, 3) := dk_180 1 2 (dk_at dksX13_turns_0 15 rfl rfl)
theorem dX13_turns_18 : decode cX13_turns 18 = .ok (.iaload, 1) := dk_46 (dk_at dksX13_turns_0 18 rfl rfl)
theorem dX13_turns_19 : decode cX13_turns 19 = .ok (.iconst 1, 1) := dk_4 (dk_at dksX13_turns_0 19 rfl rfl)
theorem dX13_turns_20 : decode cX13_turns 20 = .ok (.isub, 1) := dk_100 (dk_at dksX13_turns_0 20 rfl rfl)
theorem dX13_turns_21 : decode cX13_turns 21 = .ok (.invokestatic 345, 3) := dk_184 1 89 (dk_at dksX13_turns_0 21 rfl rfl)
theorem dX13_turns_24 : decode cX13_turns 24 = .ok (.ifCond .ne 7, 3) := dk_154 0 7 (dk_at dksX13_turns_1 0 rfl rfl)
theorem dX13_turns_27 : decode cX13_turns 27 = .ok (.sipush (-1000), 3) := dk_17 252 24 (dk_at dksX13_turns_1 3 rfl rfl)
theorem dX13_turns_30 : decode cX13_turns 30 = .ok (.ireturn, 1) := dk_172 (dk_at dksX13_turns_1 6 rfl rfl)
theorem dX13_turns_31 : decode cX13_turns 31 = .ok (.aload_n 0, 1) := dk_42 (dk_at dksX13_turns_1 7 rfl rfl)
theorem dX13_turns_32 : decode cX13_turns 32 = .ok (.invokevirtual 397, 3) := dk_182 1 141 (dk_at dksX13_turns_1 8 rfl rfl)
theorem dX13_turns_35 : decode cX13_turns 35 = .ok (.aload_n 0, 1) := dk_42 (dk_at dksX13_turns_1 11 rfl rfl)
theorem dX13_turns_36 : decode cX13_turns 36 = .ok (.iload_n 1, 1) := dk_27 (dk_at dksX13_turns_1 12 rfl rfl)
theorem dX13_turns_37 : decode cX13_turns 37 = .ok (.iload_n 2, 1) := dk_28 (dk_at dksX13_turns_1 13 rfl rfl)
theorem dX13_turns_38 : decode cX13_turns 38 = .ok (.invokevirtual 437, 3) := dk_182 1 181 (dk_at dksX13_turns_1 14 rfl rfl)
theorem dX13_turns_41 : decode cX13_turns 41 = .ok (.ireturn, 1) := dk_172 (dk_at dksX13_turns_1 17 rfl rfl)
abbrev cX13_turnsOf : ByteArray := prog_21_method_84_code
def yX13_turnsOf : MethodName := ⟨RX13, "turnsOf", "(II)I"⟩
def dkwX13_turnsOf_5 : List UInt8 := [160, 0, 7, 4, 167, 0, 4, 2, 96, 62, 132, 4, 1, 167, 255, 134, 29, 172]
abbrev dktX13_turnsOf_5 : List UInt8 := dkwX13_turnsOf_5 ++ []
def dkwX13_turnsOf_4 : List UInt8 := [180, 0, 73, 16, 6, 42, 180, 1, 2, 104, 28, 96, 46, 163, 0, 6, 167, 0, 17, 29, 21, 5, 4]
abbrev dktX13_turnsOf_4 : List UInt8 := dkwX13_turnsOf_4 ++ dktX13_turnsOf_5
def dkwX13_turnsOf_3 : List UInt8 := [180, 0, 76, 16, 6, 42, 180, 1, 2, 104, 28, 96, 46, 160, 0, 42, 21, 6, 16, 12, 112, 42]
abbrev dktX13_turnsOf_3 : List UInt8 := dkwX13_turnsOf_3 ++ dktX13_turnsOf_4
def dkwX13_turnsOf_2 : List UInt8 := [96, 21, 4, 96, 46, 17, 0, 144, 100, 54, 6, 21, 6, 155, 0, 64, 21, 6, 16, 12, 108, 42]
abbrev dktX13_turnsOf_2 : List UInt8 := dkwX13_turnsOf_2 ++ dktX13_turnsOf_3
def dkwX13_turnsOf_1 : List UInt8 := [16, 30, 16, 60, 27, 104, 96, 21, 4, 96, 46, 54, 5, 42, 180, 0, 131, 17, 3, 102, 16, 60, 27, 104]
abbrev dktX13_turnsOf_1 : List UInt8 := dkwX13_turnsOf_1 ++ dktX13_turnsOf_2
def dkwX13_turnsOf_0 : List UInt8 := [3, 62, 3, 54, 4, 21, 4, 42, 180, 0, 131, 16, 14, 27, 96, 46, 162, 0, 114, 42, 180, 0, 131]
abbrev dktX13_turnsOf_0 : List UInt8 := dkwX13_turnsOf_0 ++ dktX13_turnsOf_1
theorem dksX13_turnsOf_0 : cX13_turnsOf.data.toList.drop 0 = dktX13_turnsOf_0 := by decide +kernel
theorem dksX13_turnsOf_1 : cX13_turnsOf.data.toList.drop 23 = dktX13_turnsOf_1 := dk_seg dksX13_turnsOf_0 23 rfl rfl
theorem dksX13_turnsOf_2 : cX13_turnsOf.data.toList.drop 47 = dktX13_turnsOf_2 := dk_seg dksX13_turnsOf_1 24 rfl rfl
theorem dksX13_turnsOf_3 : cX13_turnsOf.data.toList.drop 69 = dktX13_turnsOf_3 := dk_seg dksX13_turnsOf_2 22 rfl rfl
theorem dksX13_turnsOf_4 : cX13_turnsOf.data.toList.drop 91 = dktX13_turnsOf_4 := dk_seg dksX13_turnsOf_3 22 rfl rfl
theorem dksX13_turnsOf_5 : cX13_turnsOf.data.toList.drop 114 = dktX13_turnsOf_5 := dk_seg dksX13_turnsOf_4 23 rfl rfl
theorem dX13_turnsOf_0 : decode cX13_turnsOf 0 = .ok (.iconst 0, 1) := dk_3 (dk_at dksX13_turnsOf_0 0 rfl rfl)
theorem dX13_turnsOf_1 : decode cX13_turnsOf 1 = .ok (.istore_n 3, 1) := dk_62 (dk_at dksX13_turnsOf_0 1 rfl rfl)
theorem dX13_turnsOf_2 : decode cX13_turnsOf 2 = .ok (.iconst 0, 1) := dk_3 (dk_at dksX13_turnsOf_0 2 rfl rfl)
theorem dX13_turnsOf_3 : decode cX13_turnsOf 3 = .ok (.istore 4, 2) := dk_54 4 (dk_at dksX13_turnsOf_0 3 rfl rfl)
theorem dX13_turnsOf_5 : decode cX13_turnsOf 5 = .ok (.iload 4, 2) := dk_21 4 (dk_at dksX13_turnsOf_0 5 rfl rfl)
theorem dX13_turnsOf_7 : decode cX13_turnsOf 7 = .ok (.aload_n 0, 1) := dk_42 (dk_at dksX13_turnsOf_0 7 rfl rfl)
theorem dX13_turnsOf_8 : decode cX13_turnsOf 8 = .ok (.getfield 131, 3) := dk_180 0 131 (dk_at dksX13_turnsOf_0 8 rfl rfl)
theorem dX13_turnsOf_11 : decode cX13_turnsOf 11 = .ok (.bipush 14, 2) := dk_16 14 (dk_at dksX13_turnsOf_0 11 rfl rfl)
theorem dX13_turnsOf_13 : decode cX13_turnsOf 13 = .ok (.iload_n 1, 1) := dk_27 (dk_at dksX13_turnsOf_0 13 rfl rfl)
theorem dX13_turnsOf_14 : decode cX13_turnsOf 14 = .ok (.iadd, 1) := dk_96 (dk_at dksX13_turnsOf_0 14 rfl rfl)
theorem dX13_turnsOf_15 : decode cX13_turnsOf 15 = .ok (.iaload, 1) := dk_46 (dk_at dksX13_turnsOf_0 15 rfl rfl)
theorem dX13_turnsOf_16 : decode cX13_turnsOf 16 = .ok (.if_icmp .ge 114, 3) := dk_162 0 114 (dk_at dksX13_turnsOf_0 16 rfl rfl)
theorem dX13_turnsOf_19 : decode cX13_turnsOf 19 = .ok (.aload_n 0, 1) := dk_42 (dk_at dksX13_turnsOf_0 19 rfl rfl)
theorem dX13_turnsOf_20 : decode cX13_turnsOf 20 = .ok (.getfield 131, 3) := dk_180 0 131 (dk_at dksX13_turnsOf_0 20 rfl rfl)
theorem dX13_turnsOf_23 : decode cX13_turnsOf 23 = .ok (.bipush 30, 2) := dk_16 30 (dk_at dksX13_turnsOf_1 0 rfl rfl)
theorem dX13_turnsOf_25 : decode cX13_turnsOf 25 = .ok (.bipush 60, 2) := dk_16 60 (dk_at dksX13_turnsOf_1 2 rfl rfl)
theorem dX13_turnsOf_27 : decode cX13_turnsOf 27 = .ok (.iload_n 1, 1) := dk_27 (dk_at dksX13_turnsOf_1 4 rfl rfl)
theorem dX13_turnsOf_28 : decode cX13_turnsOf 28 = .ok (.imul, 1) := dk_104 (dk_at dksX13_turnsOf_1 5 rfl rfl)
theorem dX13_turnsOf_29 : decode cX13_turnsOf 29 = .ok (.iadd, 1) := dk_96 (dk_at dksX13_turnsOf_1 6 rfl rfl)
theorem dX13_turnsOf_30 : decode cX13_turnsOf 30 = .ok (.iload 4, 2) := dk_21 4 (dk_at dksX13_turnsOf_1 7 rfl rfl)
theorem dX13_turnsOf_32 : decode cX13_turnsOf 32 = .ok (.iadd, 1) := dk_96 (dk_at dksX13_turnsOf_1 9 rfl rfl)
theorem dX13_turnsOf_33 : decode cX13_turnsOf 33 = .ok (.iaload, 1) := dk_46 (dk_at dksX13_turnsOf_1 10 rfl rfl)
theorem dX13_turnsOf_34 : decode cX13_turnsOf 34 = .ok (.istore 5, 2) := dk_54 5 (dk_at dksX13_turnsOf_1 11 rfl rfl)
theorem dX13_turnsOf_36 : decode cX13_turnsOf 36 = .ok (.aload_n 0, 1) := dk_42 (dk_at dksX13_turnsOf_1 13 rfl rfl)
theorem dX13_turnsOf_37 : decode cX13_turnsOf 37 = .ok (.getfield 131, 3) := dk_180 0 131 (dk_at dksX13_turnsOf_1 14 rfl rfl)
theorem dX13_turnsOf_40 : decode cX13_turnsOf 40 = .ok (.sipush 870, 3) := dk_17 3 102 (dk_at dksX13_turnsOf_1 17 rfl rfl)
theorem dX13_turnsOf_43 : decode cX13_turnsOf 43 = .ok (.bipush 60, 2) := dk_16 60 (dk_at dksX13_turnsOf_1 20 rfl rfl)
theorem dX13_turnsOf_45 : decode cX13_turnsOf 45 = .ok (.iload_n 1, 1) := dk_27 (dk_at dksX13_turnsOf_1 22 rfl rfl)
theorem dX13_turnsOf_46 : decode cX13_turnsOf 46 = .ok (.imul, 1) := dk_104 (dk_at dksX13_turnsOf_1 23 rfl rfl)
theorem dX13_turnsOf_47 : decode cX13_turnsOf 47 = .ok (.iadd, 1) := dk_96 (dk_at dksX13_turnsOf_2 0 rfl rfl)
theorem dX13_turnsOf_48 : decode cX13_turnsOf 48 = .ok (.iload 4, 2) := dk_21 4 (dk_at dksX13_turnsOf_2 1 rfl rfl)
theorem dX13_turnsOf_50 : decode cX13_turnsOf 50 = .ok (.iadd, 1) := dk_96 (dk_at dksX13_turnsOf_2 3 rfl rfl)
theorem dX13_turnsOf_51 : decode cX13_turnsOf 51 = .ok (.iaload, 1) := dk_46 (dk_at dksX13_turnsOf_2 4 rfl rfl)
theorem dX13_turnsOf_52 : decode cX13_turnsOf 52 = .ok (.sipush 144, 3) := dk_17 0 144 (dk_at dksX13_turnsOf_2 5 rfl rfl)
theorem dX13_turnsOf_55 : decode cX13_turnsOf 55 = .ok (.isub, 1) := dk_100 (dk_at dksX13_turnsOf_2 8 rfl rfl)
theorem dX13_turnsOf_56 : decode cX13_turnsOf 56 = .ok (.istore 6, 2) := dk_54 6 (dk_at dksX13_turnsOf_2 9 rfl rfl)
theorem dX13_turnsOf_58 : decode cX13_turnsOf 58 = .ok (.iload 6, 2) := dk_21 6 (dk_at dksX13_turnsOf_2 11 rfl rfl)
theorem dX13_turnsOf_60 : decode cX13_turnsOf 60 = .ok (.ifCond .lt 64, 3) := dk_155 0 64 (dk_at dksX13_turnsOf_2 13 rfl rfl)
theorem dX13_turnsOf_63 : decode cX13_turnsOf 63 = .ok (.iload 6, 2) := dk_21 6 (dk_at dksX13_turnsOf_2 16 rfl rfl)
theorem dX13_turnsOf_65 : decode cX13_turnsOf 65 = .ok (.bipush 12, 2) := dk_16 12 (dk_at dksX13_turnsOf_2 18 rfl rfl)
theorem dX13_turnsOf_67 : decode cX13_turnsOf 67 = .ok (.idiv, 1) := dk_108 (dk_at dksX13_turnsOf_2 20 rfl rfl)
theorem dX13_turnsOf_68 : decode cX13_turnsOf 68 = .ok (.aload_n 0, 1) := dk_42 (dk_at dksX13_turnsOf_2 21 rfl rfl)
theorem dX13_turnsOf_69 : decode cX13_turnsOf 69 = .ok (.getfield 76, 3) := dk_180 0 76 (dk_at dksX13_turnsOf_3 0 rfl rfl)
theorem dX13_turnsOf_72 : decode cX13_turnsOf 72 = .ok (.bipush 6, 2) := dk_16 6 (dk_at dksX13_turnsOf_3 3 rfl rfl)
theorem dX13_turnsOf_74 : decode cX13_turnsOf 74 = .ok (.aload_n 0, 1) := dk_42 (dk_at dksX13_turnsOf_3 5 rfl rfl)
theorem dX13_turnsOf_75 : decode cX13_turnsOf 75 = .ok (.getfield 258, 3) := dk_180 1 2 (dk_at dksX13_turnsOf_3 6 rfl rfl)
theorem dX13_turnsOf_78 : decode cX13_turnsOf 78 = .ok (.imul, 1) := dk_104 (dk_at dksX13_turnsOf_3 9 rfl rfl)
theorem dX13_turnsOf_79 : decode cX13_turnsOf 79 = .ok (.iload_n 2, 1) := dk_28 (dk_at dksX13_turnsOf_3 10 rfl rfl)
theorem dX13_turnsOf_80 : decode cX13_turnsOf 80 = .ok (.iadd, 1) := dk_96 (dk_at dksX13_turnsOf_3 11 rfl rfl)
theorem dX13_turnsOf_81 : decode cX13_turnsOf 81 = .ok (.iaload, 1) := dk_46 (dk_at dksX13_turnsOf_3 12 rfl rfl)
theorem dX13_turnsOf_82 : decode cX13_turnsOf 82 = .ok (.if_icmp .ne 42, 3) := dk_160 0 42 (dk_at dksX13_turnsOf_3 13 rfl rfl)
theorem dX13_turnsOf_85 : decode cX13_turnsOf 85 = .ok (.iload 6, 2) := dk_21 6 (dk_at dksX13_turnsOf_3 16 rfl rfl)
theorem dX13_turnsOf_87 : decode cX13_turnsOf 87 = .ok (.bipush 12, 2) := dk_16 12 (dk_at dksX13_turnsOf_3 18 rfl rfl)
theorem dX13_turnsOf_89 : decode cX13_turnsOf 89 = .ok (.irem, 1) := dk_112 (dk_at dksX13_turnsOf_3 20 rfl rfl)
theorem dX13_turnsOf_90 : decode cX13_turnsOf 90 = .ok (.aload_n 0, 1) := dk_42 (dk_at dksX13_turnsOf_3 21 rfl rfl)
theorem dX13_turnsOf_91 : decode cX13_turnsOf 91 = .ok (.getfield 73, 3) := dk_180 0 73 (dk_at dksX13_turnsOf_4 0 rfl rfl)
theorem dX13_turnsOf_94 : decode cX13_turnsOf 94 = .ok (.bipush 6, 2) := dk_16 6 (dk_at dksX13_turnsOf_4 3 rfl rfl)
theorem dX13_turnsOf_96 : decode cX13_turnsOf 96 = .ok (.aload_n 0, 1) := dk_42 (dk_at dksX13_turnsOf_4 5 rfl rfl)
theorem dX13_turnsOf_97 : decode cX13_turnsOf 97 = .ok (.getfield 258, 3) := dk_180 1 2 (dk_at dksX13_turnsOf_4 6 rfl rfl)
theorem dX13_turnsOf_100 : decode cX13_turnsOf 100 = .ok (.imul, 1) := dk_104 (dk_at dksX13_turnsOf_4 9 rfl rfl)
theorem dX13_turnsOf_101 : decode cX13_turnsOf 101 = .ok (.iload_n 2, 1) := dk_28 (dk_at dksX13_turnsOf_4 10 rfl rfl)
theorem dX13_turnsOf_102 : decode cX13_turnsOf 102 = .ok (.iadd, 1) := dk_96 (dk_at dksX13_turnsOf_4 11 rfl rfl)
theorem dX13_turnsOf_103 : decode cX13_turnsOf 103 = .ok (.iaload, 1) := dk_46 (dk_at dksX13_turnsOf_4 12 rfl rfl)
theorem dX13_turnsOf_104 : decode cX13_turnsOf 104 = .ok (.if_icmp .gt 6, 3) := dk_163 0 6 (dk_at dksX13_turnsOf_4 13 rfl rfl)
theorem dX13_turnsOf_107 : decode cX13_turnsOf 107 = .ok (.goto 17, 3) := dk_167 0 17 (dk_at dksX13_turnsOf_4 16 rfl rfl)
theorem dX13_turnsOf_110 : decode cX13_turnsOf 110 = .ok (.iload_n 3, 1) := dk_29 (dk_at dksX13_turnsOf_4 19 rfl rfl)
theorem dX13_turnsOf_111 : decode cX13_turnsOf 111 = .ok (.iload 5, 2) := dk_21 5 (dk_at dksX13_turnsOf_4 20 rfl rfl)
theorem dX13_turnsOf_113 : decode cX13_turnsOf 113 = .ok (.iconst 1, 1) := dk_4 (dk_at dksX13_turnsOf_4 22 rfl rfl)
theorem dX13_turnsOf_114 : decode cX13_turnsOf 114 = .ok (.if_icmp .ne 7, 3) := dk_160 0 7 (dk_at dksX13_turnsOf_5 0 rfl rfl)
theorem dX13_turnsOf_117 : decode cX13_turnsOf 117 = .ok (.iconst 1, 1) := dk_4 (dk_at dksX13_turnsOf_5 3 rfl rfl)
theorem dX13_turnsOf_118 : decode cX13_turnsOf 118 = .ok (.goto 4, 3) := dk_167 0 4 (dk_at dksX13_turnsOf_5 4 rfl rfl)
theorem dX13_turnsOf_121 : decode cX13_turnsOf 121 = .ok (.iconst (-1), 1) := dk_2 (dk_at dksX13_turnsOf_5 7 rfl rfl)
theorem dX13_turnsOf_122 : decode cX13_turnsOf 122 = .ok (.iadd, 1) := dk_96 (dk_at dksX13_turnsOf_5 8 rfl rfl)
theorem dX13_turnsOf_123 : decode cX13_turnsOf 123 = .ok (.istore_n 3, 1) := dk_62 (dk_at dksX13_turnsOf_5 9 rfl rfl)
theorem dX13_turnsOf_124 : decode cX13_turnsOf 124 = .ok (.iinc 4 1, 3) := dk_132 4 1 (dk_at dksX13_turnsOf_5 10 rfl rfl)
theorem dX13_turnsOf_127 : decode cX13_turnsOf 127 = .ok (.goto (-122), 3) := dk_167 255 134 (dk_at dksX13_turnsOf_5 13 rfl rfl)
theorem dX13_turnsOf_130 : decode cX13_turnsOf 130 = .ok (.iload_n 3, 1) := dk_29 (dk_at dksX13_turnsOf_5 16 rfl rfl)
theorem dX13_turnsOf_131 : decode cX13_turnsOf 131 = .ok (.ireturn, 1) := dk_172 (dk_at dksX13_turnsOf_5 17 rfl rfl)
abbrev cX13_thieves : ByteArray := prog_21_method_86_code
def yX13_thieves : MethodName := ⟨RX13, "thieves", "()I"⟩
def dkwX13_thieves_2 : List UInt8 := [120, 128, 60, 132, 3, 1, 167, 255, 225, 132, 2, 1, 167, 255, 204, 27, 172]
abbrev dktX13_thieves_2 : List UInt8 := dkwX13_thieves_2 ++ []
def dkwX13_thieves_1 : List UInt8 := [42, 180, 0, 70, 42, 180, 1, 2, 46, 162, 0, 24, 42, 28, 29, 182, 1, 181, 156, 0, 9, 27, 4, 28]
abbrev dktX13_thieves_1 : List UInt8 := dkwX13_thieves_1 ++ dktX13_thieves_2
def dkwX13_thieves_0 : List UInt8 := [42, 182, 1, 141, 3, 60, 3, 61, 28, 42, 180, 0, 49, 42, 180, 1, 2, 46, 162, 0, 45, 3, 62, 29]
abbrev dktX13_thieves_0 : List UInt8 := dkwX13_thieves_0 ++ dktX13_thieves_1
theorem dksX13_thieves_0 : cX13_thieves.data.toList.drop 0 = dktX13_thieves_0 := by decide +kernel
theorem dksX13_thieves_1 : cX13_thieves.data.toList.drop 24 = dktX13_thieves_1 := dk_seg dksX13_thieves_0 24 rfl rfl
theorem dksX13_thieves_2 : cX13_thieves.data.toList.drop 48 = dktX13_thieves_2 := dk_seg dksX13_thieves_1 24 rfl rfl
theorem dX13_thieves_0 : decode cX13_thieves 0 = .ok (.aload_n 0, 1) := dk_42 (dk_at dksX13_thieves_0 0 rfl rfl)
theorem dX13_thieves_1 : decode cX13_thieves 1 = .ok (.invokevirtual 397, 3) := dk_182 1 141 (dk_at dksX13_thieves_0 1 rfl rfl)
theorem dX13_thieves_4 : decode cX13_thieves 4 = .ok (.iconst 0, 1) := dk_3 (dk_at dksX13_thieves_0 4 rfl rfl)
theorem dX13_thieves_5 : decode cX13_thieves 5 = .ok (.istore_n 1, 1) := dk_60 (dk_at dksX13_thieves_0 5 rfl rfl)
theorem dX13_thieves_6 : decode cX13_thieves 6 = .ok (.iconst 0, 1) := dk_3 (dk_at dksX13_thieves_0 6 rfl rfl)
theorem dX13_thieves_7 : decode cX13_thieves 7 = .ok (.istore_n 2, 1) := dk_61 (dk_at dksX13_thieves_0 7 rfl rfl)
theorem dX13_thieves_8 : decode cX13_thieves 8 = .ok (.iload_n 2, 1) := dk_28 (dk_at dksX13_thieves_0 8 rfl rfl)
theorem dX13_thieves_9 : decode cX13_thieves 9 = .ok (.aload_n 0, 1) := dk_42 (dk_at dksX13_thieves_0 9 rfl rfl)
theorem dX13_thieves_10 : decode cX13_thieves 10 = .ok (.getfield 49, 3) := dk_180 0 49 (dk_at dksX13_thieves_0 10 rfl rfl)
theorem dX13_thieves_13 : decode cX13_thieves 13 = .ok (.aload_n 0, 1) := dk_42 (dk_at dksX13_thieves_0 13 rfl rfl)
theorem dX13_thieves_14 : decode cX13_thieves 14 = .ok (.getfield 258, 3) := dk_180 1 2 (dk_at dksX13_thieves_0 14 rfl rfl)
theorem dX13_thieves_17 : decode cX13_thieves 17 = .ok (.iaload, 1) := dk_46 (dk_at dksX13_thieves_0 17 rfl rfl)
theorem dX13_thieves_18 : decode cX13_thieves 18 = .ok (.if_icmp .ge 45, 3) := dk_162 0 45 (dk_at dksX13_thieves_0 18 rfl rfl)
theorem dX13_thieves_21 : decode cX13_thieves 21 = .ok (.iconst 0, 1) := dk_3 (dk_at dksX13_thieves_0 21 rfl rfl)
theorem dX13_thieves_22 : decode cX13_thieves 22 = .ok (.istore_n 3, 1) := dk_62 (dk_at dksX13_thieves_0 22 rfl rfl)
theorem dX13_thieves_23 : decode cX13_thieves 23 = .ok (.iload_n 3, 1) := dk_29 (dk_at dksX13_thieves_0 23 rfl rfl)
theorem dX13_thieves_24 : decode cX13_thieves 24 = .ok (.aload_n 0, 1) := dk_42 (dk_at dksX13_thieves_1 0 rfl rfl)
theorem dX13_thieves_25 : decode cX13_thieves 25 = .ok (.getfield 70, 3) := dk_180 0 70 (dk_at dksX13_thieves_1 1 rfl rfl)
theorem dX13_thieves_28 : decode cX13_thieves 28 = .ok (.aload_n 0, 1) := dk_42 (dk_at dksX13_thieves_1 4 rfl rfl)
theorem dX13_thieves_29 : decode cX13_thieves 29 = .ok (.getfield 258, 3) := dk_180 1 2 (dk_at dksX13_thieves_1 5 rfl rfl)
theorem dX13_thieves_32 : decode cX13_thieves 32 = .ok (.iaload, 1) := dk_46 (dk_at dksX13_thieves_1 8 rfl rfl)
theorem dX13_thieves_33 : decode cX13_thieves 33 = .ok (.if_icmp .ge 24, 3) := dk_162 0 24 (dk_at dksX13_thieves_1 9 rfl rfl)
theorem dX13_thieves_36 : decode cX13_thieves 36 = .ok (.aload_n 0, 1) := dk_42 (dk_at dksX13_thieves_1 12 rfl rfl)
theorem dX13_thieves_37 : decode cX13_thieves 37 = .ok (.iload_n 2, 1) := dk_28 (dk_at dksX13_thieves_1 13 rfl rfl)
theorem dX13_thieves_38 : decode cX13_thieves 38 = .ok (.iload_n 3, 1) := dk_29 (dk_at dksX13_thieves_1 14 rfl rfl)
theorem dX13_thieves_39 : decode cX13_thieves 39 = .ok (.invokevirtual 437, 3) := dk_182 1 181 (dk_at dksX13_thieves_1 15 rfl rfl)
theorem dX13_thieves_42 : decode cX13_thieves 42 = .ok (.ifCond .ge 9, 3) := dk_156 0 9 (dk_at dksX13_thieves_1 18 rfl rfl)
theorem dX13_thieves_45 : decode cX13_thieves 45 = .ok (.iload_n 1, 1) := dk_27 (dk_at dksX13_thieves_1 21 rfl rfl)
theorem dX13_thieves_46 : decode cX13_thieves 46 = .ok (.iconst 1, 1) := dk_4 (dk_at dksX13_thieves_1 22 rfl rfl)
theorem dX13_thieves_47 : decode cX13_thieves 47 = .ok (.iload_n 2, 1) := dk_28 (dk_at dksX13_thieves_1 23 rfl rfl)
theorem dX13_thieves_48 : decode cX13_thieves 48 = .ok (.ishl, 1) := dk_120 (dk_at dksX13_thieves_2 0 rfl rfl)
theorem dX13_thieves_49 : decode cX13_thieves 49 = .ok (.ior, 1) := dk_128 (dk_at dksX13_thieves_2 1 rfl rfl)
theorem dX13_thieves_50 : decode cX13_thieves 50 = .ok (.istore_n 1, 1) := dk_60 (dk_at dksX13_thieves_2 2 rfl rfl)
theorem dX13_thieves_51 : decode cX13_thieves 51 = .ok (.iinc 3 1, 3) := dk_132 3 1 (dk_at dksX13_thieves_2 3 rfl rfl)
theorem dX13_thieves_54 : decode cX13_thieves 54 = .ok (.goto (-31), 3) := dk_167 255 225 (dk_at dksX13_thieves_2 6 rfl rfl)
theorem dX13_thieves_57 : decode cX13_thieves 57 = .ok (.iinc 2 1, 3) := dk_132 2 1 (dk_at dksX13_thieves_2 9 rfl rfl)
theorem dX13_thieves_60 : decode cX13_thieves 60 = .ok (.goto (-52), 3) := dk_167 255 204 (dk_at dksX13_thieves_2 12 rfl rfl)
theorem dX13_thieves_63 : decode cX13_thieves 63 = .ok (.iload_n 1, 1) := dk_27 (dk_at dksX13_thieves_2 15 rfl rfl)
theorem dX13_thieves_64 : decode cX13_thieves 64 = .ok (.ireturn, 1) := dk_172 (dk_at dksX13_thieves_2 16 rfl rfl)
abbrev cX13_meet : ByteArray := prog_21_method_87_code
def yX13_meet : MethodName := ⟨RX13, "meet", "(II)I"⟩
def dkwX13_meet_3 : List UInt8 := [16, 254, 172]
abbrev dktX13_meet_3 : List UInt8 := dkwX13_meet_3 ++ []
def dkwX13_meet_2 : List UInt8 := [42, 180, 0, 131, 16, 7, 28, 96, 46, 160, 0, 5, 29, 172, 42, 182, 1, 151, 132, 3, 1, 167, 255, 204]
abbrev dktX13_meet_2 : List UInt8 := dkwX13_meet_2 ++ dktX13_meet_3
def dkwX13_meet_1 : List UInt8 := [42, 180, 0, 131, 27, 46, 42, 180, 0, 131, 28, 46, 160, 0, 26, 42, 180, 0, 131, 16, 7, 27, 96, 46]
abbrev dktX13_meet_1 : List UInt8 := dkwX13_meet_1 ++ dktX13_meet_2
def dkwX13_meet_0 : List UInt8 := [42, 27, 28, 182, 1, 157, 154, 0, 5, 2, 172, 42, 182, 1, 141, 3, 62, 29, 17, 0, 200, 163, 0, 51]
abbrev dktX13_meet_0 : List UInt8 := dkwX13_meet_0 ++ dktX13_meet_1
theorem dksX13_meet_0 : cX13_meet.data.toList.drop 0 = dktX13_meet_0 := by decide +kernel
theorem dksX13_meet_1 : cX13_meet.data.toList.drop 24 = dktX13_meet_1 := dk_seg dksX13_meet_0 24 rfl rfl
theorem dksX13_meet_2 : cX13_meet.data.toList.drop 48 = dktX13_meet_2 := dk_seg dksX13_meet_1 24 rfl rfl
theorem dksX13_meet_3 : cX13_meet.data.toList.drop 72 = dktX13_meet_3 := dk_seg dksX13_meet_2 24 rfl rfl
theorem dX13_meet_0 : decode cX13_meet 0 = .ok (.aload_n 0, 1) := dk_42 (dk_at dksX13_meet_0 0 rfl rfl)
theorem dX13_meet_1 : decode cX13_meet 1 = .ok (.iload_n 1, 1) := dk_27 (dk_at dksX13_meet_0 1 rfl rfl)
theorem dX13_meet_2 : decode cX13_meet 2 = .ok (.iload_n 2, 1) := dk_28 (dk_at dksX13_meet_0 2 rfl rfl)
theorem dX13_meet_3 : decode cX13_meet 3 = .ok (.invokevirtual 413, 3) := dk_182 1 157 (dk_at dksX13_meet_0 3 rfl rfl)
theorem dX13_meet_6 : decode cX13_meet 6 = .ok (.ifCond .ne 5, 3) := dk_154 0 5 (dk_at dksX13_meet_0 6 rfl rfl)
theorem dX13_meet_9 : decode cX13_meet 9 = .ok (.iconst (-1), 1) := dk_2 (dk_at dksX13_meet_0 9 rfl rfl)
theorem dX13_meet_10 : decode cX13_meet 10 = .ok (.ireturn, 1) := dk_172 (dk_at dksX13_meet_0 10 rfl rfl)
theorem dX13_meet_11 : decode cX13_meet 11 = .ok (.aload_n 0, 1) := dk_42 (dk_at dksX13_meet_0 11 rfl rfl)
theorem dX13_meet_12 : decode cX13_meet 12 = .ok (.invokevirtual 397, 3) := dk_182 1 141 (dk_at dksX13_meet_0 12 rfl rfl)
theorem dX13_meet_15 : decode cX13_meet 15 = .ok (.iconst 0, 1) := dk_3 (dk_at dksX13_meet_0 15 rfl rfl)
theorem dX13_meet_16 : decode cX13_meet 16 = .ok (.istore_n 3, 1) := dk_62 (dk_at dksX13_meet_0 16 rfl rfl)
theorem dX13_meet_17 : decode cX13_meet 17 = .ok (.iload_n 3, 1) := dk_29 (dk_at dksX13_meet_0 17 rfl rfl)
theorem dX13_meet_18 : decode cX13_meet 18 = .ok (.sipush 200, 3) := dk_17 0 200 (dk_at dksX13_meet_0 18 rfl rfl)
theorem dX13_meet_21 : decode cX13_meet 21 = .ok (.if_icmp .gt 51, 3) := dk_163 0 51 (dk_at dksX13_meet_0 21 rfl rfl)
theorem dX13_meet_24 : decode cX13_meet 24 = .ok (.aload_n 0, 1) := dk_42 (dk_at dksX13_meet_1 0 rfl rfl)
theorem dX13_meet_25 : decode cX13_meet 25 = .ok (.getfield 131, 3) := dk_180 0 131 (dk_at dksX13_meet_1 1 rfl rfl)
theorem dX13_meet_28 : decode cX13_meet 28 = .ok (.iload_n 1, 1) := dk_27 (dk_at dksX13_meet_1 4 rfl rfl)
theorem dX13_meet_29 : decode cX13_meet 29 = .ok (.iaload, 1) := dk_46 (dk_at dksX13_meet_1 5 rfl rfl)
theorem dX13_meet_30 : decode cX13_meet 30 = .ok (.aload_n 0, 1) := dk_42 (dk_at dksX13_meet_1 6 rfl rfl)
theorem dX13_meet_31 : decode cX13_meet 31 = .ok (.getfield 131, 3) := dk_180 0 131 (dk_at dksX13_meet_1 7 rfl rfl)
theorem dX13_meet_34 : decode cX13_meet 34 = .ok (.iload_n 2, 1) := dk_28 (dk_at dksX13_meet_1 10 rfl rfl)
theorem dX13_meet_35 : decode cX13_meet 35 = .ok (.iaload, 1) := dk_46 (dk_at dksX13_meet_1 11 rfl rfl)
theorem dX13_meet_36 : decode cX13_meet 36 = .ok (.if_icmp .ne 26, 3) := dk_160 0 26 (dk_at dksX13_meet_1 12 rfl rfl)
theorem dX13_meet_39 : decode cX13_meet 39 = .ok (.aload_n 0, 1) := dk_42 (dk_at dksX13_meet_1 15 rfl rfl)
theorem dX13_meet_40 : decode cX13_meet 40 = .ok (.getfield 131, 3) := dk_180 0 131 (dk_at dksX13_meet_1 16 rfl rfl)
theorem dX13_meet_43 : decode cX13_meet 43 = .ok (.bipush 7, 2) := dk_16 7 (dk_at dksX13_meet_1 19 rfl rfl)
theorem dX13_meet_45 : decode cX13_meet 45 = .ok (.iload_n 1, 1) := dk_27 (dk_at dksX13_meet_1 21 rfl rfl)
theorem dX13_meet_46 : decode cX13_meet 46 = .ok (.iadd, 1) := dk_96 (dk_at dksX13_meet_1 22 rfl rfl)
theorem dX13_meet_47 : decode cX13_meet 47 = .ok (.iaload, 1) := dk_46 (dk_at dksX13_meet_1 23 rfl rfl)
theorem dX13_meet_48 : decode cX13_meet 48 = .ok (.aload_n 0, 1) := dk_42 (dk_at dksX13_meet_2 0 rfl rfl)
theorem dX13_meet_49 : decode cX13_meet 49 = .ok (.getfield 131, 3) := dk_180 0 131 (dk_at dksX13_meet_2 1 rfl rfl)
theorem dX13_meet_52 : decode cX13_meet 52 = .ok (.bipush 7, 2) := dk_16 7 (dk_at dksX13_meet_2 4 rfl rfl)
theorem dX13_meet_54 : decode cX13_meet 54 = .ok (.iload_n 2, 1) := dk_28 (dk_at dksX13_meet_2 6 rfl rfl)
theorem dX13_meet_55 : decode cX13_meet 55 = .ok (.iadd, 1) := dk_96 (dk_at dksX13_meet_2 7 rfl rfl)
theorem dX13_meet_56 : decode cX13_meet 56 = .ok (.iaload, 1) := dk_46 (dk_at dksX13_meet_2 8 rfl rfl)
theorem dX13_meet_57 : decode cX13_meet 57 = .ok (.if_icmp .ne 5, 3) := dk_160 0 5 (dk_at dksX13_meet_2 9 rfl rfl)
theorem dX13_meet_60 : decode cX13_meet 60 = .ok (.iload_n 3, 1) := dk_29 (dk_at dksX13_meet_2 12 rfl rfl)
theorem dX13_meet_61 : decode cX13_meet 61 = .ok (.ireturn, 1) := dk_172 (dk_at dksX13_meet_2 13 rfl rfl)
theorem dX13_meet_62 : decode cX13_meet 62 = .ok (.aload_n 0, 1) := dk_42 (dk_at dksX13_meet_2 14 rfl rfl)
theorem dX13_meet_63 : decode cX13_meet 63 = .ok (.invokevirtual 407, 3) := dk_182 1 151 (dk_at dksX13_meet_2 15 rfl rfl)
theorem dX13_meet_66 : decode cX13_meet 66 = .ok (.iinc 3 1, 3) := dk_132 3 1 (dk_at dksX13_meet_2 18 rfl rfl)
theorem dX13_meet_69 : decode cX13_meet 69 = .ok (.goto (-52), 3) := dk_167 255 204 (dk_at dksX13_meet_2 21 rfl rfl)
theorem dX13_meet_72 : decode cX13_meet 72 = .ok (.bipush (-2), 2) := dk_16 254 (dk_at dksX13_meet_3 0 rfl rfl)
theorem dX13_meet_74 : decode cX13_meet 74 = .ok (.ireturn, 1) := dk_172 (dk_at dksX13_meet_3 2 rfl rfl)
abbrev cX13_most : ByteArray := prog_21_method_89_code
def yX13_most : MethodName := ⟨RX13, "most", "(I)I"⟩
def dkwX13_most_3 : List UInt8 := [154, 0, 7, 28, 167, 0, 8, 42, 28, 182, 1, 184, 172]
abbrev dktX13_most_3 : List UInt8 := dkwX13_most_3 ++ []
def dkwX13_most_2 : List UInt8 := [42, 29, 182, 1, 184, 42, 28, 182, 1, 184, 164, 0, 5, 29, 61, 132, 3, 1, 167, 255, 225, 27]
abbrev dktX13_most_2 : List UInt8 := dkwX13_most_2 ++ dktX13_most_3
def dkwX13_most_1 : List UInt8 := [16, 254, 172, 42, 182, 1, 141, 3, 61, 4, 62, 29, 42, 180, 0, 49, 42, 180, 1, 2, 46, 162, 0, 24]
abbrev dktX13_most_1 : List UInt8 := dkwX13_most_1 ++ dktX13_most_2
def dkwX13_most_0 : List UInt8 := [27, 3, 4, 184, 1, 89, 154, 0, 5, 2, 172, 42, 180, 0, 49, 42, 180, 1, 2, 46, 154, 0, 6]
abbrev dktX13_most_0 : List UInt8 := dkwX13_most_0 ++ dktX13_most_1
theorem dksX13_most_0 : cX13_most.data.toList.drop 0 = dktX13_most_0 := by decide +kernel
theorem dksX13_most_1 : cX13_most.data.toList.drop 23 = dktX13_most_1 := dk_seg dksX13_most_0 23 rfl rfl
theorem dksX13_most_2 : cX13_most.data.toList.drop 47 = dktX13_most_2 := dk_seg dksX13_most_1 24 rfl rfl
theorem dksX13_most_3 : cX13_most.data.toList.drop 69 = dktX13_most_3 := dk_seg dksX13_most_2 22 rfl rfl
theorem dX13_most_0 : decode cX13_most 0 = .ok (.iload_n 1, 1) := dk_27 (dk_at dksX13_most_0 0 rfl rfl)
theorem dX13_most_1 : decode cX13_most 1 = .ok (.iconst 0, 1) := dk_3 (dk_at dksX13_most_0 1 rfl rfl)
theorem dX13_most_2 : decode cX13_most 2 = .ok (.iconst 1, 1) := dk_4 (dk_at dksX13_most_0 2 rfl rfl)
theorem dX13_most_3 : decode cX13_most 3 = .ok (.invokestatic 345, 3) := dk_184 1 89 (dk_at dksX13_most_0 3 rfl rfl)
theorem dX13_most_6 : decode cX13_most 6 = .ok (.ifCond .ne 5, 3) := dk_154 0 5 (dk_at dksX13_most_0 6 rfl rfl)
theorem dX13_most_9 : decode cX13_most 9 = .ok (.iconst (-1), 1) := dk_2 (dk_at dksX13_most_0 9 rfl rfl)
theorem dX13_most_10 : decode cX13_most 10 = .ok (.ireturn, 1) := dk_172 (dk_at dksX13_most_0 10 rfl rfl)
theorem dX13_most_11 : decode cX13_most 11 = .ok (.aload_n 0, 1) := dk_42 (dk_at dksX13_most_0 11 rfl rfl)
theorem dX13_most_12 : decode cX13_most 12 = .ok (.getfield 49, 3) := dk_180 0 49 (dk_at dksX13_most_0 12 rfl rfl)
theorem dX13_most_15 : decode cX13_most 15 = .ok (.aload_n 0, 1) := dk_42 (dk_at dksX13_most_0 15 rfl rfl)
theorem dX13_most_16 : decode cX13_most 16 = .ok (.getfield 258, 3) := dk_180 1 2 (dk_at dksX13_most_0 16 rfl rfl)
theorem dX13_most_19 : decode cX13_most 19 = .ok (.iaload, 1) := dk_46 (dk_at dksX13_most_0 19 rfl rfl)
theorem dX13_most_20 : decode cX13_most 20 = .ok (.ifCond .ne 6, 3) := dk_154 0 6 (dk_at dksX13_most_0 20 rfl rfl)
theorem dX13_most_23 : decode cX13_most 23 = .ok (.bipush (-2), 2) := dk_16 254 (dk_at dksX13_most_1 0 rfl rfl)
theorem dX13_most_25 : decode cX13_most 25 = .ok (.ireturn, 1) := dk_172 (dk_at dksX13_most_1 2 rfl rfl)
theorem dX13_most_26 : decode cX13_most 26 = .ok (.aload_n 0, 1) := dk_42 (dk_at dksX13_most_1 3 rfl rfl)
theorem dX13_most_27 : decode cX13_most 27 = .ok (.invokevirtual 397, 3) := dk_182 1 141 (dk_at dksX13_most_1 4 rfl rfl)
theorem dX13_most_30 : decode cX13_most 30 = .ok (.iconst 0, 1) := dk_3 (dk_at dksX13_most_1 7 rfl rfl)
theorem dX13_most_31 : decode cX13_most 31 = .ok (.istore_n 2, 1) := dk_61 (dk_at dksX13_most_1 8 rfl rfl)
theorem dX13_most_32 : decode cX13_most 32 = .ok (.iconst 1, 1) := dk_4 (dk_at dksX13_most_1 9 rfl rfl)
theorem dX13_most_33 : decode cX13_most 33 = .ok (.istore_n 3, 1) := dk_62 (dk_at dksX13_most_1 10 rfl rfl)
theorem dX13_most_34 : decode cX13_most 34 = .ok (.iload_n 3, 1) := dk_29 (dk_at dksX13_most_1 11 rfl rfl)
theorem dX13_most_35 : decode cX13_most 35 = .ok (.aload_n 0, 1) := dk_42 (dk_at dksX13_most_1 12 rfl rfl)
theorem dX13_most_36 : decode cX13_most 36 = .ok (.getfield 49, 3) := dk_180 0 49 (dk_at dksX13_most_1 13 rfl rfl)
theorem dX13_most_39 : decode cX13_most 39 = .ok (.aload_n 0, 1) := dk_42 (dk_at dksX13_most_1 16 rfl rfl)
theorem dX13_most_40 : decode cX13_most 40 = .ok (.getfield 258, 3) := dk_180 1 2 (dk_at dksX13_most_1 17 rfl rfl)
theorem dX13_most_43 : decode cX13_most 43 = .ok (.iaload, 1) := dk_46 (dk_at dksX13_most_1 20 rfl rfl)
theorem dX13_most_44 : decode cX13_most 44 = .ok (.if_icmp .ge 24, 3) := dk_162 0 24 (dk_at dksX13_most_1 21 rfl rfl)
theorem dX13_most_47 : decode cX13_most 47 = .ok (.aload_n 0, 1) := dk_42 (dk_at dksX13_most_2 0 rfl rfl)
theorem dX13_most_48 : decode cX13_most 48 = .ok (.iload_n 3, 1) := dk_29 (dk_at dksX13_most_2 1 rfl rfl)
theorem dX13_most_49 : decode cX13_most 49 = .ok (.invokevirtual 440, 3) := dk_182 1 184 (dk_at dksX13_most_2 2 rfl rfl)
theorem dX13_most_52 : decode cX13_most 52 = .ok (.aload_n 0, 1) := dk_42 (dk_at dksX13_most_2 5 rfl rfl)
theorem dX13_most_53 : decode cX13_most 53 = .ok (.iload_n 2, 1) := dk_28 (dk_at dksX13_most_2 6 rfl rfl)
theorem dX13_most_54 : decode cX13_most 54 = .ok (.invokevirtual 440, 3) := dk_182 1 184 (dk_at dksX13_most_2 7 rfl rfl)
theorem dX13_most_57 : decode cX13_most 57 = .ok (.if_icmp .le 5, 3) := dk_164 0 5 (dk_at dksX13_most_2 10 rfl rfl)
theorem dX13_most_60 : decode cX13_most 60 = .ok (.iload_n 3, 1) := dk_29 (dk_at dksX13_most_2 13 rfl rfl)
theorem dX13_most_61 : decode cX13_most 61 = .ok (.istore_n 2, 1) := dk_61 (dk_at dksX13_most_2 14 rfl rfl)
theorem dX13_most_62 : decode cX13_most 62 = .ok (.iinc 3 1, 3) := dk_132 3 1 (dk_at dksX13_most_2 15 rfl rfl)
theorem dX13_most_65 : decode cX13_most 65 = .ok (.goto (-31), 3) := dk_167 255 225 (dk_at dksX13_most_2 18 rfl rfl)
theorem dX13_most_68 : decode cX13_most 68 = .ok (.iload_n 1, 1) := dk_27 (dk_at dksX13_most_2 21 rfl rfl)
theorem dX13_most_69 : decode cX13_most 69 = .ok (.ifCond .ne 7, 3) := dk_154 0 7 (dk_at dksX13_most_3 0 rfl rfl)
theorem dX13_most_72 : decode cX13_most 72 = .ok (.iload_n 2, 1) := dk_28 (dk_at dksX13_most_3 3 rfl rfl)
theorem dX13_most_73 : decode cX13_most 73 = .ok (.goto 8, 3) := dk_167 0 8 (dk_at dksX13_most_3 4 rfl rfl)
theorem dX13_most_76 : decode cX13_most 76 = .ok (.aload_n 0, 1) := dk_42 (dk_at dksX13_most_3 7 rfl rfl)
theorem dX13_most_77 : decode cX13_most 77 = .ok (.iload_n 2, 1) := dk_28 (dk_at dksX13_most_3 8 rfl rfl)
theorem dX13_most_78 : decode cX13_most 78 = .ok (.invokevirtual 440, 3) := dk_182 1 184 (dk_at dksX13_most_3 9 rfl rfl)
theorem dX13_most_81 : decode cX13_most 81 = .ok (.ireturn, 1) := dk_172 (dk_at dksX13_most_3 12 rfl rfl)
abbrev cX13_overAll : ByteArray := prog_21_method_88_code
def yX13_overAll : MethodName := ⟨RX13, "overAll", "(I)I"⟩
def dkwX13_overAll_1 : List UInt8 := [27, 29, 182, 1, 154, 96, 61, 132, 3, 1, 167, 255, 226, 28, 172]
abbrev dktX13_overAll_1 : List UInt8 := dkwX13_overAll_1 ++ []
def dkwX13_overAll_0 : List UInt8 := [3, 61, 3, 62, 29, 42, 180, 0, 49, 42, 180, 1, 2, 46, 162, 0, 23, 29, 27, 159, 0, 12, 28, 42]
abbrev dktX13_overAll_0 : List UInt8 := dkwX13_overAll_0 ++ dktX13_overAll_1
theorem dksX13_overAll_0 : cX13_overAll.data.toList.drop 0 = dktX13_overAll_0 := by decide +kernel
theorem dksX13_overAll_1 : cX13_overAll.data.toList.drop 24 = dktX13_overAll_1 := dk_seg dksX13_overAll_0 24 rfl rfl
theorem dX13_overAll_0 : decode cX13_overAll 0 = .ok (.iconst 0, 1) := dk_3 (dk_at dksX13_overAll_0 0 rfl rfl)
theorem dX13_overAll_1 : decode cX13_overAll 1 = .ok (.istore_n 2, 1) := dk_61 (dk_at dksX13_overAll_0 1 rfl rfl)
theorem dX13_overAll_2 : decode cX13_overAll 2 = .ok (.iconst 0, 1) := dk_3 (dk_at dksX13_overAll_0 2 rfl rfl)
theorem dX13_overAll_3 : decode cX13_overAll 3 = .ok (.istore_n 3, 1) := dk_62 (dk_at dksX13_overAll_0 3 rfl rfl)
theorem dX13_overAll_4 : decode cX13_overAll 4 = .ok (.iload_n 3, 1) := dk_29 (dk_at dksX13_overAll_0 4 rfl rfl)
theorem dX13_overAll_5 : decode cX13_overAll 5 = .ok (.aload_n 0, 1) := dk_42 (dk_at dksX13_overAll_0 5 rfl rfl)
theorem dX13_overAll_6 : decode cX13_overAll 6 = .ok (.getfield 49, 3) := dk_180 0 49 (dk_at dksX13_overAll_0 6 rfl rfl)
theorem dX13_overAll_9 : decode cX13_overAll 9 = .ok (.aload_n 0, 1) := dk_42 (dk_at dksX13_overAll_0 9 rfl rfl)
theorem dX13_overAll_10 : decode cX13_overAll 10 = .ok (.getfield 258, 3) := dk_180 1 2 (dk_at dksX13_overAll_0 10 rfl rfl)
theorem dX13_overAll_13 : decode cX13_overAll 13 = .ok (.iaload, 1) := dk_46 (dk_at dksX13_overAll_0 13 rfl rfl)
theorem dX13_overAll_14 : decode cX13_overAll 14 = .ok (.if_icmp .ge 23, 3) := dk_162 0 23 (dk_at dksX13_overAll_0 14 rfl rfl)
theorem dX13_overAll_17 : decode cX13_overAll 17 = .ok (.iload_n 3, 1) := dk_29 (dk_at dksX13_overAll_0 17 rfl rfl)
theorem dX13_overAll_18 : decode cX13_overAll 18 = .ok (.iload_n 1, 1) := dk_27 (dk_at dksX13_overAll_0 18 rfl rfl)
theorem dX13_overAll_19 : decode cX13_overAll 19 = .ok (.if_icmp .eq 12, 3) := dk_159 0 12 (dk_at dksX13_overAll_0 19 rfl rfl)
theorem dX13_overAll_22 : decode cX13_overAll 22 = .ok (.iload_n 2, 1) := dk_28 (dk_at dksX13_overAll_0 22 rfl rfl)
theorem dX13_overAll_23 : decode cX13_overAll 23 = .ok (.aload_n 0, 1) := dk_42 (dk_at dksX13_overAll_0 23 rfl rfl)
theorem dX13_overAll_24 : decode cX13_overAll 24 = .ok (.iload_n 1, 1) := dk_27 (dk_at dksX13_overAll_1 0 rfl rfl)
theorem dX13_overAll_25 : decode cX13_overAll 25 = .ok (.iload_n 3, 1) := dk_29 (dk_at dksX13_overAll_1 1 rfl rfl)
theorem dX13_overAll_26 : decode cX13_overAll 26 = .ok (.invokevirtual 410, 3) := dk_182 1 154 (dk_at dksX13_overAll_1 2 rfl rfl)
theorem dX13_overAll_29 : decode cX13_overAll 29 = .ok (.iadd, 1) := dk_96 (dk_at dksX13_overAll_1 5 rfl rfl)
theorem dX13_overAll_30 : decode cX13_overAll 30 = .ok (.istore_n 2, 1) := dk_61 (dk_at dksX13_overAll_1 6 rfl rfl)
theorem dX13_overAll_31 : decode cX13_overAll 31 = .ok (.iinc 3 1, 3) := dk_132 3 1 (dk_at dksX13_overAll_1 7 rfl rfl)
theorem dX13_overAll_34 : decode cX13_overAll 34 = .ok (.goto (-30), 3) := dk_167 255 226 (dk_at dksX13_overAll_1 10 rfl rfl)
theorem dX13_overAll_37 : decode cX13_overAll 37 = .ok (.iload_n 2, 1) := dk_28 (dk_at dksX13_overAll_1 13 rfl rfl)
theorem dX13_overAll_38 : decode cX13_overAll 38 = .ok (.ireturn, 1) := dk_172 (dk_at dksX13_overAll_1 14 rfl rfl)
abbrev cX13_unfair : ByteArray := prog_21_method_90_code
def yX13_unfair : MethodName := ⟨RX13, "unfair", "()I"⟩
def dkwX13_unfair_3 : List UInt8 := [132, 3, 1, 167, 255, 210, 28, 27, 100, 172]
abbrev dktX13_unfair_3 : List UInt8 := dkwX13_unfair_3 ++ []
def dkwX13_unfair_2 : List UInt8 := [162, 0, 9, 42, 29, 182, 1, 184, 60, 42, 29, 182, 1, 184, 28, 164, 0, 9, 42, 29, 182, 1, 184, 61]
abbrev dktX13_unfair_2 : List UInt8 := dkwX13_unfair_2 ++ dktX13_unfair_3
def dkwX13_unfair_1 : List UInt8 := [27, 61, 4, 62, 29, 42, 180, 0, 49, 42, 180, 1, 2, 46, 162, 0, 39, 42, 29, 182, 1, 184, 27]
abbrev dktX13_unfair_1 : List UInt8 := dkwX13_unfair_1 ++ dktX13_unfair_2
def dkwX13_unfair_0 : List UInt8 := [42, 180, 0, 49, 42, 180, 1, 2, 46, 154, 0, 5, 3, 172, 42, 182, 1, 141, 42, 3, 182, 1, 184, 60]
abbrev dktX13_unfair_0 : List UInt8 := dkwX13_unfair_0 ++ dktX13_unfair_1
theorem dksX13_unfair_0 : cX13_unfair.data.toList.drop 0 = dktX13_unfair_0 := by decide +kernel
theorem dksX13_unfair_1 : cX13_unfair.data.toList.drop 24 = dktX13_unfair_1 := dk_seg dksX13_unfair_0 24 rfl rfl
theorem dksX13_unfair_2 : cX13_unfair.data.toList.drop 47 = dktX13_unfair_2 := dk_seg dksX13_unfair_1 23 rfl rfl
theorem dksX13_unfair_3 : cX13_unfair.data.toList.drop 71 = dktX13_unfair_3 := dk_seg dksX13_unfair_2 24 rfl rfl
theorem dX13_unfair_0 : decode cX13_unfair 0 = .ok (.aload_n 0, 1) := dk_42 (dk_at dksX13_unfair_0 0 rfl rfl)
theorem dX13_unfair_1 : decode cX13_unfair 1 = .ok (.getfield 49, 3) := dk_180 0 49 (dk_at dksX13_unfair_0 1 rfl rfl)
theorem dX13_unfair_4 : decode cX13_unfair 4 = .ok (.aload_n 0, 1) := dk_42 (dk_at dksX13_unfair_0 4 rfl rfl)
theorem dX13_unfair_5 : decode cX13_unfair 5 = .ok (.getfield 258, 3) := dk_180 1 2 (dk_at dksX13_unfair_0 5 rfl rfl)
theorem dX13_unfair_8 : decode cX13_unfair 8 = .ok (.iaload, 1) := dk_46 (dk_at dksX13_unfair_0 8 rfl rfl)
theorem dX13_unfair_9 : decode cX13_unfair 9 = .ok (.ifCond .ne 5, 3) := dk_154 0 5 (dk_at dksX13_unfair_0 9 rfl rfl)
theorem dX13_unfair_12 : decode cX13_unfair 12 = .ok (.iconst 0, 1) := dk_3 (dk_at dksX13_unfair_0 12 rfl rfl)
theorem dX13_unfair_13 : decode cX13_unfair 13 = .ok (.ireturn, 1) := dk_172 (dk_at dksX13_unfair_0 13 rfl rfl)
theorem dX13_unfair_14 : decode cX13_unfair 14 = .ok (.aload_n 0, 1) := dk_42 (dk_at dksX13_unfair_0 14 rfl rfl)
theorem dX13_unfair_15 : decode cX13_unfair 15 = .ok (.invokevirtual 397, 3) := dk_182 1 141 (dk_at dksX13_unfair_0 15 rfl rfl)
theorem dX13_unfair_18 : decode cX13_unfair 18 = .ok (.aload_n 0, 1) := dk_42 (dk_at dksX13_unfair_0 18 rfl rfl)
theorem dX13_unfair_19 : decode cX13_unfair 19 = .ok (.iconst 0, 1) := dk_3 (dk_at dksX13_unfair_0 19 rfl rfl)
theorem dX13_unfair_20 : decode cX13_unfair 20 = .ok (.invokevirtual 440, 3) := dk_182 1 184 (dk_at dksX13_unfair_0 20 rfl rfl)
theorem dX13_unfair_23 : decode cX13_unfair 23 = .ok (.istore_n 1, 1) := dk_60 (dk_at dksX13_unfair_0 23 rfl rfl)
theorem dX13_unfair_24 : decode cX13_unfair 24 = .ok (.iload_n 1, 1) := dk_27 (dk_at dksX13_unfair_1 0 rfl rfl)
theorem dX13_unfair_25 : decode cX13_unfair 25 = .ok (.istore_n 2, 1) := dk_61 (dk_at dksX13_unfair_1 1 rfl rfl)
theorem dX13_unfair_26 : decode cX13_unfair 26 = .ok (.iconst 1, 1) := dk_4 (dk_at dksX13_unfair_1 2 rfl rfl)
theorem dX13_unfair_27 : decode cX13_unfair 27 = .ok (.istore_n 3, 1) := dk_62 (dk_at dksX13_unfair_1 3 rfl rfl)
theorem dX13_unfair_28 : decode cX13_unfair 28 = .ok (.iload_n 3, 1) := dk_29 (dk_at dksX13_unfair_1 4 rfl rfl)
theorem dX13_unfair_29 : decode cX13_unfair 29 = .ok (.aload_n 0, 1) := dk_42 (dk_at dksX13_unfair_1 5 rfl rfl)
theorem dX13_unfair_30 : decode cX13_unfair 30 = .ok (.getfield 49, 3) := dk_180 0 49 (dk_at dksX13_unfair_1 6 rfl rfl)
theorem dX13_unfair_33 : decode cX13_unfair 33 = .ok (.aload_n 0, 1) := dk_42 (dk_at dksX13_unfair_1 9 rfl rfl)
theorem dX13_unfair_34 : decode cX13_unfair 34 = .ok (.getfield 258, 3) := dk_180 1 2 (dk_at dksX13_unfair_1 10 rfl rfl)
theorem dX13_unfair_37 : decode cX13_unfair 37 = .ok (.iaload, 1) := dk_46 (dk_at dksX13_unfair_1 13 rfl rfl)
theorem dX13_unfair_38 : decode cX13_unfair 38 = .ok (.if_icmp .ge 39, 3) := dk_162 0 39 (dk_at dksX13_unfair_1 14 rfl rfl)
theorem dX13_unfair_41 : decode cX13_unfair 41 = .ok (.aload_n 0, 1) := dk_42 (dk_at dksX13_unfair_1 17 rfl rfl)
theorem dX13_unfair_42 : decode cX13_unfair 42 = .ok (.iload_n 3, 1) := dk_29 (dk_at dksX13_unfair_1 18 rfl rfl)
theorem dX13_unfair_43 : decode cX13_unfair 43 = .ok (.invokevirtual 440, 3) := dk_182 1 184 (dk_at dksX13_unfair_1 19 rfl rfl)
theorem dX13_unfair_46 : decode cX13_unfair 46 = .ok (.iload_n 1, 1) := dk_27 (dk_at dksX13_unfair_1 22 rfl rfl)
theorem dX13_unfair_47 : decode cX13_unfair 47 = .ok (.if_icmp .ge 9, 3) := dk_162 0 9 (dk_at dksX13_unfair_2 0 rfl rfl)
theorem dX13_unfair_50 : decode cX13_unfair 50 = .ok (.aload_n 0, 1) := dk_42 (dk_at dksX13_unfair_2 3 rfl rfl)
theorem dX13_unfair_51 : decode cX13_unfair 51 = .ok (.iload_n 3, 1) := dk_29 (dk_at dksX13_unfair_2 4 rfl rfl)
theorem dX13_unfair_52 : decode cX13_unfair 52 = .ok (.invokevirtual 440, 3) := dk_182 1 184 (dk_at dksX13_unfair_2 5 rfl rfl)
theorem dX13_unfair_55 : decode cX13_unfair 55 = .ok (.istore_n 1, 1) := dk_60 (dk_at dksX13_unfair_2 8 rfl rfl)
theorem dX13_unfair_56 : decode cX13_unfair 56 = .ok (.aload_n 0, 1) := dk_42 (dk_at dksX13_unfair_2 9 rfl rfl)
theorem dX13_unfair_57 : decode cX13_unfair 57 = .ok (.iload_n 3, 1) := dk_29 (dk_at dksX13_unfair_2 10 rfl rfl)
theorem dX13_unfair_58 : decode cX13_unfair 58 = .ok (.invokevirtual 440, 3) := dk_182 1 184 (dk_at dksX13_unfair_2 11 rfl rfl)
theorem dX13_unfair_61 : decode cX13_unfair 61 = .ok (.iload_n 2, 1) := dk_28 (dk_at dksX13_unfair_2 14 rfl rfl)
theorem dX13_unfair_62 : decode cX13_unfair 62 = .ok (.if_icmp .le 9, 3) := dk_164 0 9 (dk_at dksX13_unfair_2 15 rfl rfl)
theorem dX13_unfair_65 : decode cX13_unfair 65 = .ok (.aload_n 0, 1) := dk_42 (dk_at dksX13_unfair_2 18 rfl rfl)
theorem dX13_unfair_66 : decode cX13_unfair 66 = .ok (.iload_n 3, 1) := dk_29 (dk_at dksX13_unfair_2 19 rfl rfl)
theorem dX13_unfair_67 : decode cX13_unfair 67 = .ok (.invokevirtual 440, 3) := dk_182 1 184 (dk_at dksX13_unfair_2 20 rfl rfl)
theorem dX13_unfair_70 : decode cX13_unfair 70 = .ok (.istore_n 2, 1) := dk_61 (dk_at dksX13_unfair_2 23 rfl rfl)
theorem dX13_unfair_71 : decode cX13_unfair 71 = .ok (.iinc 3 1, 3) := dk_132 3 1 (dk_at dksX13_unfair_3 0 rfl rfl)
theorem dX13_unfair_74 : decode cX13_unfair 74 = .ok (.goto (-46), 3) := dk_167 255 210 (dk_at dksX13_unfair_3 3 rfl rfl)
theorem dX13_unfair_77 : decode cX13_unfair 77 = .ok (.iload_n 2, 1) := dk_28 (dk_at dksX13_unfair_3 6 rfl rfl)
theorem dX13_unfair_78 : decode cX13_unfair 78 = .ok (.iload_n 1, 1) := dk_27 (dk_at dksX13_unfair_3 7 rfl rfl)
theorem dX13_unfair_79 : decode cX13_unfair 79 = .ok (.isub, 1) := dk_100 (dk_at dksX13_unfair_3 8 rfl rfl)
theorem dX13_unfair_80 : decode cX13_unfair 80 = .ok (.ireturn, 1) := dk_172 (dk_at dksX13_unfair_3 9 rfl rfl)
abbrev cX13_nearest : ByteArray := prog_21_method_91_code
def yX13_nearest : MethodName := ⟨RX13, "nearest", "(II)I"⟩
def dkwX13_nearest_5 : List UInt8 := [154, 0, 7, 29, 167, 0, 5, 21, 4, 172]
abbrev dktX13_nearest_5 : List UInt8 := dkwX13_nearest_5 ++ []
def dkwX13_nearest_4 : List UInt8 := [21, 4, 161, 0, 6, 167, 0, 10, 21, 5, 62, 21, 6, 54, 4, 132, 5, 1, 167, 255, 171, 28]
abbrev dktX13_nearest_4 : List UInt8 := dkwX13_nearest_4 ++ dktX13_nearest_5
def dkwX13_nearest_3 : List UInt8 := [16, 7, 21, 5, 96, 46, 184, 1, 144, 96, 54, 6, 21, 5, 27, 159, 0, 24, 29, 155, 0, 13, 21, 6]
abbrev dktX13_nearest_3 : List UInt8 := dkwX13_nearest_3 ++ dktX13_nearest_4
def dkwX13_nearest_2 : List UInt8 := [46, 42, 180, 0, 128, 21, 5, 46, 184, 1, 144, 42, 180, 0, 128, 16, 7, 27, 96, 46, 42, 180, 0, 128]
abbrev dktX13_nearest_2 : List UInt8 := dkwX13_nearest_2 ++ dktX13_nearest_3
def dkwX13_nearest_1 : List UInt8 := [54, 4, 3, 54, 5, 21, 5, 42, 180, 0, 49, 42, 180, 1, 2, 46, 162, 0, 77, 42, 180, 0, 128, 27]
abbrev dktX13_nearest_1 : List UInt8 := dkwX13_nearest_1 ++ dktX13_nearest_2
def dkwX13_nearest_0 : List UInt8 := [42, 27, 182, 1, 138, 153, 0, 12, 28, 3, 4, 184, 1, 89, 154, 0, 5, 2, 172, 16, 254, 62, 16, 254]
abbrev dktX13_nearest_0 : List UInt8 := dkwX13_nearest_0 ++ dktX13_nearest_1
theorem dksX13_nearest_0 : cX13_nearest.data.toList.drop 0 = dktX13_nearest_0 := by decide +kernel
theorem dksX13_nearest_1 : cX13_nearest.data.toList.drop 24 = dktX13_nearest_1 := dk_seg dksX13_nearest_0 24 rfl rfl
theorem dksX13_nearest_2 : cX13_nearest.data.toList.drop 48 = dktX13_nearest_2 := dk_seg dksX13_nearest_1 24 rfl rfl
theorem dksX13_nearest_3 : cX13_nearest.data.toList.drop 72 = dktX13_nearest_3 := dk_seg dksX13_nearest_2 24 rfl rfl
theorem dksX13_nearest_4 : cX13_nearest.data.toList.drop 96 = dktX13_nearest_4 := dk_seg dksX13_nearest_3 24 rfl rfl
theorem dksX13_nearest_5 : cX13_nearest.data.toList.drop 118 = dktX13_nearest_5 := dk_seg dksX13_nearest_4 22 rfl rfl
theorem dX13_nearest_0 : decode cX13_nearest 0 = .ok (.aload_n 0, 1) := dk_42 (dk_at dksX13_nearest_0 0 rfl rfl)
theorem dX13_nearest_1 : decode cX13_nearest 1 = .ok (.iload_n 1, 1) := dk_27 (dk_at dksX13_nearest_0 1 rfl rfl)
theorem dX13_nearest_2 : decode cX13_nearest 2 = .ok (.invokevirtual 394, 3) := dk_182 1 138 (dk_at dksX13_nearest_0 2 rfl rfl)
theorem dX13_nearest_5 : decode cX13_nearest 5 = .ok (.ifCond .eq 12, 3) := dk_153 0 12 (dk_at dksX13_nearest_0 5 rfl rfl)
theorem dX13_nearest_8 : decode cX13_nearest 8 = .ok (.iload_n 2, 1) := dk_28 (dk_at dksX13_nearest_0 8 rfl rfl)
theorem dX13_nearest_9 : decode cX13_nearest 9 = .ok (.iconst 0, 1) := dk_3 (dk_at dksX13_nearest_0 9 rfl rfl)
theorem dX13_nearest_10 : decode cX13_nearest 10 = .ok (.iconst 1, 1) := dk_4 (dk_at dksX13_nearest_0 10 rfl rfl)
theorem dX13_nearest_11 : decode cX13_nearest 11 = .ok (.invokestatic 345, 3) := dk_184 1 89 (dk_at dksX13_nearest_0 11 rfl rfl)
theorem dX13_nearest_14 : decode cX13_nearest 14 = .ok (.ifCond .ne 5, 3) := dk_154 0 5 (dk_at dksX13_nearest_0 14 rfl rfl)
theorem dX13_nearest_17 : decode cX13_nearest 17 = .ok (.iconst (-1), 1) := dk_2 (dk_at dksX13_nearest_0 17 rfl rfl)
theorem dX13_nearest_18 : decode cX13_nearest 18 = .ok (.ireturn, 1) := dk_172 (dk_at dksX13_nearest_0 18 rfl rfl)
theorem dX13_nearest_19 : decode cX13_nearest 19 = .ok (.bipush (-2), 2) := dk_16 254 (dk_at dksX13_nearest_0 19 rfl rfl)
theorem dX13_nearest_21 : decode cX13_nearest 21 = .ok (.istore_n 3, 1) := dk_62 (dk_at dksX13_nearest_0 21 rfl rfl)
theorem dX13_nearest_22 : decode cX13_nearest 22 = .ok (.bipush (-2), 2) := dk_16 254 (dk_at dksX13_nearest_0 22 rfl rfl)
theorem dX13_nearest_24 : decode cX13_nearest 24 = .ok (.istore 4, 2) := dk_54 4 (dk_at dksX13_nearest_1 0 rfl rfl)
theorem dX13_nearest_26 : decode cX13_nearest 26 = .ok (.iconst 0, 1) := dk_3 (dk_at dksX13_nearest_1 2 rfl rfl)
theorem dX13_nearest_27 : decode cX13_nearest 27 = .ok (.istore 5, 2) := dk_54 5 (dk_at dksX13_nearest_1 3 rfl rfl)
theorem dX13_nearest_29 : decode cX13_nearest 29 = .ok (.iload 5, 2) := dk_21 5 (dk_at dksX13_nearest_1 5 rfl rfl)
theorem dX13_nearest_31 : decode cX13_nearest 31 = .ok (.aload_n 0, 1) := dk_42 (dk_at dksX13_nearest_1 7 rfl rfl)
theorem dX13_nearest_32 : decode cX13_nearest 32 = .ok (.getfield 49, 3) := dk_180 0 49 (dk_at dksX13_nearest_1 8 rfl rfl)
theorem dX13_nearest_35 : decode cX13_nearest 35 = .ok (.aload_n 0, 1) := dk_42 (dk_at dksX13_nearest_1 11 rfl rfl)
theorem dX13_nearest_36 : decode cX13_nearest 36 = .ok (.getfield 258, 3) := dk_180 1 2 (dk_at dksX13_nearest_1 12 rfl rfl)
theorem dX13_nearest_39 : decode cX13_nearest 39 = .ok (.iaload, 1) := dk_46 (dk_at dksX13_nearest_1 15 rfl rfl)
theorem dX13_nearest_40 : decode cX13_nearest 40 = .ok (.if_icmp .ge 77, 3) := dk_162 0 77 (dk_at dksX13_nearest_1 16 rfl rfl)
theorem dX13_nearest_43 : decode cX13_nearest 43 = .ok (.aload_n 0, 1) := dk_42 (dk_at dksX13_nearest_1 19 rfl rfl)
theorem dX13_nearest_44 : decode cX13_nearest 44 = .ok (.getfield 128, 3) := dk_180 0 128 (dk_at dksX13_nearest_1 20 rfl rfl)
theorem dX13_nearest_47 : decode cX13_nearest 47 = .ok (.iload_n 1, 1) := dk_27 (dk_at dksX13_nearest_1 23 rfl rfl)
theorem dX13_nearest_48 : decode cX13_nearest 48 = .ok (.iaload, 1) := dk_46 (dk_at dksX13_nearest_2 0 rfl rfl)
theorem dX13_nearest_49 : decode cX13_nearest 49 = .ok (.aload_n 0, 1) := dk_42 (dk_at dksX13_nearest_2 1 rfl rfl)
theorem dX13_nearest_50 : decode cX13_nearest 50 = .ok (.getfield 128, 3) := dk_180 0 128 (dk_at dksX13_nearest_2 2 rfl rfl)
theorem dX13_nearest_53 : decode cX13_nearest 53 = .ok (.iload 5, 2) := dk_21 5 (dk_at dksX13_nearest_2 5 rfl rfl)
theorem dX13_nearest_55 : decode cX13_nearest 55 = .ok (.iaload, 1) := dk_46 (dk_at dksX13_nearest_2 7 rfl rfl)
theorem dX13_nearest_56 : decode cX13_nearest 56 = .ok (.invokestatic 400, 3) := dk_184 1 144 (dk_at dksX13_nearest_2 8 rfl rfl)
theorem dX13_nearest_59 : decode cX13_nearest 59 = .ok (.aload_n 0, 1) := dk_42 (dk_at dksX13_nearest_2 11 rfl rfl)
theorem dX13_nearest_60 : decode cX13_nearest 60 = .ok (.getfield 128, 3) := dk_180 0 128 (dk_at dksX13_nearest_2 12 rfl rfl)
theorem dX13_nearest_63 : decode cX13_nearest 63 = .ok (.bipush 7, 2) := dk_16 7 (dk_at dksX13_nearest_2 15 rfl rfl)
theorem dX13_nearest_65 : decode cX13_nearest 65 = .ok (.iload_n 1, 1) := dk_27 (dk_at dksX13_nearest_2 17 rfl rfl)
theorem dX13_nearest_66 : decode cX13_nearest 66 = .ok (.iadd, 1) := dk_96 (dk_at dksX13_nearest_2 18 rfl rfl)
theorem dX13_nearest_67 : decode cX13_nearest 67 = .ok (.iaload, 1) := dk_46 (dk_at dksX13_nearest_2 19 rfl rfl)
theorem dX13_nearest_68 : decode cX13_nearest 68 = .ok (.aload_n 0, 1) := dk_42 (dk_at dksX13_nearest_2 20 rfl rfl)
theorem dX13_nearest_69 : decode cX13_nearest 69 = .ok (.getfield 128, 3) := dk_180 0 128 (dk_at dksX13_nearest_2 21 rfl rfl)
theorem dX13_nearest_72 : decode cX13_nearest 72 = .ok (.bipush 7, 2) := dk_16 7 (dk_at dksX13_nearest_3 0 rfl rfl)
theorem dX13_nearest_74 : decode cX13_nearest 74 = .ok (.iload 5, 2) := dk_21 5 (dk_at dksX13_nearest_3 2 rfl rfl)
theorem dX13_nearest_76 : decode cX13_nearest 76 = .ok (.iadd, 1) := dk_96 (dk_at dksX13_nearest_3 4 rfl rfl)
theorem dX13_nearest_77 : decode cX13_nearest 77 = .ok (.iaload, 1) := dk_46 (dk_at dksX13_nearest_3 5 rfl rfl)
theorem dX13_nearest_78 : decode cX13_nearest 78 = .ok (.invokestatic 400, 3) := dk_184 1 144 (dk_at dksX13_nearest_3 6 rfl rfl)
theorem dX13_nearest_81 : decode cX13_nearest 81 = .ok (.iadd, 1) := dk_96 (dk_at dksX13_nearest_3 9 rfl rfl)
theorem dX13_nearest_82 : decode cX13_nearest 82 = .ok (.istore 6, 2) := dk_54 6 (dk_at dksX13_nearest_3 10 rfl rfl)
theorem dX13_nearest_84 : decode cX13_nearest 84 = .ok (.iload 5, 2) := dk_21 5 (dk_at dksX13_nearest_3 12 rfl rfl)
theorem dX13_nearest_86 : decode cX13_nearest 86 = .ok (.iload_n 1, 1) := dk_27 (dk_at dksX13_nearest_3 14 rfl rfl)
theorem dX13_nearest_87 : decode cX13_nearest 87 = .ok (.if_icmp .eq 24, 3) := dk_159 0 24 (dk_at dksX13_nearest_3 15 rfl rfl)
theorem dX13_nearest_90 : decode cX13_nearest 90 = .ok (.iload_n 3, 1) := dk_29 (dk_at dksX13_nearest_3 18 rfl rfl)
theorem dX13_nearest_91 : decode cX13_nearest 91 = .ok (.ifCond .lt 13, 3) := dk_155 0 13 (dk_at dksX13_nearest_3 19 rfl rfl)
theorem dX13_nearest_94 : decode cX13_nearest 94 = .ok (.iload 6, 2) := dk_21 6 (dk_at dksX13_nearest_3 22 rfl rfl)
theorem dX13_nearest_96 : decode cX13_nearest 96 = .ok (.iload 4, 2) := dk_21 4 (dk_at dksX13_nearest_4 0 rfl rfl)
theorem dX13_nearest_98 : decode cX13_nearest 98 = .ok (.if_icmp .lt 6, 3) := dk_161 0 6 (dk_at dksX13_nearest_4 2 rfl rfl)
theorem dX13_nearest_101 : decode cX13_nearest 101 = .ok (.goto 10, 3) := dk_167 0 10 (dk_at dksX13_nearest_4 5 rfl rfl)
theorem dX13_nearest_104 : decode cX13_nearest 104 = .ok (.iload 5, 2) := dk_21 5 (dk_at dksX13_nearest_4 8 rfl rfl)
theorem dX13_nearest_106 : decode cX13_nearest 106 = .ok (.istore_n 3, 1) := dk_62 (dk_at dksX13_nearest_4 10 rfl rfl)
theorem dX13_nearest_107 : decode cX13_nearest 107 = .ok (.iload 6, 2) := dk_21 6 (dk_at dksX13_nearest_4 11 rfl rfl)
theorem dX13_nearest_109 : decode cX13_nearest 109 = .ok (.istore 4, 2) := dk_54 4 (dk_at dksX13_nearest_4 13 rfl rfl)
theorem dX13_nearest_111 : decode cX13_nearest 111 = .ok (.iinc 5 1, 3) := dk_132 5 1 (dk_at dksX13_nearest_4 15 rfl rfl)
theorem dX13_nearest_114 : decode cX13_nearest 114 = .ok (.goto (-85), 3) := dk_167 255 171 (dk_at dksX13_nearest_4 18 rfl rfl)
theorem dX13_nearest_117 : decode cX13_nearest 117 = .ok (.iload_n 2, 1) := dk_28 (dk_at dksX13_nearest_4 21 rfl rfl)
theorem dX13_nearest_118 : decode cX13_nearest 118 = .ok (.ifCond .ne 7, 3) := dk_154 0 7 (dk_at dksX13_nearest_5 0 rfl rfl)
theorem dX13_nearest_121 : decode cX13_nearest 121 = .ok (.iload_n 3, 1) := dk_29 (dk_at dksX13_nearest_5 3 rfl rfl)
theorem dX13_nearest_122 : decode cX13_nearest 122 = .ok (.goto 5, 3) := dk_167 0 5 (dk_at dksX13_nearest_5 4 rfl rfl)
theorem dX13_nearest_125 : decode cX13_nearest 125 = .ok (.iload 4, 2) := dk_21 4 (dk_at dksX13_nearest_5 7 rfl rfl)
theorem dX13_nearest_127 : decode cX13_nearest 127 = .ok (.ireturn, 1) := dk_172 (dk_at dksX13_nearest_5 9 rfl rfl)
abbrev cX13_street : ByteArray := prog_21_method_96_code
def yX13_street : MethodName := ⟨RX13, "street", "(IIII)I"⟩
def dkwX13_street_2 : List UInt8 := [21, 4, 182, 1, 190, 172]
abbrev dktX13_street_2 : List UInt8 := dkwX13_street_2 ++ []
def dkwX13_street_1 : List UInt8 := [29, 184, 1, 122, 54, 5, 21, 4, 2, 160, 0, 12, 42, 21, 5, 182, 1, 187, 167, 0, 11, 42, 21, 5]
abbrev dktX13_street_1 : List UInt8 := dkwX13_street_1 ++ dktX13_street_2
def dkwX13_street_0 : List UInt8 := [42, 27, 28, 29, 182, 1, 193, 153, 0, 9, 21, 4, 2, 162, 0, 5, 2, 172, 42, 182, 1, 141, 27, 28]
abbrev dktX13_street_0 : List UInt8 := dkwX13_street_0 ++ dktX13_street_1
theorem dksX13_street_0 : cX13_street.data.toList.drop 0 = dktX13_street_0 := by decide +kernel
theorem dksX13_street_1 : cX13_street.data.toList.drop 24 = dktX13_street_1 := dk_seg dksX13_street_0 24 rfl rfl
theorem dksX13_street_2 : cX13_street.data.toList.drop 48 = dktX13_street_2 := dk_seg dksX13_street_1 24 rfl rfl
theorem dX13_street_0 : decode cX13_street 0 = .ok (.aload_n 0, 1) := dk_42 (dk_at dksX13_street_0 0 rfl rfl)
theorem dX13_street_1 : decode cX13_street 1 = .ok (.iload_n 1, 1) := dk_27 (dk_at dksX13_street_0 1 rfl rfl)
theorem dX13_street_2 : decode cX13_street 2 = .ok (.iload_n 2, 1) := dk_28 (dk_at dksX13_street_0 2 rfl rfl)
theorem dX13_street_3 : decode cX13_street 3 = .ok (.iload_n 3, 1) := dk_29 (dk_at dksX13_street_0 3 rfl rfl)
theorem dX13_street_4 : decode cX13_street 4 = .ok (.invokevirtual 449, 3) := dk_182 1 193 (dk_at dksX13_street_0 4 rfl rfl)
theorem dX13_street_7 : decode cX13_street 7 = .ok (.ifCond .eq 9, 3) := dk_153 0 9 (dk_at dksX13_street_0 7 rfl rfl)
theorem dX13_street_10 : decode cX13_street 10 = .ok (.iload 4, 2) := dk_21 4 (dk_at dksX13_street_0 10 rfl rfl)
theorem dX13_street_12 : decode cX13_street 12 = .ok (.iconst (-1), 1) := dk_2 (dk_at dksX13_street_0 12 rfl rfl)
theorem dX13_street_13 : decode cX13_street 13 = .ok (.if_icmp .ge 5, 3) := dk_162 0 5 (dk_at dksX13_street_0 13 rfl rfl)
theorem dX13_street_16 : decode cX13_street 16 = .ok (.iconst (-1), 1) := dk_2 (dk_at dksX13_street_0 16 rfl rfl)
theorem dX13_street_17 : decode cX13_street 17 = .ok (.ireturn, 1) := dk_172 (dk_at dksX13_street_0 17 rfl rfl)
theorem dX13_street_18 : decode cX13_street 18 = .ok (.aload_n 0, 1) := dk_42 (dk_at dksX13_street_0 18 rfl rfl)
theorem dX13_street_19 : decode cX13_street 19 = .ok (.invokevirtual 397, 3) := dk_182 1 141 (dk_at dksX13_street_0 19 rfl rfl)
theorem dX13_street_22 : decode cX13_street 22 = .ok (.iload_n 1, 1) := dk_27 (dk_at dksX13_street_0 22 rfl rfl)
theorem dX13_street_23 : decode cX13_street 23 = .ok (.iload_n 2, 1) := dk_28 (dk_at dksX13_street_0 23 rfl rfl)
theorem dX13_street_24 : decode cX13_street 24 = .ok (.iload_n 3, 1) := dk_29 (dk_at dksX13_street_1 0 rfl rfl)
theorem dX13_street_25 : decode cX13_street 25 = .ok (.invokestatic 378, 3) := dk_184 1 122 (dk_at dksX13_street_1 1 rfl rfl)
theorem dX13_street_28 : decode cX13_street 28 = .ok (.istore 5, 2) := dk_54 5 (dk_at dksX13_street_1 4 rfl rfl)
theorem dX13_street_30 : decode cX13_street 30 = .ok (.iload 4, 2) := dk_21 4 (dk_at dksX13_street_1 6 rfl rfl)
theorem dX13_street_32 : decode cX13_street 32 = .ok (.iconst (-1), 1) := dk_2 (dk_at dksX13_street_1 8 rfl rfl)
theorem dX13_street_33 : decode cX13_street 33 = .ok (.if_icmp .ne 12, 3) := dk_160 0 12 (dk_at dksX13_street_1 9 rfl rfl)
theorem dX13_street_36 : decode cX13_street 36 = .ok (.aload_n 0, 1) := dk_42 (dk_at dksX13_street_1 12 rfl rfl)
theorem dX13_street_37 : decode cX13_street 37 = .ok (.iload 5, 2) := dk_21 5 (dk_at dksX13_street_1 13 rfl rfl)
theorem dX13_street_39 : decode cX13_street 39 = .ok (.invokevirtual 443, 3) := dk_182 1 187 (dk_at dksX13_street_1 15 rfl rfl)
theorem dX13_street_42 : decode cX13_street 42 = .ok (.goto 11, 3) := dk_167 0 11 (dk_at dksX13_street_1 18 rfl rfl)
theorem dX13_street_45 : decode cX13_street 45 = .ok (.aload_n 0, 1) := dk_42 (dk_at dksX13_street_1 21 rfl rfl)
theorem dX13_street_46 : decode cX13_street 46 = .ok (.iload 5, 2) := dk_21 5 (dk_at dksX13_street_1 22 rfl rfl)
theorem dX13_street_48 : decode cX13_street 48 = .ok (.iload 4, 2) := dk_21 4 (dk_at dksX13_street_2 0 rfl rfl)
theorem dX13_street_50 : decode cX13_street 50 = .ok (.invokevirtual 446, 3) := dk_182 1 190 (dk_at dksX13_street_2 2 rfl rfl)
theorem dX13_street_53 : decode cX13_street 53 = .ok (.ireturn, 1) := dk_172 (dk_at dksX13_street_2 5 rfl rfl)
abbrev cX13_isStreet : ByteArray := prog_21_method_92_code
def yX13_isStreet : MethodName := ⟨RX13, "isStreet", "(III)Z"⟩
def dkwX13_isStreet_1 : List UInt8 := [96, 28, 29, 184, 1, 115, 96, 182, 1, 118, 153, 0, 7, 4, 167, 0, 4, 3, 172]
abbrev dktX13_isStreet_1 : List UInt8 := dkwX13_isStreet_1 ++ []
def dkwX13_isStreet_0 : List UInt8 := [29, 4, 7, 184, 1, 89, 153, 0, 35, 42, 27, 28, 182, 1, 118, 153, 0, 26, 42, 27, 29, 184, 1, 112]
abbrev dktX13_isStreet_0 : List UInt8 := dkwX13_isStreet_0 ++ dktX13_isStreet_1
theorem dksX13_isStreet_0 : cX13_isStreet.data.toList.drop 0 = dktX13_isStreet_0 := by decide +kernel
theorem dksX13_isStreet_1 : cX13_isStreet.data.toList.drop 24 = dktX13_isStreet_1 := dk_seg dksX13_isStreet_0 24 rfl rfl
theorem dX13_isStreet_0 : decode cX13_isStreet 0 = .ok (.iload_n 3, 1) := dk_29 (dk_at dksX13_isStreet_0 0 rfl rfl)
theorem dX13_isStreet_1 : decode cX13_isStreet 1 = .ok (.iconst 1, 1) := dk_4 (dk_at dksX13_isStreet_0 1 rfl rfl)
theorem dX13_isStreet_2 : decode cX13_isStreet 2 = .ok (.iconst 4, 1) := dk_7 (dk_at dksX13_isStreet_0 2 rfl rfl)
theorem dX13_isStreet_3 : decode cX13_isStreet 3 = .ok (.invokestatic 345, 3) := dk_184 1 89 (dk_at dksX13_isStreet_0 3 rfl rfl)
theorem dX13_isStreet_6 : decode cX13_isStreet 6 = .ok (.ifCond .eq 35, 3) := dk_153 0 35 (dk_at dksX13_isStreet_0 6 rfl rfl)
theorem dX13_isStreet_9 : decode cX13_isStreet 9 = .ok (.aload_n 0, 1) := dk_42 (dk_at dksX13_isStreet_0 9 rfl rfl)
theorem dX13_isStreet_10 : decode cX13_isStreet 10 = .ok (.iload_n 1, 1) := dk_27 (dk_at dksX13_isStreet_0 10 rfl rfl)
theorem dX13_isStreet_11 : decode cX13_isStreet 11 = .ok (.iload_n 2, 1) := dk_28 (dk_at dksX13_isStreet_0 11 rfl rfl)
theorem dX13_isStreet_12 : decode cX13_isStreet 12 = .ok (.invokevirtual 374, 3) := dk_182 1 118 (dk_at dksX13_isStreet_0 12 rfl rfl)
theorem dX13_isStreet_15 : decode cX13_isStreet 15 = .ok (.ifCond .eq 26, 3) := dk_153 0 26 (dk_at dksX13_isStreet_0 15 rfl rfl)
theorem dX13_isStreet_18 : decode cX13_isStreet 18 = .ok (.aload_n 0, 1) := dk_42 (dk_at dksX13_isStreet_0 18 rfl rfl)
theorem dX13_isStreet_19 : decode cX13_isStreet 19 = .ok (.iload_n 1, 1) := dk_27 (dk_at dksX13_isStreet_0 19 rfl rfl)
theorem dX13_isStreet_20 : decode cX13_isStreet 20 = .ok (.iload_n 3, 1) := dk_29 (dk_at dksX13_isStreet_0 20 rfl rfl)
theorem dX13_isStreet_21 : decode cX13_isStreet 21 = .ok (.invokestatic 368, 3) := dk_184 1 112 (dk_at dksX13_isStreet_0 21 rfl rfl)
theorem dX13_isStreet_24 : decode cX13_isStreet 24 = .ok (.iadd, 1) := dk_96 (dk_at dksX13_isStreet_1 0 rfl rfl)
theorem dX13_isStreet_25 : decode cX13_isStreet 25 = .ok (.iload_n 2, 1) := dk_28 (dk_at dksX13_isStreet_1 1 rfl rfl)
theorem dX13_isStreet_26 : decode cX13_isStreet 26 = .ok (.iload_n 3, 1) := dk_29 (dk_at dksX13_isStreet_1 2 rfl rfl)
theorem dX13_isStreet_27 : decode cX13_isStreet 27 = .ok (.invokestatic 371, 3) := dk_184 1 115 (dk_at dksX13_isStreet_1 3 rfl rfl)
theorem dX13_isStreet_30 : decode cX13_isStreet 30 = .ok (.iadd, 1) := dk_96 (dk_at dksX13_isStreet_1 6 rfl rfl)
theorem dX13_isStreet_31 : decode cX13_isStreet 31 = .ok (.invokevirtual 374, 3) := dk_182 1 118 (dk_at dksX13_isStreet_1 7 rfl rfl)
theorem dX13_isStreet_34 : decode cX13_isStreet 34 = .ok (.ifCond .eq 7, 3) := dk_153 0 7 (dk_at dksX13_isStreet_1 10 rfl rfl)
theorem dX13_isStreet_37 : decode cX13_isStreet 37 = .ok (.iconst 1, 1) := dk_4 (dk_at dksX13_isStreet_1 13 rfl rfl)
theorem dX13_isStreet_38 : decode cX13_isStreet 38 = .ok (.goto 4, 3) := dk_167 0 4 (dk_at dksX13_isStreet_1 14 rfl rfl)
theorem dX13_isStreet_41 : decode cX13_isStreet 41 = .ok (.iconst 0, 1) := dk_3 (dk_at dksX13_isStreet_1 17 rfl rfl)
theorem dX13_isStreet_42 : decode cX13_isStreet 42 = .ok (.ireturn, 1) := dk_172 (dk_at dksX13_isStreet_1 18 rfl rfl)
abbrev cX13_manyOn : ByteArray := prog_21_method_94_code
def yX13_manyOn : MethodName := ⟨RX13, "manyOn", "(I)I"⟩
def dkwX13_manyOn_0 : List UInt8 := [42, 27, 2, 4, 182, 1, 125, 172]
abbrev dktX13_manyOn_0 : List UInt8 := dkwX13_manyOn_0 ++ []
theorem dksX13_manyOn_0 : cX13_manyOn.data.toList.drop 0 = dktX13_manyOn_0 := by decide +kernel
theorem dX13_manyOn_0 : decode cX13_manyOn 0 = .ok (.aload_n 0, 1) := dk_42 (dk_at dksX13_manyOn_0 0 rfl rfl)
theorem dX13_manyOn_1 : decode cX13_manyOn 1 = .ok (.iload_n 1, 1) := dk_27 (dk_at dksX13_manyOn_0 1 rfl rfl)
theorem dX13_manyOn_2 : decode cX13_manyOn 2 = .ok (.iconst (-1), 1) := dk_2 (dk_at dksX13_manyOn_0 2 rfl rfl)
theorem dX13_manyOn_3 : decode cX13_manyOn 3 = .ok (.iconst 1, 1) := dk_4 (dk_at dksX13_manyOn_0 3 rfl rfl)
theorem dX13_manyOn_4 : decode cX13_manyOn 4 = .ok (.invokevirtual 381, 3) := dk_182 1 125 (dk_at dksX13_manyOn_0 4 rfl rfl)
theorem dX13_manyOn_7 : decode cX13_manyOn 7 = .ok (.ireturn, 1) := dk_172 (dk_at dksX13_manyOn_0 7 rfl rfl)
abbrev cX13_whoseAt : ByteArray := prog_21_method_93_code
def yX13_whoseAt : MethodName := ⟨RX13, "whoseAt", "(II)I"⟩
def dkwX13_whoseAt_3 : List UInt8 := [182, 1, 125, 28, 160, 0, 5, 29, 172, 132, 4, 1, 167, 255, 192, 132, 3, 1, 167, 255, 170, 2, 172]
abbrev dktX13_whoseAt_3 : List UInt8 := dkwX13_whoseAt_3 ++ []
def dkwX13_whoseAt_2 : List UInt8 := [21, 5, 96, 46, 27, 160, 0, 26, 42, 27, 42, 180, 0, 131, 17, 1, 194, 21, 5, 96, 46, 3]
abbrev dktX13_whoseAt_2 : List UInt8 := dkwX13_whoseAt_2 ++ dktX13_whoseAt_3
def dkwX13_whoseAt_1 : List UInt8 := [16, 14, 29, 96, 46, 162, 0, 56, 16, 60, 29, 104, 21, 4, 96, 54, 5, 42, 180, 0, 131, 17, 3, 102]
abbrev dktX13_whoseAt_1 : List UInt8 := dkwX13_whoseAt_1 ++ dktX13_whoseAt_2
def dkwX13_whoseAt_0 : List UInt8 := [3, 62, 29, 42, 180, 0, 49, 42, 180, 1, 2, 46, 162, 0, 79, 3, 54, 4, 21, 4, 42, 180, 0, 131]
abbrev dktX13_whoseAt_0 : List UInt8 := dkwX13_whoseAt_0 ++ dktX13_whoseAt_1
theorem dksX13_whoseAt_0 : cX13_whoseAt.data.toList.drop 0 = dktX13_whoseAt_0 := by decide +kernel
theorem dksX13_whoseAt_1 : cX13_whoseAt.data.toList.drop 24 = dktX13_whoseAt_1 := dk_seg dksX13_whoseAt_0 24 rfl rfl
theorem dksX13_whoseAt_2 : cX13_whoseAt.data.toList.drop 48 = dktX13_whoseAt_2 := dk_seg dksX13_whoseAt_1 24 rfl rfl
theorem dksX13_whoseAt_3 : cX13_whoseAt.data.toList.drop 70 = dktX13_whoseAt_3 := dk_seg dksX13_whoseAt_2 22 rfl rfl
theorem dX13_whoseAt_0 : decode cX13_whoseAt 0 = .ok (.iconst 0, 1) := dk_3 (dk_at dksX13_whoseAt_0 0 rfl rfl)
theorem dX13_whoseAt_1 : decode cX13_whoseAt 1 = .ok (.istore_n 3, 1) := dk_62 (dk_at dksX13_whoseAt_0 1 rfl rfl)
theorem dX13_whoseAt_2 : decode cX13_whoseAt 2 = .ok (.iload_n 3, 1) := dk_29 (dk_at dksX13_whoseAt_0 2 rfl rfl)
theorem dX13_whoseAt_3 : decode cX13_whoseAt 3 = .ok (.aload_n 0, 1) := dk_42 (dk_at dksX13_whoseAt_0 3 rfl rfl)
theorem dX13_whoseAt_4 : decode cX13_whoseAt 4 = .ok (.getfield 49, 3) := dk_180 0 49 (dk_at dksX13_whoseAt_0 4 rfl rfl)
theorem dX13_whoseAt_7 : decode cX13_whoseAt 7 = .ok (.aload_n 0, 1) := dk_42 (dk_at dksX13_whoseAt_0 7 rfl rfl)
theorem dX13_whoseAt_8 : decode cX13_whoseAt 8 = .ok (.getfield 258, 3) := dk_180 1 2 (dk_at dksX13_whoseAt_0 8 rfl rfl)
theorem dX13_whoseAt_11 : decode cX13_whoseAt 11 = .ok (.iaload, 1) := dk_46 (dk_at dksX13_whoseAt_0 11 rfl rfl)
theorem dX13_whoseAt_12 : decode cX13_whoseAt 12 = .ok (.if_icmp .ge 79, 3) := dk_162 0 79 (dk_at dksX13_whoseAt_0 12 rfl rfl)
theorem dX13_whoseAt_15 : decode cX13_whoseAt 15 = .ok (.iconst 0, 1) := dk_3 (dk_at dksX13_whoseAt_0 15 rfl rfl)
theorem dX13_whoseAt_16 : decode cX13_whoseAt 16 = .ok (.istore 4, 2) := dk_54 4 (dk_at dksX13_whoseAt_0 16 rfl rfl)
theorem dX13_whoseAt_18 : decode cX13_whoseAt 18 = .ok (.iload 4, 2) := dk_21 4 (dk_at dksX13_whoseAt_0 18 rfl rfl)
theorem dX13_whoseAt_20 : decode cX13_whoseAt 20 = .ok (.aload_n 0, 1) := dk_42 (dk_at dksX13_whoseAt_0 20 rfl rfl)
theorem dX13_whoseAt_21 : decode cX13_whoseAt 21 = .ok (.getfield 131, 3) := dk_180 0 131 (dk_at dksX13_whoseAt_0 21 rfl rfl)
theorem dX13_whoseAt_24 : decode cX13_whoseAt 24 = .ok (.bipush 14, 2) := dk_16 14 (dk_at dksX13_whoseAt_1 0 rfl rfl)
theorem dX13_whoseAt_26 : decode cX13_whoseAt 26 = .ok (.iload_n 3, 1) := dk_29 (dk_at dksX13_whoseAt_1 2 rfl rfl)
theorem dX13_whoseAt_27 : decode cX13_whoseAt 27 = .ok (.iadd, 1) := dk_96 (dk_at dksX13_whoseAt_1 3 rfl rfl)
theorem dX13_whoseAt_28 : decode cX13_whoseAt 28 = .ok (.iaload, 1) := dk_46 (dk_at dksX13_whoseAt_1 4 rfl rfl)
theorem dX13_whoseAt_29 : decode cX13_whoseAt 29 = .ok (.if_icmp .ge 56, 3) := dk_162 0 56 (dk_at dksX13_whoseAt_1 5 rfl rfl)
theorem dX13_whoseAt_32 : decode cX13_whoseAt 32 = .ok (.bipush 60, 2) := dk_16 60 (dk_at dksX13_whoseAt_1 8 rfl rfl)
theorem dX13_whoseAt_34 : decode cX13_whoseAt 34 = .ok (.iload_n 3, 1) := dk_29 (dk_at dksX13_whoseAt_1 10 rfl rfl)
theorem dX13_whoseAt_35 : decode cX13_whoseAt 35 = .ok (.imul, 1) := dk_104 (dk_at dksX13_whoseAt_1 11 rfl rfl)
theorem dX13_whoseAt_36 : decode cX13_whoseAt 36 = .ok (.iload 4, 2) := dk_21 4 (dk_at dksX13_whoseAt_1 12 rfl rfl)
theorem dX13_whoseAt_38 : decode cX13_whoseAt 38 = .ok (.iadd, 1) := dk_96 (dk_at dksX13_whoseAt_1 14 rfl rfl)
theorem dX13_whoseAt_39 : decode cX13_whoseAt 39 = .ok (.istore 5, 2) := dk_54 5 (dk_at dksX13_whoseAt_1 15 rfl rfl)
theorem dX13_whoseAt_41 : decode cX13_whoseAt 41 = .ok (.aload_n 0, 1) := dk_42 (dk_at dksX13_whoseAt_1 17 rfl rfl)
theorem dX13_whoseAt_42 : decode cX13_whoseAt 42 = .ok (.getfield 131, 3) := dk_180 0 131 (dk_at dksX13_whoseAt_1 18 rfl rfl)
theorem dX13_whoseAt_45 : decode cX13_whoseAt 45 = .ok (.sipush 870, 3) := dk_17 3 102 (dk_at dksX13_whoseAt_1 21 rfl rfl)
theorem dX13_whoseAt_48 : decode cX13_whoseAt 48 = .ok (.iload 5, 2) := dk_21 5 (dk_at dksX13_whoseAt_2 0 rfl rfl)
theorem dX13_whoseAt_50 : decode cX13_whoseAt 50 = .ok (.iadd, 1) := dk_96 (dk_at dksX13_whoseAt_2 2 rfl rfl)
theorem dX13_whoseAt_51 : decode cX13_whoseAt 51 = .ok (.iaload, 1) := dk_46 (dk_at dksX13_whoseAt_2 3 rfl rfl)
theorem dX13_whoseAt_52 : decode cX13_whoseAt 52 = .ok (.iload_n 1, 1) := dk_27 (dk_at dksX13_whoseAt_2 4 rfl rfl)
theorem dX13_whoseAt_53 : decode cX13_whoseAt 53 = .ok (.if_icmp .ne 26, 3) := dk_160 0 26 (dk_at dksX13_whoseAt_2 5 rfl rfl)
theorem dX13_whoseAt_56 : decode cX13_whoseAt 56 = .ok (.aload_n 0, 1) := dk_42 (dk_at dksX13_whoseAt_2 8 rfl rfl)
theorem dX13_whoseAt_57 : decode cX13_whoseAt 57 = .ok (.iload_n 1, 1) := dk_27 (dk_at dksX13_whoseAt_2 9 rfl rfl)
theorem dX13_whoseAt_58 : decode cX13_whoseAt 58 = .ok (.aload_n 0, 1) := dk_42 (dk_at dksX13_whoseAt_2 10 rfl rfl)
theorem dX13_whoseAt_59 : decode cX13_whoseAt 59 = .ok (.getfield 131, 3) := dk_180 0 131 (dk_at dksX13_whoseAt_2 11 rfl rfl)
theorem dX13_whoseAt_62 : decode cX13_whoseAt 62 = .ok (.sipush 450, 3) := dk_17 1 194 (dk_at dksX13_whoseAt_2 14 rfl rfl)
theorem dX13_whoseAt_65 : decode cX13_whoseAt 65 = .ok (.iload 5, 2) := dk_21 5 (dk_at dksX13_whoseAt_2 17 rfl rfl)
theorem dX13_whoseAt_67 : decode cX13_whoseAt 67 = .ok (.iadd, 1) := dk_96 (dk_at dksX13_whoseAt_2 19 rfl rfl)
theorem dX13_whoseAt_68 : decode cX13_whoseAt 68 = .ok (.iaload, 1) := dk_46 (dk_at dksX13_whoseAt_2 20 rfl rfl)
theorem dX13_whoseAt_69 : decode cX13_whoseAt 69 = .ok (.iconst 0, 1) := dk_3 (dk_at dksX13_whoseAt_2 21 rfl rfl)
theorem dX13_whoseAt_70 : decode cX13_whoseAt 70 = .ok (.invokevirtual 381, 3) := dk_182 1 125 (dk_at dksX13_whoseAt_3 0 rfl rfl)
theorem dX13_whoseAt_73 : decode cX13_whoseAt 73 = .ok (.iload_n 2, 1) := dk_28 (dk_at dksX13_whoseAt_3 3 rfl rfl)
theorem dX13_whoseAt_74 : decode cX13_whoseAt 74 = .ok (.if_icmp .ne 5, 3) := dk_160 0 5 (dk_at dksX13_whoseAt_3 4 rfl rfl)
theorem dX13_whoseAt_77 : decode cX13_whoseAt 77 = .ok (.iload_n 3, 1) := dk_29 (dk_at dksX13_whoseAt_3 7 rfl rfl)
theorem dX13_whoseAt_78 : decode cX13_whoseAt 78 = .ok (.ireturn, 1) := dk_172 (dk_at dksX13_whoseAt_3 8 rfl rfl)
theorem dX13_whoseAt_79 : decode cX13_whoseAt 79 = .ok (.iinc 4 1, 3) := dk_132 4 1 (dk_at dksX13_whoseAt_3 9 rfl rfl)
theorem dX13_whoseAt_82 : decode cX13_whoseAt 82 = .ok (.goto (-64), 3) := dk_167 255 192 (dk_at dksX13_whoseAt_3 12 rfl rfl)
theorem dX13_whoseAt_85 : decode cX13_whoseAt 85 = .ok (.iinc 3 1, 3) := dk_132 3 1 (dk_at dksX13_whoseAt_3 15 rfl rfl)
theorem dX13_whoseAt_88 : decode cX13_whoseAt 88 = .ok (.goto (-86), 3) := dk_167 255 170 (dk_at dksX13_whoseAt_3 18 rfl rfl)
theorem dX13_whoseAt_91 : decode cX13_whoseAt 91 = .ok (.iconst (-1), 1) := dk_2 (dk_at dksX13_whoseAt_3 21 rfl rfl)
theorem dX13_whoseAt_92 : decode cX13_whoseAt 92 = .ok (.ireturn, 1) := dk_172 (dk_at dksX13_whoseAt_3 22 rfl rfl)
abbrev cX13_shows : ByteArray := prog_21_method_97_code
def yX13_shows : MethodName := ⟨RX13, "shows", "(III)I"⟩
def dkwX13_shows_2 : List UInt8 := [180, 1, 2, 104, 21, 4, 96, 46, 172]
abbrev dktX13_shows_2 : List UInt8 := dkwX13_shows_2 ++ []
def dkwX13_shows_1 : List UInt8 := [182, 1, 196, 54, 4, 21, 4, 156, 0, 8, 16, 254, 167, 0, 18, 42, 180, 0, 58, 16, 7, 42]
abbrev dktX13_shows_1 : List UInt8 := dkwX13_shows_1 ++ dktX13_shows_2
def dkwX13_shows_0 : List UInt8 := [42, 27, 28, 29, 182, 1, 193, 154, 0, 5, 2, 172, 42, 182, 1, 141, 42, 27, 28, 29, 184, 1, 122]
abbrev dktX13_shows_0 : List UInt8 := dkwX13_shows_0 ++ dktX13_shows_1
theorem dksX13_shows_0 : cX13_shows.data.toList.drop 0 = dktX13_shows_0 := by decide +kernel
theorem dksX13_shows_1 : cX13_shows.data.toList.drop 23 = dktX13_shows_1 := dk_seg dksX13_shows_0 23 rfl rfl
theorem dksX13_shows_2 : cX13_shows.data.toList.drop 45 = dktX13_shows_2 := dk_seg dksX13_shows_1 22 rfl rfl
theorem dX13_shows_0 : decode cX13_shows 0 = .ok (.aload_n 0, 1) := dk_42 (dk_at dksX13_shows_0 0 rfl rfl)
theorem dX13_shows_1 : decode cX13_shows 1 = .ok (.iload_n 1, 1) := dk_27 (dk_at dksX13_shows_0 1 rfl rfl)
theorem dX13_shows_2 : decode cX13_shows 2 = .ok (.iload_n 2, 1) := dk_28 (dk_at dksX13_shows_0 2 rfl rfl)
theorem dX13_shows_3 : decode cX13_shows 3 = .ok (.iload_n 3, 1) := dk_29 (dk_at dksX13_shows_0 3 rfl rfl)
theorem dX13_shows_4 : decode cX13_shows 4 = .ok (.invokevirtual 449, 3) := dk_182 1 193 (dk_at dksX13_shows_0 4 rfl rfl)
theorem dX13_shows_7 : decode cX13_shows 7 = .ok (.ifCond .ne 5, 3) := dk_154 0 5 (dk_at dksX13_shows_0 7 rfl rfl)
theorem dX13_shows_10 : decode cX13_shows 10 = .ok (.iconst (-1), 1) := dk_2 (dk_at dksX13_shows_0 10 rfl rfl)
theorem dX13_shows_11 : decode cX13_shows 11 = .ok (.ireturn, 1) := dk_172 (dk_at dksX13_shows_0 11 rfl rfl)
theorem dX13_shows_12 : decode cX13_shows 12 = .ok (.aload_n 0, 1) := dk_42 (dk_at dksX13_shows_0 12 rfl rfl)
theorem dX13_shows_13 : decode cX13_shows 13 = .ok (.invokevirtual 397, 3) := dk_182 1 141 (dk_at dksX13_shows_0 13 rfl rfl)
theorem dX13_shows_16 : decode cX13_shows 16 = .ok (.aload_n 0, 1) := dk_42 (dk_at dksX13_shows_0 16 rfl rfl)
theorem dX13_shows_17 : decode cX13_shows 17 = .ok (.iload_n 1, 1) := dk_27 (dk_at dksX13_shows_0 17 rfl rfl)
theorem dX13_shows_18 : decode cX13_shows 18 = .ok (.iload_n 2, 1) := dk_28 (dk_at dksX13_shows_0 18 rfl rfl)
theorem dX13_shows_19 : decode cX13_shows 19 = .ok (.iload_n 3, 1) := dk_29 (dk_at dksX13_shows_0 19 rfl rfl)
theorem dX13_shows_20 : decode cX13_shows 20 = .ok (.invokestatic 378, 3) := dk_184 1 122 (dk_at dksX13_shows_0 20 rfl rfl)
theorem dX13_shows_23 : decode cX13_shows 23 = .ok (.invokevirtual 452, 3) := dk_182 1 196 (dk_at dksX13_shows_1 0 rfl rfl)
theorem dX13_shows_26 : decode cX13_shows 26 = .ok (.istore 4, 2) := dk_54 4 (dk_at dksX13_shows_1 3 rfl rfl)
theorem dX13_shows_28 : decode cX13_shows 28 = .ok (.iload 4, 2) := dk_21 4 (dk_at dksX13_shows_1 5 rfl rfl)
theorem dX13_shows_30 : decode cX13_shows 30 = .ok (.ifCond .ge 8, 3) := dk_156 0 8 (dk_at dksX13_shows_1 7 rfl rfl)
theorem dX13_shows_33 : decode cX13_shows 33 = .ok (.bipush (-2), 2) := dk_16 254 (dk_at dksX13_shows_1 10 rfl rfl)
theorem dX13_shows_35 : decode cX13_shows 35 = .ok (.goto 18, 3) := dk_167 0 18 (dk_at dksX13_shows_1 12 rfl rfl)
theorem dX13_shows_38 : decode cX13_shows 38 = .ok (.aload_n 0, 1) := dk_42 (dk_at dksX13_shows_1 15 rfl rfl)
theorem dX13_shows_39 : decode cX13_shows 39 = .ok (.getfield 58, 3) := dk_180 0 58 (dk_at dksX13_shows_1 16 rfl rfl)
theorem dX13_shows_42 : decode cX13_shows 42 = .ok (.bipush 7, 2) := dk_16 7 (dk_at dksX13_shows_1 19 rfl rfl)
theorem dX13_shows_44 : decode cX13_shows 44 = .ok (.aload_n 0, 1) := dk_42 (dk_at dksX13_shows_1 21 rfl rfl)
theorem dX13_shows_45 : decode cX13_shows 45 = .ok (.getfield 258, 3) := dk_180 1 2 (dk_at dksX13_shows_2 0 rfl rfl)
theorem dX13_shows_48 : decode cX13_shows 48 = .ok (.imul, 1) := dk_104 (dk_at dksX13_shows_2 3 rfl rfl)
theorem dX13_shows_49 : decode cX13_shows 49 = .ok (.iload 4, 2) := dk_21 4 (dk_at dksX13_shows_2 4 rfl rfl)
theorem dX13_shows_51 : decode cX13_shows 51 = .ok (.iadd, 1) := dk_96 (dk_at dksX13_shows_2 6 rfl rfl)
theorem dX13_shows_52 : decode cX13_shows 52 = .ok (.iaload, 1) := dk_46 (dk_at dksX13_shows_2 7 rfl rfl)
theorem dX13_shows_53 : decode cX13_shows 53 = .ok (.ireturn, 1) := dk_172 (dk_at dksX13_shows_2 8 rfl rfl)
abbrev cX13_topOf : ByteArray := prog_21_method_95_code
def yX13_topOf : MethodName := ⟨RX13, "topOf", "(I)I"⟩
def dkwX13_topOf_0 : List UInt8 := [42, 27, 42, 27, 182, 1, 187, 4, 100, 182, 1, 190, 172]
abbrev dktX13_topOf_0 : List UInt8 := dkwX13_topOf_0 ++ []
theorem dksX13_topOf_0 : cX13_topOf.data.toList.drop 0 = dktX13_topOf_0 := by decide +kernel
theorem dX13_topOf_0 : decode cX13_topOf 0 = .ok (.aload_n 0, 1) := dk_42 (dk_at dksX13_topOf_0 0 rfl rfl)
theorem dX13_topOf_1 : decode cX13_topOf 1 = .ok (.iload_n 1, 1) := dk_27 (dk_at dksX13_topOf_0 1 rfl rfl)
theorem dX13_topOf_2 : decode cX13_topOf 2 = .ok (.aload_n 0, 1) := dk_42 (dk_at dksX13_topOf_0 2 rfl rfl)
theorem dX13_topOf_3 : decode cX13_topOf 3 = .ok (.iload_n 1, 1) := dk_27 (dk_at dksX13_topOf_0 3 rfl rfl)
theorem dX13_topOf_4 : decode cX13_topOf 4 = .ok (.invokevirtual 443, 3) := dk_182 1 187 (dk_at dksX13_topOf_0 4 rfl rfl)
theorem dX13_topOf_7 : decode cX13_topOf 7 = .ok (.iconst 1, 1) := dk_4 (dk_at dksX13_topOf_0 7 rfl rfl)
theorem dX13_topOf_8 : decode cX13_topOf 8 = .ok (.isub, 1) := dk_100 (dk_at dksX13_topOf_0 8 rfl rfl)
theorem dX13_topOf_9 : decode cX13_topOf 9 = .ok (.invokevirtual 446, 3) := dk_182 1 190 (dk_at dksX13_topOf_0 9 rfl rfl)
theorem dX13_topOf_12 : decode cX13_topOf 12 = .ok (.ireturn, 1) := dk_172 (dk_at dksX13_topOf_0 12 rfl rfl)
abbrev cX13_shown : ByteArray := prog_21_method_98_code
def yX13_shown : MethodName := ⟨RX13, "shown", "(I)I"⟩
def dkwX13_shown_2 : List UInt8 := [180, 1, 2, 104, 21, 4, 96, 46, 27, 160, 0, 6, 132, 2, 1, 132, 3, 1, 167, 255, 212, 28, 172]
abbrev dktX13_shown_2 : List UInt8 := dkwX13_shown_2 ++ []
def dkwX13_shown_1 : List UInt8 := [162, 0, 43, 42, 29, 182, 1, 196, 54, 4, 21, 4, 155, 0, 25, 42, 180, 0, 58, 16, 7, 42]
abbrev dktX13_shown_1 : List UInt8 := dkwX13_shown_1 ++ dktX13_shown_2
def dkwX13_shown_0 : List UInt8 := [27, 3, 16, 9, 184, 1, 89, 154, 0, 5, 2, 172, 42, 182, 1, 141, 3, 61, 3, 62, 29, 17, 1, 32]
abbrev dktX13_shown_0 : List UInt8 := dkwX13_shown_0 ++ dktX13_shown_1
theorem dksX13_shown_0 : cX13_shown.data.toList.drop 0 = dktX13_shown_0 := by decide +kernel
theorem dksX13_shown_1 : cX13_shown.data.toList.drop 24 = dktX13_shown_1 := dk_seg dksX13_shown_0 24 rfl rfl
theorem dksX13_shown_2 : cX13_shown.data.toList.drop 46 = dktX13_shown_2 := dk_seg dksX13_shown_1 22 rfl rfl
theorem dX13_shown_0 : decode cX13_shown 0 = .ok (.iload_n 1, 1) := dk_27 (dk_at dksX13_shown_0 0 rfl rfl)
theorem dX13_shown_1 : decode cX13_shown 1 = .ok (.iconst 0, 1) := dk_3 (dk_at dksX13_shown_0 1 rfl rfl)
theorem dX13_shown_2 : decode cX13_shown 2 = .ok (.bipush 9, 2) := dk_16 9 (dk_at dksX13_shown_0 2 rfl rfl)
theorem dX13_shown_4 : decode cX13_shown 4 = .ok (.invokestatic 345, 3) := dk_184 1 89 (dk_at dksX13_shown_0 4 rfl rfl)
theorem dX13_shown_7 : decode cX13_shown 7 = .ok (.ifCond .ne 5, 3) := dk_154 0 5 (dk_at dksX13_shown_0 7 rfl rfl)
theorem dX13_shown_10 : decode cX13_shown 10 = .ok (.iconst (-1), 1) := dk_2 (dk_at dksX13_shown_0 10 rfl rfl)
theorem dX13_shown_11 : decode cX13_shown 11 = .ok (.ireturn, 1) := dk_172 (dk_at dksX13_shown_0 11 rfl rfl)
theorem dX13_shown_12 : decode cX13_shown 12 = .ok (.aload_n 0, 1) := dk_42 (dk_at dksX13_shown_0 12 rfl rfl)
theorem dX13_shown_13 : decode cX13_shown 13 = .ok (.invokevirtual 397, 3) := dk_182 1 141 (dk_at dksX13_shown_0 13 rfl rfl)
theorem dX13_shown_16 : decode cX13_shown 16 = .ok (.iconst 0, 1) := dk_3 (dk_at dksX13_shown_0 16 rfl rfl)
theorem dX13_shown_17 : decode cX13_shown 17 = .ok (.istore_n 2, 1) := dk_61 (dk_at dksX13_shown_0 17 rfl rfl)
theorem dX13_shown_18 : decode cX13_shown 18 = .ok (.iconst 0, 1) := dk_3 (dk_at dksX13_shown_0 18 rfl rfl)
theorem dX13_shown_19 : decode cX13_shown 19 = .ok (.istore_n 3, 1) := dk_62 (dk_at dksX13_shown_0 19 rfl rfl)
theorem dX13_shown_20 : decode cX13_shown 20 = .ok (.iload_n 3, 1) := dk_29 (dk_at dksX13_shown_0 20 rfl rfl)
theorem dX13_shown_21 : decode cX13_shown 21 = .ok (.sipush 288, 3) := dk_17 1 32 (dk_at dksX13_shown_0 21 rfl rfl)
theorem dX13_shown_24 : decode cX13_shown 24 = .ok (.if_icmp .ge 43, 3) := dk_162 0 43 (dk_at dksX13_shown_1 0 rfl rfl)
theorem dX13_shown_27 : decode cX13_shown 27 = .ok (.aload_n 0, 1) := dk_42 (dk_at dksX13_shown_1 3 rfl rfl)
theorem dX13_shown_28 : decode cX13_shown 28 = .ok (.iload_n 3, 1) := dk_29 (dk_at dksX13_shown_1 4 rfl rfl)
theorem dX13_shown_29 : decode cX13_shown 29 = .ok (.invokevirtual 452, 3) := dk_182 1 196 (dk_at dksX13_shown_1 5 rfl rfl)
theorem dX13_shown_32 : decode cX13_shown 32 = .ok (.istore 4, 2) := dk_54 4 (dk_at dksX13_shown_1 8 rfl rfl)
theorem dX13_shown_34 : decode cX13_shown 34 = .ok (.iload 4, 2) := dk_21 4 (dk_at dksX13_shown_1 10 rfl rfl)
theorem dX13_shown_36 : decode cX13_shown 36 = .ok (.ifCond .lt 25, 3) := dk_155 0 25 (dk_at dksX13_shown_1 12 rfl rfl)
theorem dX13_shown_39 : decode cX13_shown 39 = .ok (.aload_n 0, 1) := dk_42 (dk_at dksX13_shown_1 15 rfl rfl)
theorem dX13_shown_40 : decode cX13_shown 40 = .ok (.getfield 58, 3) := dk_180 0 58 (dk_at dksX13_shown_1 16 rfl rfl)
theorem dX13_shown_43 : decode cX13_shown 43 = .ok (.bipush 7, 2) := dk_16 7 (dk_at dksX13_shown_1 19 rfl rfl)
theorem dX13_shown_45 : decode cX13_shown 45 = .ok (.aload_n 0, 1) := dk_42 (dk_at dksX13_shown_1 21 rfl rfl)
theorem dX13_shown_46 : decode cX13_shown 46 = .ok (.getfield 258, 3) := dk_180 1 2 (dk_at dksX13_shown_2 0 rfl rfl)
theorem dX13_shown_49 : decode cX13_shown 49 = .ok (.imul, 1) := dk_104 (dk_at dksX13_shown_2 3 rfl rfl)
theorem dX13_shown_50 : decode cX13_shown 50 = .ok (.iload 4, 2) := dk_21 4 (dk_at dksX13_shown_2 4 rfl rfl)
theorem dX13_shown_52 : decode cX13_shown 52 = .ok (.iadd, 1) := dk_96 (dk_at dksX13_shown_2 6 rfl rfl)
theorem dX13_shown_53 : decode cX13_shown 53 = .ok (.iaload, 1) := dk_46 (dk_at dksX13_shown_2 7 rfl rfl)
theorem dX13_shown_54 : decode cX13_shown 54 = .ok (.iload_n 1, 1) := dk_27 (dk_at dksX13_shown_2 8 rfl rfl)
theorem dX13_shown_55 : decode cX13_shown 55 = .ok (.if_icmp .ne 6, 3) := dk_160 0 6 (dk_at dksX13_shown_2 9 rfl rfl)
theorem dX13_shown_58 : decode cX13_shown 58 = .ok (.iinc 2 1, 3) := dk_132 2 1 (dk_at dksX13_shown_2 12 rfl rfl)
theorem dX13_shown_61 : decode cX13_shown 61 = .ok (.iinc 3 1, 3) := dk_132 3 1 (dk_at dksX13_shown_2 15 rfl rfl)
theorem dX13_shown_64 : decode cX13_shown 64 = .ok (.goto (-44), 3) := dk_167 255 212 (dk_at dksX13_shown_2 18 rfl rfl)
theorem dX13_shown_67 : decode cX13_shown 67 = .ok (.iload_n 2, 1) := dk_28 (dk_at dksX13_shown_2 21 rfl rfl)
theorem dX13_shown_68 : decode cX13_shown 68 = .ok (.ireturn, 1) := dk_172 (dk_at dksX13_shown_2 22 rfl rfl)
abbrev cX13_uppermost : ByteArray := prog_21_method_99_code
def yX13_uppermost : MethodName := ⟨RX13, "uppermost", "(I)I"⟩
def dkwX13_uppermost_1 : List UInt8 := [162, 0, 21, 42, 29, 182, 1, 196, 27, 160, 0, 6, 132, 2, 1, 132, 3, 1, 167, 255, 234, 28, 172]
abbrev dktX13_uppermost_1 : List UInt8 := dkwX13_uppermost_1 ++ []
def dkwX13_uppermost_0 : List UInt8 := [42, 27, 182, 1, 138, 154, 0, 5, 2, 172, 42, 182, 1, 141, 3, 61, 3, 62, 29, 17, 1, 32]
abbrev dktX13_uppermost_0 : List UInt8 := dkwX13_uppermost_0 ++ dktX13_uppermost_1
theorem dksX13_uppermost_0 : cX13_uppermost.data.toList.drop 0 = dktX13_uppermost_0 := by decide +kernel
theorem dksX13_uppermost_1 : cX13_uppermost.data.toList.drop 22 = dktX13_uppermost_1 := dk_seg dksX13_uppermost_0 22 rfl rfl
theorem dX13_uppermost_0 : decode cX13_uppermost 0 = .ok (.aload_n 0, 1) := dk_42 (dk_at dksX13_uppermost_0 0 rfl rfl)
theorem dX13_uppermost_1 : decode cX13_uppermost 1 = .ok (.iload_n 1, 1) := dk_27 (dk_at dksX13_uppermost_0 1 rfl rfl)
theorem dX13_uppermost_2 : decode cX13_uppermost 2 = .ok (.invokevirtual 394, 3) := dk_182 1 138 (dk_at dksX13_uppermost_0 2 rfl rfl)
theorem dX13_uppermost_5 : decode cX13_uppermost 5 = .ok (.ifCond .ne 5, 3) := dk_154 0 5 (dk_at dksX13_uppermost_0 5 rfl rfl)
theorem dX13_uppermost_8 : decode cX13_uppermost 8 = .ok (.iconst (-1), 1) := dk_2 (dk_at dksX13_uppermost_0 8 rfl rfl)
theorem dX13_uppermost_9 : decode cX13_uppermost 9 = .ok (.ireturn, 1) := dk_172 (dk_at dksX13_uppermost_0 9 rfl rfl)
theorem dX13_uppermost_10 : decode cX13_uppermost 10 = .ok (.aload_n 0, 1) := dk_42 (dk_at dksX13_uppermost_0 10 rfl rfl)
theorem dX13_uppermost_11 : decode cX13_uppermost 11 = .ok (.invokevirtual 397, 3) := dk_182 1 141 (dk_at dksX13_uppermost_0 11 rfl rfl)
theorem dX13_uppermost_14 : decode cX13_uppermost 14 = .ok (.iconst 0, 1) := dk_3 (dk_at dksX13_uppermost_0 14 rfl rfl)
theorem dX13_uppermost_15 : decode cX13_uppermost 15 = .ok (.istore_n 2, 1) := dk_61 (dk_at dksX13_uppermost_0 15 rfl rfl)
theorem dX13_uppermost_16 : decode cX13_uppermost 16 = .ok (.iconst 0, 1) := dk_3 (dk_at dksX13_uppermost_0 16 rfl rfl)
theorem dX13_uppermost_17 : decode cX13_uppermost 17 = .ok (.istore_n 3, 1) := dk_62 (dk_at dksX13_uppermost_0 17 rfl rfl)
theorem dX13_uppermost_18 : decode cX13_uppermost 18 = .ok (.iload_n 3, 1) := dk_29 (dk_at dksX13_uppermost_0 18 rfl rfl)
theorem dX13_uppermost_19 : decode cX13_uppermost 19 = .ok (.sipush 288, 3) := dk_17 1 32 (dk_at dksX13_uppermost_0 19 rfl rfl)
theorem dX13_uppermost_22 : decode cX13_uppermost 22 = .ok (.if_icmp .ge 21, 3) := dk_162 0 21 (dk_at dksX13_uppermost_1 0 rfl rfl)
theorem dX13_uppermost_25 : decode cX13_uppermost 25 = .ok (.aload_n 0, 1) := dk_42 (dk_at dksX13_uppermost_1 3 rfl rfl)
theorem dX13_uppermost_26 : decode cX13_uppermost 26 = .ok (.iload_n 3, 1) := dk_29 (dk_at dksX13_uppermost_1 4 rfl rfl)
theorem dX13_uppermost_27 : decode cX13_uppermost 27 = .ok (.invokevirtual 452, 3) := dk_182 1 196 (dk_at dksX13_uppermost_1 5 rfl rfl)
theorem dX13_uppermost_30 : decode cX13_uppermost 30 = .ok (.iload_n 1, 1) := dk_27 (dk_at dksX13_uppermost_1 8 rfl rfl)
theorem dX13_uppermost_31 : decode cX13_uppermost 31 = .ok (.if_icmp .ne 6, 3) := dk_160 0 6 (dk_at dksX13_uppermost_1 9 rfl rfl)
theorem dX13_uppermost_34 : decode cX13_uppermost 34 = .ok (.iinc 2 1, 3) := dk_132 2 1 (dk_at dksX13_uppermost_1 12 rfl rfl)
theorem dX13_uppermost_37 : decode cX13_uppermost 37 = .ok (.iinc 3 1, 3) := dk_132 3 1 (dk_at dksX13_uppermost_1 15 rfl rfl)
theorem dX13_uppermost_40 : decode cX13_uppermost 40 = .ok (.goto (-22), 3) := dk_167 255 234 (dk_at dksX13_uppermost_1 18 rfl rfl)
theorem dX13_uppermost_43 : decode cX13_uppermost 43 = .ok (.iload_n 2, 1) := dk_28 (dk_at dksX13_uppermost_1 21 rfl rfl)
theorem dX13_uppermost_44 : decode cX13_uppermost 44 = .ok (.ireturn, 1) := dk_172 (dk_at dksX13_uppermost_1 22 rfl rfl)
abbrev cX13_dusk : ByteArray := prog_21_method_101_code
def yX13_dusk : MethodName := ⟨RX13, "dusk", "(II)I"⟩
def dkwX13_dusk_5 : List UInt8 := [128, 54, 4, 132, 5, 1, 167, 255, 184, 28, 5, 160, 0, 7, 29, 167, 0, 5, 21, 4, 172]
abbrev dktX13_dusk_5 : List UInt8 := dkwX13_dusk_5 ++ []
def dkwX13_dusk_4 : List UInt8 := [21, 5, 120, 128, 62, 42, 180, 0, 131, 16, 14, 21, 5, 96, 46, 158, 0, 12, 21, 4, 4, 21, 5, 120]
abbrev dktX13_dusk_4 : List UInt8 := dkwX13_dusk_4 ++ dktX13_dusk_5
def dkwX13_dusk_3 : List UInt8 := [16, 21, 21, 5, 96, 46, 154, 0, 23, 42, 180, 0, 131, 16, 14, 21, 5, 96, 46, 154, 0, 10, 29, 4]
abbrev dktX13_dusk_3 : List UInt8 := dkwX13_dusk_3 ++ dktX13_dusk_4
def dkwX13_dusk_2 : List UInt8 := [3, 54, 4, 3, 54, 5, 21, 5, 42, 180, 0, 49, 42, 180, 1, 2, 46, 162, 0, 64, 42, 180, 0, 131]
abbrev dktX13_dusk_2 : List UInt8 := dkwX13_dusk_2 ++ dktX13_dusk_3
def dkwX13_dusk_1 : List UInt8 := [182, 1, 205, 28, 154, 0, 8, 42, 180, 1, 199, 172, 28, 4, 160, 0, 8, 42, 180, 1, 202, 172, 3, 62]
abbrev dktX13_dusk_1 : List UInt8 := dkwX13_dusk_1 ++ dktX13_dusk_2
def dkwX13_dusk_0 : List UInt8 := [27, 3, 7, 184, 1, 89, 153, 0, 12, 28, 3, 6, 184, 1, 89, 154, 0, 5, 2, 172, 42, 27]
abbrev dktX13_dusk_0 : List UInt8 := dkwX13_dusk_0 ++ dktX13_dusk_1
theorem dksX13_dusk_0 : cX13_dusk.data.toList.drop 0 = dktX13_dusk_0 := by decide +kernel
theorem dksX13_dusk_1 : cX13_dusk.data.toList.drop 22 = dktX13_dusk_1 := dk_seg dksX13_dusk_0 22 rfl rfl
theorem dksX13_dusk_2 : cX13_dusk.data.toList.drop 46 = dktX13_dusk_2 := dk_seg dksX13_dusk_1 24 rfl rfl
theorem dksX13_dusk_3 : cX13_dusk.data.toList.drop 70 = dktX13_dusk_3 := dk_seg dksX13_dusk_2 24 rfl rfl
theorem dksX13_dusk_4 : cX13_dusk.data.toList.drop 94 = dktX13_dusk_4 := dk_seg dksX13_dusk_3 24 rfl rfl
theorem dksX13_dusk_5 : cX13_dusk.data.toList.drop 118 = dktX13_dusk_5 := dk_seg dksX13_dusk_4 24 rfl rfl
theorem dX13_dusk_0 : decode cX13_dusk 0 = .ok (.iload_n 1, 1) := dk_27 (dk_at dksX13_dusk_0 0 rfl rfl)
theorem dX13_dusk_1 : decode cX13_dusk 1 = .ok (.iconst 0, 1) := dk_3 (dk_at dksX13_dusk_0 1 rfl rfl)
theorem dX13_dusk_2 : decode cX13_dusk 2 = .ok (.iconst 4, 1) := dk_7 (dk_at dksX13_dusk_0 2 rfl rfl)
theorem dX13_dusk_3 : decode cX13_dusk 3 = .ok (.invokestatic 345, 3) := dk_184 1 89 (dk_at dksX13_dusk_0 3 rfl rfl)
theorem dX13_dusk_6 : decode cX13_dusk 6 = .ok (.ifCond .eq 12, 3) := dk_153 0 12 (dk_at dksX13_dusk_0 6 rfl rfl)
theorem dX13_dusk_9 : decode cX13_dusk 9 = .ok (.iload_n 2, 1) := dk_28 (dk_at dksX13_dusk_0 9 rfl rfl)
theorem dX13_dusk_10 : decode cX13_dusk 10 = .ok (.iconst 0, 1) := dk_3 (dk_at dksX13_dusk_0 10 rfl rfl)
theorem dX13_dusk_11 : decode cX13_dusk 11 = .ok (.iconst 3, 1) := dk_6 (dk_at dksX13_dusk_0 11 rfl rfl)
theorem dX13_dusk_12 : decode cX13_dusk 12 = .ok (.invokestatic 345, 3) := dk_184 1 89 (dk_at dksX13_dusk_0 12 rfl rfl)
theorem dX13_dusk_15 : decode cX13_dusk 15 = .ok (.ifCond .ne 5, 3) := dk_154 0 5 (dk_at dksX13_dusk_0 15 rfl rfl)
theorem dX13_dusk_18 : decode cX13_dusk 18 = .ok (.iconst (-1), 1) := dk_2 (dk_at dksX13_dusk_0 18 rfl rfl)
theorem dX13_dusk_19 : decode cX13_dusk 19 = .ok (.ireturn, 1) := dk_172 (dk_at dksX13_dusk_0 19 rfl rfl)
theorem dX13_dusk_20 : decode cX13_dusk 20 = .ok (.aload_n 0, 1) := dk_42 (dk_at dksX13_dusk_0 20 rfl rfl)
theorem dX13_dusk_21 : decode cX13_dusk 21 = .ok (.iload_n 1, 1) := dk_27 (dk_at dksX13_dusk_0 21 rfl rfl)
theorem dX13_dusk_22 : decode cX13_dusk 22 = .ok (.invokevirtual 461, 3) := dk_182 1 205 (dk_at dksX13_dusk_1 0 rfl rfl)
theorem dX13_dusk_25 : decode cX13_dusk 25 = .ok (.iload_n 2, 1) := dk_28 (dk_at dksX13_dusk_1 3 rfl rfl)
theorem dX13_dusk_26 : decode cX13_dusk 26 = .ok (.ifCond .ne 8, 3) := dk_154 0 8 (dk_at dksX13_dusk_1 4 rfl rfl)
theorem dX13_dusk_29 : decode cX13_dusk 29 = .ok (.aload_n 0, 1) := dk_42 (dk_at dksX13_dusk_1 7 rfl rfl)
theorem dX13_dusk_30 : decode cX13_dusk 30 = .ok (.getfield 455, 3) := dk_180 1 199 (dk_at dksX13_dusk_1 8 rfl rfl)
theorem dX13_dusk_33 : decode cX13_dusk 33 = .ok (.ireturn, 1) := dk_172 (dk_at dksX13_dusk_1 11 rfl rfl)
theorem dX13_dusk_34 : decode cX13_dusk 34 = .ok (.iload_n 2, 1) := dk_28 (dk_at dksX13_dusk_1 12 rfl rfl)
theorem dX13_dusk_35 : decode cX13_dusk 35 = .ok (.iconst 1, 1) := dk_4 (dk_at dksX13_dusk_1 13 rfl rfl)
theorem dX13_dusk_36 : decode cX13_dusk 36 = .ok (.if_icmp .ne 8, 3) := dk_160 0 8 (dk_at dksX13_dusk_1 14 rfl rfl)
theorem dX13_dusk_39 : decode cX13_dusk 39 = .ok (.aload_n 0, 1) := dk_42 (dk_at dksX13_dusk_1 17 rfl rfl)
theorem dX13_dusk_40 : decode cX13_dusk 40 = .ok (.getfield 458, 3) := dk_180 1 202 (dk_at dksX13_dusk_1 18 rfl rfl)
theorem dX13_dusk_43 : decode cX13_dusk 43 = .ok (.ireturn, 1) := dk_172 (dk_at dksX13_dusk_1 21 rfl rfl)
theorem dX13_dusk_44 : decode cX13_dusk 44 = .ok (.iconst 0, 1) := dk_3 (dk_at dksX13_dusk_1 22 rfl rfl)
theorem dX13_dusk_45 : decode cX13_dusk 45 = .ok (.istore_n 3, 1) := dk_62 (dk_at dksX13_dusk_1 23 rfl rfl)
theorem dX13_dusk_46 : decode cX13_dusk 46 = .ok (.iconst 0, 1) := dk_3 (dk_at dksX13_dusk_2 0 rfl rfl)
theorem dX13_dusk_47 : decode cX13_dusk 47 = .ok (.istore 4, 2) := dk_54 4 (dk_at dksX13_dusk_2 1 rfl rfl)
theorem dX13_dusk_49 : decode cX13_dusk 49 = .ok (.iconst 0, 1) := dk_3 (dk_at dksX13_dusk_2 3 rfl rfl)
theorem dX13_dusk_50 : decode cX13_dusk 50 = .ok (.istore 5, 2) := dk_54 5 (dk_at dksX13_dusk_2 4 rfl rfl)
theorem dX13_dusk_52 : decode cX13_dusk 52 = .ok (.iload 5, 2) := dk_21 5 (dk_at dksX13_dusk_2 6 rfl rfl)
theorem dX13_dusk_54 : decode cX13_dusk 54 = .ok (.aload_n 0, 1) := dk_42 (dk_at dksX13_dusk_2 8 rfl rfl)
theorem dX13_dusk_55 : decode cX13_dusk 55 = .ok (.getfield 49, 3) := dk_180 0 49 (dk_at dksX13_dusk_2 9 rfl rfl)
theorem dX13_dusk_58 : decode cX13_dusk 58 = .ok (.aload_n 0, 1) := dk_42 (dk_at dksX13_dusk_2 12 rfl rfl)
theorem dX13_dusk_59 : decode cX13_dusk 59 = .ok (.getfield 258, 3) := dk_180 1 2 (dk_at dksX13_dusk_2 13 rfl rfl)
theorem dX13_dusk_62 : decode cX13_dusk 62 = .ok (.iaload, 1) := dk_46 (dk_at dksX13_dusk_2 16 rfl rfl)
theorem dX13_dusk_63 : decode cX13_dusk 63 = .ok (.if_icmp .ge 64, 3) := dk_162 0 64 (dk_at dksX13_dusk_2 17 rfl rfl)
theorem dX13_dusk_66 : decode cX13_dusk 66 = .ok (.aload_n 0, 1) := dk_42 (dk_at dksX13_dusk_2 20 rfl rfl)
theorem dX13_dusk_67 : decode cX13_dusk 67 = .ok (.getfield 131, 3) := dk_180 0 131 (dk_at dksX13_dusk_2 21 rfl rfl)
theorem dX13_dusk_70 : decode cX13_dusk 70 = .ok (.bipush 21, 2) := dk_16 21 (dk_at dksX13_dusk_3 0 rfl rfl)
theorem dX13_dusk_72 : decode cX13_dusk 72 = .ok (.iload 5, 2) := dk_21 5 (dk_at dksX13_dusk_3 2 rfl rfl)
theorem dX13_dusk_74 : decode cX13_dusk 74 = .ok (.iadd, 1) := dk_96 (dk_at dksX13_dusk_3 4 rfl rfl)
theorem dX13_dusk_75 : decode cX13_dusk 75 = .ok (.iaload, 1) := dk_46 (dk_at dksX13_dusk_3 5 rfl rfl)
theorem dX13_dusk_76 : decode cX13_dusk 76 = .ok (.ifCond .ne 23, 3) := dk_154 0 23 (dk_at dksX13_dusk_3 6 rfl rfl)
theorem dX13_dusk_79 : decode cX13_dusk 79 = .ok (.aload_n 0, 1) := dk_42 (dk_at dksX13_dusk_3 9 rfl rfl)
theorem dX13_dusk_80 : decode cX13_dusk 80 = .ok (.getfield 131, 3) := dk_180 0 131 (dk_at dksX13_dusk_3 10 rfl rfl)
theorem dX13_dusk_83 : decode cX13_dusk 83 = .ok (.bipush 14, 2) := dk_16 14 (dk_at dksX13_dusk_3 13 rfl rfl)
theorem dX13_dusk_85 : decode cX13_dusk 85 = .ok (.iload 5, 2) := dk_21 5 (dk_at dksX13_dusk_3 15 rfl rfl)
theorem dX13_dusk_87 : decode cX13_dusk 87 = .ok (.iadd, 1) := dk_96 (dk_at dksX13_dusk_3 17 rfl rfl)
theorem dX13_dusk_88 : decode cX13_dusk 88 = .ok (.iaload, 1) := dk_46 (dk_at dksX13_dusk_3 18 rfl rfl)
theorem dX13_dusk_89 : decode cX13_dusk 89 = .ok (.ifCond .ne 10, 3) := dk_154 0 10 (dk_at dksX13_dusk_3 19 rfl rfl)
theorem dX13_dusk_92 : decode cX13_dusk 92 = .ok (.iload_n 3, 1) := dk_29 (dk_at dksX13_dusk_3 22 rfl rfl)
theorem dX13_dusk_93 : decode cX13_dusk 93 = .ok (.iconst 1, 1) := dk_4 (dk_at dksX13_dusk_3 23 rfl rfl)
theorem dX13_dusk_94 : decode cX13_dusk 94 = .ok (.iload 5, 2) := dk_21 5 (dk_at dksX13_dusk_4 0 rfl rfl)
theorem dX13_dusk_96 : decode cX13_dusk 96 = .ok (.ishl, 1) := dk_120 (dk_at dksX13_dusk_4 2 rfl rfl)
theorem dX13_dusk_97 : decode cX13_dusk 97 = .ok (.ior, 1) := dk_128 (dk_at dksX13_dusk_4 3 rfl rfl)
theorem dX13_dusk_98 : decode cX13_dusk 98 = .ok (.istore_n 3, 1) := dk_62 (dk_at dksX13_dusk_4 4 rfl rfl)
theorem dX13_dusk_99 : decode cX13_dusk 99 = .ok (.aload_n 0, 1) := dk_42 (dk_at dksX13_dusk_4 5 rfl rfl)
theorem dX13_dusk_100 : decode cX13_dusk 100 = .ok (.getfield 131, 3) := dk_180 0 131 (dk_at dksX13_dusk_4 6 rfl rfl)
theorem dX13_dusk_103 : decode cX13_dusk 103 = .ok (.bipush 14, 2) := dk_16 14 (dk_at dksX13_dusk_4 9 rfl rfl)
theorem dX13_dusk_105 : decode cX13_dusk 105 = .ok (.iload 5, 2) := dk_21 5 (dk_at dksX13_dusk_4 11 rfl rfl)
theorem dX13_dusk_107 : decode cX13_dusk 107 = .ok (.iadd, 1) := dk_96 (dk_at dksX13_dusk_4 13 rfl rfl)
theorem dX13_dusk_108 : decode cX13_dusk 108 = .ok (.iaload, 1) := dk_46 (dk_at dksX13_dusk_4 14 rfl rfl)
theorem dX13_dusk_109 : decode cX13_dusk 109 = .ok (.ifCond .le 12, 3) := dk_158 0 12 (dk_at dksX13_dusk_4 15 rfl rfl)
theorem dX13_dusk_112 : decode cX13_dusk 112 = .ok (.iload 4, 2) := dk_21 4 (dk_at dksX13_dusk_4 18 rfl rfl)
theorem dX13_dusk_114 : decode cX13_dusk 114 = .ok (.iconst 1, 1) := dk_4 (dk_at dksX13_dusk_4 20 rfl rfl)
theorem dX13_dusk_115 : decode cX13_dusk 115 = .ok (.iload 5, 2) := dk_21 5 (dk_at dksX13_dusk_4 21 rfl rfl)
theorem dX13_dusk_117 : decode cX13_dusk 117 = .ok (.ishl, 1) := dk_120 (dk_at dksX13_dusk_4 23 rfl rfl)
theorem dX13_dusk_118 : decode cX13_dusk 118 = .ok (.ior, 1) := dk_128 (dk_at dksX13_dusk_5 0 rfl rfl)
theorem dX13_dusk_119 : decode cX13_dusk 119 = .ok (.istore 4, 2) := dk_54 4 (dk_at dksX13_dusk_5 1 rfl rfl)
theorem dX13_dusk_121 : decode cX13_dusk 121 = .ok (.iinc 5 1, 3) := dk_132 5 1 (dk_at dksX13_dusk_5 3 rfl rfl)
theorem dX13_dusk_124 : decode cX13_dusk 124 = .ok (.goto (-72), 3) := dk_167 255 184 (dk_at dksX13_dusk_5 6 rfl rfl)
theorem dX13_dusk_127 : decode cX13_dusk 127 = .ok (.iload_n 2, 1) := dk_28 (dk_at dksX13_dusk_5 9 rfl rfl)
theorem dX13_dusk_128 : decode cX13_dusk 128 = .ok (.iconst 2, 1) := dk_5 (dk_at dksX13_dusk_5 10 rfl rfl)
theorem dX13_dusk_129 : decode cX13_dusk 129 = .ok (.if_icmp .ne 7, 3) := dk_160 0 7 (dk_at dksX13_dusk_5 11 rfl rfl)
theorem dX13_dusk_132 : decode cX13_dusk 132 = .ok (.iload_n 3, 1) := dk_29 (dk_at dksX13_dusk_5 14 rfl rfl)
theorem dX13_dusk_133 : decode cX13_dusk 133 = .ok (.goto 5, 3) := dk_167 0 5 (dk_at dksX13_dusk_5 15 rfl rfl)
theorem dX13_dusk_136 : decode cX13_dusk 136 = .ok (.iload 4, 2) := dk_21 4 (dk_at dksX13_dusk_5 18 rfl rfl)
theorem dX13_dusk_138 : decode cX13_dusk 138 = .ok (.ireturn, 1) := dk_172 (dk_at dksX13_dusk_5 20 rfl rfl)
abbrev cX13_duskBy : ByteArray := prog_21_method_100_code
def yX13_duskBy : MethodName := ⟨RX13, "duskBy", "(I)V"⟩
def dkwX13_duskBy_13 : List UInt8 := [180, 1, 199, 4, 96, 181, 1, 199, 167, 254, 221, 177]
abbrev dktX13_duskBy_13 : List UInt8 := dkwX13_duskBy_13 ++ []
def dkwX13_duskBy_12 : List UInt8 := [42, 89, 180, 1, 202, 4, 96, 181, 1, 202, 132, 4, 1, 167, 255, 147, 28, 153, 0, 13, 42, 89]
abbrev dktX13_duskBy_12 : List UInt8 := dkwX13_duskBy_12 ++ dktX13_duskBy_13
def dkwX13_duskBy_11 : List UInt8 := [167, 255, 204, 29, 4, 21, 5, 120, 128, 62, 42, 21, 5, 182, 1, 135, 154, 0, 6, 167, 0, 15, 4, 61]
abbrev dktX13_duskBy_11 : List UInt8 := dkwX13_duskBy_11 ++ dktX13_duskBy_12
def dkwX13_duskBy_10 : List UInt8 := [180, 0, 153, 21, 6, 46, 42, 180, 0, 153, 21, 5, 46, 164, 0, 7, 21, 6, 54, 5, 132, 6, 1]
abbrev dktX13_duskBy_10 : List UInt8 := dkwX13_duskBy_10 ++ dktX13_duskBy_11
def dkwX13_duskBy_9 : List UInt8 := [180, 1, 2, 46, 162, 0, 44, 29, 21, 6, 122, 4, 126, 154, 0, 29, 21, 5, 155, 0, 20, 42]
abbrev dktX13_duskBy_9 : List UInt8 := dkwX13_duskBy_9 ++ dktX13_duskBy_10
def dkwX13_duskBy_8 : List UInt8 := [180, 0, 49, 42, 180, 1, 2, 46, 162, 0, 101, 2, 54, 5, 3, 54, 6, 21, 6, 42, 180, 0, 49, 42]
abbrev dktX13_duskBy_8 : List UInt8 := dkwX13_duskBy_8 ++ dktX13_duskBy_9
def dkwX13_duskBy_7 : List UInt8 := [96, 17, 3, 232, 184, 1, 109, 79, 132, 3, 1, 167, 255, 107, 3, 62, 3, 54, 4, 21, 4, 42]
abbrev dktX13_duskBy_7 : List UInt8 := dkwX13_duskBy_7 ++ dktX13_duskBy_8
def dkwX13_duskBy_6 : List UInt8 := [180, 1, 2, 46, 17, 7, 208, 16, 8, 42, 180, 0, 131, 16, 28, 46, 42, 180, 1, 199, 96, 104, 96, 29]
abbrev dktX13_duskBy_6 : List UInt8 := dkwX13_duskBy_6 ++ dktX13_duskBy_7
def dkwX13_duskBy_5 : List UInt8 := [167, 0, 53, 42, 180, 0, 131, 17, 1, 194, 21, 4, 96, 46, 167, 0, 39, 42, 180, 0, 79, 42]
abbrev dktX13_duskBy_5 : List UInt8 := dkwX13_duskBy_5 ++ dktX13_duskBy_6
def dkwX13_duskBy_4 : List UInt8 := [182, 1, 106, 167, 0, 74, 27, 6, 160, 0, 33, 42, 180, 0, 131, 16, 14, 29, 96, 46, 154, 0, 7, 2]
abbrev dktX13_duskBy_4 : List UInt8 := dkwX13_duskBy_4 ++ dktX13_duskBy_5
def dkwX13_duskBy_3 : List UInt8 := [160, 0, 15, 42, 180, 0, 131, 16, 14, 29, 96, 46, 167, 0, 87, 27, 5, 160, 0, 11, 42, 29]
abbrev dktX13_duskBy_3 : List UInt8 := dkwX13_duskBy_3 ++ dktX13_duskBy_4
def dkwX13_duskBy_2 : List UInt8 := [96, 46, 96, 4, 100, 54, 4, 42, 180, 0, 153, 29, 27, 154, 0, 7, 3, 167, 0, 104, 27, 4]
abbrev dktX13_duskBy_2 : List UInt8 := dkwX13_duskBy_2 ++ dktX13_duskBy_3
def dkwX13_duskBy_1 : List UInt8 := [29, 42, 180, 0, 49, 42, 180, 1, 2, 46, 162, 0, 142, 16, 60, 29, 104, 42, 180, 0, 131, 16, 14, 29]
abbrev dktX13_duskBy_1 : List UInt8 := dkwX13_duskBy_1 ++ dktX13_duskBy_2
def dkwX13_duskBy_0 : List UInt8 := [42, 182, 1, 141, 42, 3, 181, 1, 199, 42, 3, 181, 1, 202, 4, 61, 28, 153, 1, 37, 3, 61, 3, 62]
abbrev dktX13_duskBy_0 : List UInt8 := dkwX13_duskBy_0 ++ dktX13_duskBy_1
theorem dksX13_duskBy_0 : cX13_duskBy.data.toList.drop 0 = dktX13_duskBy_0 := by decide +kernel
theorem dksX13_duskBy_1 : cX13_duskBy.data.toList.drop 24 = dktX13_duskBy_1 := dk_seg dksX13_duskBy_0 24 rfl rfl
theorem dksX13_duskBy_2 : cX13_duskBy.data.toList.drop 48 = dktX13_duskBy_2 := dk_seg dksX13_duskBy_1 24 rfl rfl
theorem dksX13_duskBy_3 : cX13_duskBy.data.toList.drop 70 = dktX13_duskBy_3 := dk_seg dksX13_duskBy_2 22 rfl rfl
theorem dksX13_duskBy_4 : cX13_duskBy.data.toList.drop 92 = dktX13_duskBy_4 := dk_seg dksX13_duskBy_3 22 rfl rfl
theorem dksX13_duskBy_5 : cX13_duskBy.data.toList.drop 116 = dktX13_duskBy_5 := dk_seg dksX13_duskBy_4 24 rfl rfl
theorem dksX13_duskBy_6 : cX13_duskBy.data.toList.drop 138 = dktX13_duskBy_6 := dk_seg dksX13_duskBy_5 22 rfl rfl
theorem dksX13_duskBy_7 : cX13_duskBy.data.toList.drop 162 = dktX13_duskBy_7 := dk_seg dksX13_duskBy_6 24 rfl rfl
theorem dksX13_duskBy_8 : cX13_duskBy.data.toList.drop 184 = dktX13_duskBy_8 := dk_seg dksX13_duskBy_7 22 rfl rfl
theorem dksX13_duskBy_9 : cX13_duskBy.data.toList.drop 208 = dktX13_duskBy_9 := dk_seg dksX13_duskBy_8 24 rfl rfl
theorem dksX13_duskBy_10 : cX13_duskBy.data.toList.drop 230 = dktX13_duskBy_10 := dk_seg dksX13_duskBy_9 22 rfl rfl
theorem dksX13_duskBy_11 : cX13_duskBy.data.toList.drop 253 = dktX13_duskBy_11 := dk_seg dksX13_duskBy_10 23 rfl rfl
theorem dksX13_duskBy_12 : cX13_duskBy.data.toList.drop 277 = dktX13_duskBy_12 := dk_seg dksX13_duskBy_11 24 rfl rfl
theorem dksX13_duskBy_13 : cX13_duskBy.data.toList.drop 299 = dktX13_duskBy_13 := dk_seg dksX13_duskBy_12 22 rfl rfl
theorem dX13_duskBy_0 : decode cX13_duskBy 0 = .ok (.aload_n 0, 1) := dk_42 (dk_at dksX13_duskBy_0 0 rfl rfl)
theorem dX13_duskBy_1 : decode cX13_duskBy 1 = .ok (.invokevirtual 397, 3) := dk_182 1 141 (dk_at dksX13_duskBy_0 1 rfl rfl)
theorem dX13_duskBy_4 : decode cX13_duskBy 4 = .ok (.aload_n 0, 1) := dk_42 (dk_at dksX13_duskBy_0 4 rfl rfl)
theorem dX13_duskBy_5 : decode cX13_duskBy 5 = .ok (.iconst 0, 1) := dk_3 (dk_at dksX13_duskBy_0 5 rfl rfl)
theorem dX13_duskBy_6 : decode cX13_duskBy 6 = .ok (.putfield 455, 3) := dk_181 1 199 (dk_at dksX13_duskBy_0 6 rfl rfl)
theorem dX13_duskBy_9 : decode cX13_duskBy 9 = .ok (.aload_n 0, 1) := dk_42 (dk_at dksX13_duskBy_0 9 rfl rfl)
theorem dX13_duskBy_10 : decode cX13_duskBy 10 = .ok (.iconst 0, 1) := dk_3 (dk_at dksX13_duskBy_0 10 rfl rfl)
theorem dX13_duskBy_11 : decode cX13_duskBy 11 = .ok (.putfield 458, 3) := dk_181 1 202 (dk_at dksX13_duskBy_0 11 rfl rfl)
theorem dX13_duskBy_14 : decode cX13_duskBy 14 = .ok (.iconst 1, 1) := dk_4 (dk_at dksX13_duskBy_0 14 rfl rfl)
theorem dX13_duskBy_15 : decode cX13_duskBy 15 = .ok (.istore_n 2, 1) := dk_61 (dk_at dksX13_duskBy_0 15 rfl rfl)
theorem dX13_duskBy_16 : decode cX13_duskBy 16 = .ok (.iload_n 2, 1) := dk_28 (dk_at dksX13_duskBy_0 16 rfl rfl)
theorem dX13_duskBy_17 : decode cX13_duskBy 17 = .ok (.ifCond .eq 293, 3) := dk_153 1 37 (dk_at dksX13_duskBy_0 17 rfl rfl)
theorem dX13_duskBy_20 : decode cX13_duskBy 20 = .ok (.iconst 0, 1) := dk_3 (dk_at dksX13_duskBy_0 20 rfl rfl)
theorem dX13_duskBy_21 : decode cX13_duskBy 21 = .ok (.istore_n 2, 1) := dk_61 (dk_at dksX13_duskBy_0 21 rfl rfl)
theorem dX13_duskBy_22 : decode cX13_duskBy 22 = .ok (.iconst 0, 1) := dk_3 (dk_at dksX13_duskBy_0 22 rfl rfl)
theorem dX13_duskBy_23 : decode cX13_duskBy 23 = .ok (.istore_n 3, 1) := dk_62 (dk_at dksX13_duskBy_0 23 rfl rfl)
theorem dX13_duskBy_24 : decode cX13_duskBy 24 = .ok (.iload_n 3, 1) := dk_29 (dk_at dksX13_duskBy_1 0 rfl rfl)
theorem dX13_duskBy_25 : decode cX13_duskBy 25 = .ok (.aload_n 0, 1) := dk_42 (dk_at dksX13_duskBy_1 1 rfl rfl)
theorem dX13_duskBy_26 : decode cX13_duskBy 26 = .ok (.getfield 49, 3) := dk_180 0 49 (dk_at dksX13_duskBy_1 2 rfl rfl)
theorem dX13_duskBy_29 : decode cX13_duskBy 29 = .ok (.aload_n 0, 1) := dk_42 (dk_at dksX13_duskBy_1 5 rfl rfl)
theorem dX13_duskBy_30 : decode cX13_duskBy 30 = .ok (.getfield 258, 3) := dk_180 1 2 (dk_at dksX13_duskBy_1 6 rfl rfl)
theorem dX13_duskBy_33 : decode cX13_duskBy 33 = .ok (.iaload, 1) := dk_46 (dk_at dksX13_duskBy_1 9 rfl rfl)
theorem dX13_duskBy_34 : decode cX13_duskBy 34 = .ok (.if_icmp .ge 142, 3) := dk_162 0 142 (dk_at dksX13_duskBy_1 10 rfl rfl)
theorem dX13_duskBy_37 : decode cX13_duskBy 37 = .ok (.bipush 60, 2) := dk_16 60 (dk_at dksX13_duskBy_1 13 rfl rfl)
theorem dX13_duskBy_39 : decode cX13_duskBy 39 = .ok (.iload_n 3, 1) := dk_29 (dk_at dksX13_duskBy_1 15 rfl rfl)
theorem dX13_duskBy_40 : decode cX13_duskBy 40 = .ok (.imul, 1) := dk_104 (dk_at dksX13_duskBy_1 16 rfl rfl)
theorem dX13_duskBy_41 : decode cX13_duskBy 41 = .ok (.aload_n 0, 1) := dk_42 (dk_at dksX13_duskBy_1 17 rfl rfl)
theorem dX13_duskBy_42 : decode cX13_duskBy 42 = .ok (.getfield 131, 3) := dk_180 0 131 (dk_at dksX13_duskBy_1 18 rfl rfl)
theorem dX13_duskBy_45 : decode cX13_duskBy 45 = .ok (.bipush 14, 2) := dk_16 14 (dk_at dksX13_duskBy_1 21 rfl rfl)
theorem dX13_duskBy_47 : decode cX13_duskBy 47 = .ok (.iload_n 3, 1) := dk_29 (dk_at dksX13_duskBy_1 23 rfl rfl)
theorem dX13_duskBy_48 : decode cX13_duskBy 48 = .ok (.iadd, 1) := dk_96 (dk_at dksX13_duskBy_2 0 rfl rfl)
theorem dX13_duskBy_49 : decode cX13_duskBy 49 = .ok (.iaload, 1) := dk_46 (dk_at dksX13_duskBy_2 1 rfl rfl)
theorem dX13_duskBy_50 : decode cX13_duskBy 50 = .ok (.iadd, 1) := dk_96 (dk_at dksX13_duskBy_2 2 rfl rfl)
theorem dX13_duskBy_51 : decode cX13_duskBy 51 = .ok (.iconst 1, 1) := dk_4 (dk_at dksX13_duskBy_2 3 rfl rfl)
theorem dX13_duskBy_52 : decode cX13_duskBy 52 = .ok (.isub, 1) := dk_100 (dk_at dksX13_duskBy_2 4 rfl rfl)
theorem dX13_duskBy_53 : decode cX13_duskBy 53 = .ok (.istore 4, 2) := dk_54 4 (dk_at dksX13_duskBy_2 5 rfl rfl)
theorem dX13_duskBy_55 : decode cX13_duskBy 55 = .ok (.aload_n 0, 1) := dk_42 (dk_at dksX13_duskBy_2 7 rfl rfl)
theorem dX13_duskBy_56 : decode cX13_duskBy 56 = .ok (.getfield 153, 3) := dk_180 0 153 (dk_at dksX13_duskBy_2 8 rfl rfl)
theorem dX13_duskBy_59 : decode cX13_duskBy 59 = .ok (.iload_n 3, 1) := dk_29 (dk_at dksX13_duskBy_2 11 rfl rfl)
theorem dX13_duskBy_60 : decode cX13_duskBy 60 = .ok (.iload_n 1, 1) := dk_27 (dk_at dksX13_duskBy_2 12 rfl rfl)
theorem dX13_duskBy_61 : decode cX13_duskBy 61 = .ok (.ifCond .ne 7, 3) := dk_154 0 7 (dk_at dksX13_duskBy_2 13 rfl rfl)
theorem dX13_duskBy_64 : decode cX13_duskBy 64 = .ok (.iconst 0, 1) := dk_3 (dk_at dksX13_duskBy_2 16 rfl rfl)
theorem dX13_duskBy_65 : decode cX13_duskBy 65 = .ok (.goto 104, 3) := dk_167 0 104 (dk_at dksX13_duskBy_2 17 rfl rfl)
theorem dX13_duskBy_68 : decode cX13_duskBy 68 = .ok (.iload_n 1, 1) := dk_27 (dk_at dksX13_duskBy_2 20 rfl rfl)
theorem dX13_duskBy_69 : decode cX13_duskBy 69 = .ok (.iconst 1, 1) := dk_4 (dk_at dksX13_duskBy_2 21 rfl rfl)
theorem dX13_duskBy_70 : decode cX13_duskBy 70 = .ok (.if_icmp .ne 15, 3) := dk_160 0 15 (dk_at dksX13_duskBy_3 0 rfl rfl)
theorem dX13_duskBy_73 : decode cX13_duskBy 73 = .ok (.aload_n 0, 1) := dk_42 (dk_at dksX13_duskBy_3 3 rfl rfl)
theorem dX13_duskBy_74 : decode cX13_duskBy 74 = .ok (.getfield 131, 3) := dk_180 0 131 (dk_at dksX13_duskBy_3 4 rfl rfl)
theorem dX13_duskBy_77 : decode cX13_duskBy 77 = .ok (.bipush 14, 2) := dk_16 14 (dk_at dksX13_duskBy_3 7 rfl rfl)
theorem dX13_duskBy_79 : decode cX13_duskBy 79 = .ok (.iload_n 3, 1) := dk_29 (dk_at dksX13_duskBy_3 9 rfl rfl)
theorem dX13_duskBy_80 : decode cX13_duskBy 80 = .ok (.iadd, 1) := dk_96 (dk_at dksX13_duskBy_3 10 rfl rfl)
theorem dX13_duskBy_81 : decode cX13_duskBy 81 = .ok (.iaload, 1) := dk_46 (dk_at dksX13_duskBy_3 11 rfl rfl)
theorem dX13_duskBy_82 : decode cX13_duskBy 82 = .ok (.goto 87, 3) := dk_167 0 87 (dk_at dksX13_duskBy_3 12 rfl rfl)
theorem dX13_duskBy_85 : decode cX13_duskBy 85 = .ok (.iload_n 1, 1) := dk_27 (dk_at dksX13_duskBy_3 15 rfl rfl)
theorem dX13_duskBy_86 : decode cX13_duskBy 86 = .ok (.iconst 2, 1) := dk_5 (dk_at dksX13_duskBy_3 16 rfl rfl)
theorem dX13_duskBy_87 : decode cX13_duskBy 87 = .ok (.if_icmp .ne 11, 3) := dk_160 0 11 (dk_at dksX13_duskBy_3 17 rfl rfl)
theorem dX13_duskBy_90 : decode cX13_duskBy 90 = .ok (.aload_n 0, 1) := dk_42 (dk_at dksX13_duskBy_3 20 rfl rfl)
theorem dX13_duskBy_91 : decode cX13_duskBy 91 = .ok (.iload_n 3, 1) := dk_29 (dk_at dksX13_duskBy_3 21 rfl rfl)
theorem dX13_duskBy_92 : decode cX13_duskBy 92 = .ok (.invokevirtual 362, 3) := dk_182 1 106 (dk_at dksX13_duskBy_4 0 rfl rfl)
theorem dX13_duskBy_95 : decode cX13_duskBy 95 = .ok (.goto 74, 3) := dk_167 0 74 (dk_at dksX13_duskBy_4 3 rfl rfl)
theorem dX13_duskBy_98 : decode cX13_duskBy 98 = .ok (.iload_n 1, 1) := dk_27 (dk_at dksX13_duskBy_4 6 rfl rfl)
theorem dX13_duskBy_99 : decode cX13_duskBy 99 = .ok (.iconst 3, 1) := dk_6 (dk_at dksX13_duskBy_4 7 rfl rfl)
theorem dX13_duskBy_100 : decode cX13_duskBy 100 = .ok (.if_icmp .ne 33, 3) := dk_160 0 33 (dk_at dksX13_duskBy_4 8 rfl rfl)
theorem dX13_duskBy_103 : decode cX13_duskBy 103 = .ok (.aload_n 0, 1) := dk_42 (dk_at dksX13_duskBy_4 11 rfl rfl)
theorem dX13_duskBy_104 : decode cX13_duskBy 104 = .ok (.getfield 131, 3) := dk_180 0 131 (dk_at dksX13_duskBy_4 12 rfl rfl)
theorem dX13_duskBy_107 : decode cX13_duskBy 107 = .ok (.bipush 14, 2) := dk_16 14 (dk_at dksX13_duskBy_4 15 rfl rfl)
theorem dX13_duskBy_109 : decode cX13_duskBy 109 = .ok (.iload_n 3, 1) := dk_29 (dk_at dksX13_duskBy_4 17 rfl rfl)
theorem dX13_duskBy_110 : decode cX13_duskBy 110 = .ok (.iadd, 1) := dk_96 (dk_at dksX13_duskBy_4 18 rfl rfl)
theorem dX13_duskBy_111 : decode cX13_duskBy 111 = .ok (.iaload, 1) := dk_46 (dk_at dksX13_duskBy_4 19 rfl rfl)
theorem dX13_duskBy_112 : decode cX13_duskBy 112 = .ok (.ifCond .ne 7, 3) := dk_154 0 7 (dk_at dksX13_duskBy_4 20 rfl rfl)
theorem dX13_duskBy_115 : decode cX13_duskBy 115 = .ok (.iconst (-1), 1) := dk_2 (dk_at dksX13_duskBy_4 23 rfl rfl)
theorem dX13_duskBy_116 : decode cX13_duskBy 116 = .ok (.goto 53, 3) := dk_167 0 53 (dk_at dksX13_duskBy_5 0 rfl rfl)
theorem dX13_duskBy_119 : decode cX13_duskBy 119 = .ok (.aload_n 0, 1) := dk_42 (dk_at dksX13_duskBy_5 3 rfl rfl)
theorem dX13_duskBy_120 : decode cX13_duskBy 120 = .ok (.getfield 131, 3) := dk_180 0 131 (dk_at dksX13_duskBy_5 4 rfl rfl)
theorem dX13_duskBy_123 : decode cX13_duskBy 123 = .ok (.sipush 450, 3) := dk_17 1 194 (dk_at dksX13_duskBy_5 7 rfl rfl)
theorem dX13_duskBy_126 : decode cX13_duskBy 126 = .ok (.iload 4, 2) := dk_21 4 (dk_at dksX13_duskBy_5 10 rfl rfl)
theorem dX13_duskBy_128 : decode cX13_duskBy 128 = .ok (.iadd, 1) := dk_96 (dk_at dksX13_duskBy_5 12 rfl rfl)
theorem dX13_duskBy_129 : decode cX13_duskBy 129 = .ok (.iaload, 1) := dk_46 (dk_at dksX13_duskBy_5 13 rfl rfl)
theorem dX13_duskBy_130 : decode cX13_duskBy 130 = .ok (.goto 39, 3) := dk_167 0 39 (dk_at dksX13_duskBy_5 14 rfl rfl)
theorem dX13_duskBy_133 : decode cX13_duskBy 133 = .ok (.aload_n 0, 1) := dk_42 (dk_at dksX13_duskBy_5 17 rfl rfl)
theorem dX13_duskBy_134 : decode cX13_duskBy 134 = .ok (.getfield 79, 3) := dk_180 0 79 (dk_at dksX13_duskBy_5 18 rfl rfl)
theorem dX13_duskBy_137 : decode cX13_duskBy 137 = .ok (.aload_n 0, 1) := dk_42 (dk_at dksX13_duskBy_5 21 rfl rfl)
theorem dX13_duskBy_138 : decode cX13_duskBy 138 = .ok (.getfield 258, 3) := dk_180 1 2 (dk_at dksX13_duskBy_6 0 rfl rfl)
theorem dX13_duskBy_141 : decode cX13_duskBy 141 = .ok (.iaload, 1) := dk_46 (dk_at dksX13_duskBy_6 3 rfl rfl)
theorem dX13_duskBy_142 : decode cX13_duskBy 142 = .ok (.sipush 2000, 3) := dk_17 7 208 (dk_at dksX13_duskBy_6 4 rfl rfl)
theorem dX13_duskBy_145 : decode cX13_duskBy 145 = .ok (.bipush 8, 2) := dk_16 8 (dk_at dksX13_duskBy_6 7 rfl rfl)
theorem dX13_duskBy_147 : decode cX13_duskBy 147 = .ok (.aload_n 0, 1) := dk_42 (dk_at dksX13_duskBy_6 9 rfl rfl)
theorem dX13_duskBy_148 : decode cX13_duskBy 148 = .ok (.getfield 131, 3) := dk_180 0 131 (dk_at dksX13_duskBy_6 10 rfl rfl)
theorem dX13_duskBy_151 : decode cX13_duskBy 151 = .ok (.bipush 28, 2) := dk_16 28 (dk_at dksX13_duskBy_6 13 rfl rfl)
theorem dX13_duskBy_153 : decode cX13_duskBy 153 = .ok (.iaload, 1) := dk_46 (dk_at dksX13_duskBy_6 15 rfl rfl)
theorem dX13_duskBy_154 : decode cX13_duskBy 154 = .ok (.aload_n 0, 1) := dk_42 (dk_at dksX13_duskBy_6 16 rfl rfl)
theorem dX13_duskBy_155 : decode cX13_duskBy 155 = .ok (.getfield 455, 3) := dk_180 1 199 (dk_at dksX13_duskBy_6 17 rfl rfl)
theorem dX13_duskBy_158 : decode cX13_duskBy 158 = .ok (.iadd, 1) := dk_96 (dk_at dksX13_duskBy_6 20 rfl rfl)
theorem dX13_duskBy_159 : decode cX13_duskBy 159 = .ok (.imul, 1) := dk_104 (dk_at dksX13_duskBy_6 21 rfl rfl)
theorem dX13_duskBy_160 : decode cX13_duskBy 160 = .ok (.iadd, 1) := dk_96 (dk_at dksX13_duskBy_6 22 rfl rfl)
theorem dX13_duskBy_161 : decode cX13_duskBy 161 = .ok (.iload_n 3, 1) := dk_29 (dk_at dksX13_duskBy_6 23 rfl rfl)
theorem dX13_duskBy_162 : decode cX13_duskBy 162 = .ok (.iadd, 1) := dk_96 (dk_at dksX13_duskBy_7 0 rfl rfl)
theorem dX13_duskBy_163 : decode cX13_duskBy 163 = .ok (.sipush 1000, 3) := dk_17 3 232 (dk_at dksX13_duskBy_7 1 rfl rfl)
theorem dX13_duskBy_166 : decode cX13_duskBy 166 = .ok (.invokestatic 365, 3) := dk_184 1 109 (dk_at dksX13_duskBy_7 4 rfl rfl)
theorem dX13_duskBy_169 : decode cX13_duskBy 169 = .ok (.iastore, 1) := dk_79 (dk_at dksX13_duskBy_7 7 rfl rfl)
theorem dX13_duskBy_170 : decode cX13_duskBy 170 = .ok (.iinc 3 1, 3) := dk_132 3 1 (dk_at dksX13_duskBy_7 8 rfl rfl)
theorem dX13_duskBy_173 : decode cX13_duskBy 173 = .ok (.goto (-149), 3) := dk_167 255 107 (dk_at dksX13_duskBy_7 11 rfl rfl)
theorem dX13_duskBy_176 : decode cX13_duskBy 176 = .ok (.iconst 0, 1) := dk_3 (dk_at dksX13_duskBy_7 14 rfl rfl)
theorem dX13_duskBy_177 : decode cX13_duskBy 177 = .ok (.istore_n 3, 1) := dk_62 (dk_at dksX13_duskBy_7 15 rfl rfl)
theorem dX13_duskBy_178 : decode cX13_duskBy 178 = .ok (.iconst 0, 1) := dk_3 (dk_at dksX13_duskBy_7 16 rfl rfl)
theorem dX13_duskBy_179 : decode cX13_duskBy 179 = .ok (.istore 4, 2) := dk_54 4 (dk_at dksX13_duskBy_7 17 rfl rfl)
theorem dX13_duskBy_181 : decode cX13_duskBy 181 = .ok (.iload 4, 2) := dk_21 4 (dk_at dksX13_duskBy_7 19 rfl rfl)
theorem dX13_duskBy_183 : decode cX13_duskBy 183 = .ok (.aload_n 0, 1) := dk_42 (dk_at dksX13_duskBy_7 21 rfl rfl)
theorem dX13_duskBy_184 : decode cX13_duskBy 184 = .ok (.getfield 49, 3) := dk_180 0 49 (dk_at dksX13_duskBy_8 0 rfl rfl)
theorem dX13_duskBy_187 : decode cX13_duskBy 187 = .ok (.aload_n 0, 1) := dk_42 (dk_at dksX13_duskBy_8 3 rfl rfl)
theorem dX13_duskBy_188 : decode cX13_duskBy 188 = .ok (.getfield 258, 3) := dk_180 1 2 (dk_at dksX13_duskBy_8 4 rfl rfl)
theorem dX13_duskBy_191 : decode cX13_duskBy 191 = .ok (.iaload, 1) := dk_46 (dk_at dksX13_duskBy_8 7 rfl rfl)
theorem dX13_duskBy_192 : decode cX13_duskBy 192 = .ok (.if_icmp .ge 101, 3) := dk_162 0 101 (dk_at dksX13_duskBy_8 8 rfl rfl)
theorem dX13_duskBy_195 : decode cX13_duskBy 195 = .ok (.iconst (-1), 1) := dk_2 (dk_at dksX13_duskBy_8 11 rfl rfl)
theorem dX13_duskBy_196 : decode cX13_duskBy 196 = .ok (.istore 5, 2) := dk_54 5 (dk_at dksX13_duskBy_8 12 rfl rfl)
theorem dX13_duskBy_198 : decode cX13_duskBy 198 = .ok (.iconst 0, 1) := dk_3 (dk_at dksX13_duskBy_8 14 rfl rfl)
theorem dX13_duskBy_199 : decode cX13_duskBy 199 = .ok (.istore 6, 2) := dk_54 6 (dk_at dksX13_duskBy_8 15 rfl rfl)
theorem dX13_duskBy_201 : decode cX13_duskBy 201 = .ok (.iload 6, 2) := dk_21 6 (dk_at dksX13_duskBy_8 17 rfl rfl)
theorem dX13_duskBy_203 : decode cX13_duskBy 203 = .ok (.aload_n 0, 1) := dk_42 (dk_at dksX13_duskBy_8 19 rfl rfl)
theorem dX13_duskBy_204 : decode cX13_duskBy 204 = .ok (.getfield 49, 3) := dk_180 0 49 (dk_at dksX13_duskBy_8 20 rfl rfl)
theorem dX13_duskBy_207 : decode cX13_duskBy 207 = .ok (.aload_n 0, 1) := dk_42 (dk_at dksX13_duskBy_8 23 rfl rfl)
theorem dX13_duskBy_208 : decode cX13_duskBy 208 = .ok (.getfield 258, 3) := dk_180 1 2 (dk_at dksX13_duskBy_9 0 rfl rfl)
theorem dX13_duskBy_211 : decode cX13_duskBy 211 = .ok (.iaload, 1) := dk_46 (dk_at dksX13_duskBy_9 3 rfl rfl)
theorem dX13_duskBy_212 : decode cX13_duskBy 212 = .ok (.if_icmp .ge 44, 3) := dk_162 0 44 (dk_at dksX13_duskBy_9 4 rfl rfl)
theorem dX13_duskBy_215 : decode cX13_duskBy 215 = .ok (.iload_n 3, 1) := dk_29 (dk_at dksX13_duskBy_9 7 rfl rfl)
theorem dX13_duskBy_216 : decode cX13_duskBy 216 = .ok (.iload 6, 2) := dk_21 6 (dk_at dksX13_duskBy_9 8 rfl rfl)
theorem dX13_duskBy_218 : decode cX13_duskBy 218 = .ok (.ishr, 1) := dk_122 (dk_at dksX13_duskBy_9 10 rfl rfl)
theorem dX13_duskBy_219 : decode cX13_duskBy 219 = .ok (.iconst 1, 1) := dk_4 (dk_at dksX13_duskBy_9 11 rfl rfl)
theorem dX13_duskBy_220 : decode cX13_duskBy 220 = .ok (.iand, 1) := dk_126 (dk_at dksX13_duskBy_9 12 rfl rfl)
theorem dX13_duskBy_221 : decode cX13_duskBy 221 = .ok (.ifCond .ne 29, 3) := dk_154 0 29 (dk_at dksX13_duskBy_9 13 rfl rfl)
theorem dX13_duskBy_224 : decode cX13_duskBy 224 = .ok (.iload 5, 2) := dk_21 5 (dk_at dksX13_duskBy_9 16 rfl rfl)
theorem dX13_duskBy_226 : decode cX13_duskBy 226 = .ok (.ifCond .lt 20, 3) := dk_155 0 20 (dk_at dksX13_duskBy_9 18 rfl rfl)
theorem dX13_duskBy_229 : decode cX13_duskBy 229 = .ok (.aload_n 0, 1) := dk_42 (dk_at dksX13_duskBy_9 21 rfl rfl)
theorem dX13_duskBy_230 : decode cX13_duskBy 230 = .ok (.getfield 153, 3) := dk_180 0 153 (dk_at dksX13_duskBy_10 0 rfl rfl)
theorem dX13_duskBy_233 : decode cX13_duskBy 233 = .ok (.iload 6, 2) := dk_21 6 (dk_at dksX13_duskBy_10 3 rfl rfl)
theorem dX13_duskBy_235 : decode cX13_duskBy 235 = .ok (.iaload, 1) := dk_46 (dk_at dksX13_duskBy_10 5 rfl rfl)
theorem dX13_duskBy_236 : decode cX13_duskBy 236 = .ok (.aload_n 0, 1) := dk_42 (dk_at dksX13_duskBy_10 6 rfl rfl)
theorem dX13_duskBy_237 : decode cX13_duskBy 237 = .ok (.getfield 153, 3) := dk_180 0 153 (dk_at dksX13_duskBy_10 7 rfl rfl)
theorem dX13_duskBy_240 : decode cX13_duskBy 240 = .ok (.iload 5, 2) := dk_21 5 (dk_at dksX13_duskBy_10 10 rfl rfl)
theorem dX13_duskBy_242 : decode cX13_duskBy 242 = .ok (.iaload, 1) := dk_46 (dk_at dksX13_duskBy_10 12 rfl rfl)
theorem dX13_duskBy_243 : decode cX13_duskBy 243 = .ok (.if_icmp .le 7, 3) := dk_164 0 7 (dk_at dksX13_duskBy_10 13 rfl rfl)
theorem dX13_duskBy_246 : decode cX13_duskBy 246 = .ok (.iload 6, 2) := dk_21 6 (dk_at dksX13_duskBy_10 16 rfl rfl)
theorem dX13_duskBy_248 : decode cX13_duskBy 248 = .ok (.istore 5, 2) := dk_54 5 (dk_at dksX13_duskBy_10 18 rfl rfl)
theorem dX13_duskBy_250 : decode cX13_duskBy 250 = .ok (.iinc 6 1, 3) := dk_132 6 1 (dk_at dksX13_duskBy_10 20 rfl rfl)
theorem dX13_duskBy_253 : decode cX13_duskBy 253 = .ok (.goto (-52), 3) := dk_167 255 204 (dk_at dksX13_duskBy_11 0 rfl rfl)
theorem dX13_duskBy_256 : decode cX13_duskBy 256 = .ok (.iload_n 3, 1) := dk_29 (dk_at dksX13_duskBy_11 3 rfl rfl)
theorem dX13_duskBy_257 : decode cX13_duskBy 257 = .ok (.iconst 1, 1) := dk_4 (dk_at dksX13_duskBy_11 4 rfl rfl)
theorem dX13_duskBy_258 : decode cX13_duskBy 258 = .ok (.iload 5, 2) := dk_21 5 (dk_at dksX13_duskBy_11 5 rfl rfl)
theorem dX13_duskBy_260 : decode cX13_duskBy 260 = .ok (.ishl, 1) := dk_120 (dk_at dksX13_duskBy_11 7 rfl rfl)
theorem dX13_duskBy_261 : decode cX13_duskBy 261 = .ok (.ior, 1) := dk_128 (dk_at dksX13_duskBy_11 8 rfl rfl)
theorem dX13_duskBy_262 : decode cX13_duskBy 262 = .ok (.istore_n 3, 1) := dk_62 (dk_at dksX13_duskBy_11 9 rfl rfl)
theorem dX13_duskBy_263 : decode cX13_duskBy 263 = .ok (.aload_n 0, 1) := dk_42 (dk_at dksX13_duskBy_11 10 rfl rfl)
theorem dX13_duskBy_264 : decode cX13_duskBy 264 = .ok (.iload 5, 2) := dk_21 5 (dk_at dksX13_duskBy_11 11 rfl rfl)
theorem dX13_duskBy_266 : decode cX13_duskBy 266 = .ok (.invokevirtual 391, 3) := dk_182 1 135 (dk_at dksX13_duskBy_11 13 rfl rfl)
theorem dX13_duskBy_269 : decode cX13_duskBy 269 = .ok (.ifCond .ne 6, 3) := dk_154 0 6 (dk_at dksX13_duskBy_11 16 rfl rfl)
theorem dX13_duskBy_272 : decode cX13_duskBy 272 = .ok (.goto 15, 3) := dk_167 0 15 (dk_at dksX13_duskBy_11 19 rfl rfl)
theorem dX13_duskBy_275 : decode cX13_duskBy 275 = .ok (.iconst 1, 1) := dk_4 (dk_at dksX13_duskBy_11 22 rfl rfl)
theorem dX13_duskBy_276 : decode cX13_duskBy 276 = .ok (.istore_n 2, 1) := dk_61 (dk_at dksX13_duskBy_11 23 rfl rfl)
theorem dX13_duskBy_277 : decode cX13_duskBy 277 = .ok (.aload_n 0, 1) := dk_42 (dk_at dksX13_duskBy_12 0 rfl rfl)
theorem dX13_duskBy_278 : decode cX13_duskBy 278 = .ok (.dup, 1) := dk_89 (dk_at dksX13_duskBy_12 1 rfl rfl)
theorem dX13_duskBy_279 : decode cX13_duskBy 279 = .ok (.getfield 458, 3) := dk_180 1 202 (dk_at dksX13_duskBy_12 2 rfl rfl)
theorem dX13_duskBy_282 : decode cX13_duskBy 282 = .ok (.iconst 1, 1) := dk_4 (dk_at dksX13_duskBy_12 5 rfl rfl)
theorem dX13_duskBy_283 : decode cX13_duskBy 283 = .ok (.iadd, 1) := dk_96 (dk_at dksX13_duskBy_12 6 rfl rfl)
theorem dX13_duskBy_284 : decode cX13_duskBy 284 = .ok (.putfield 458, 3) := dk_181 1 202 (dk_at dksX13_duskBy_12 7 rfl rfl)
theorem dX13_duskBy_287 : decode cX13_duskBy 287 = .ok (.iinc 4 1, 3) := dk_132 4 1 (dk_at dksX13_duskBy_12 10 rfl rfl)
theorem dX13_duskBy_290 : decode cX13_duskBy 290 = .ok (.goto (-109), 3) := dk_167 255 147 (dk_at dksX13_duskBy_12 13 rfl rfl)
theorem dX13_duskBy_293 : decode cX13_duskBy 293 = .ok (.iload_n 2, 1) := dk_28 (dk_at dksX13_duskBy_12 16 rfl rfl)
theorem dX13_duskBy_294 : decode cX13_duskBy 294 = .ok (.ifCond .eq 13, 3) := dk_153 0 13 (dk_at dksX13_duskBy_12 17 rfl rfl)
theorem dX13_duskBy_297 : decode cX13_duskBy 297 = .ok (.aload_n 0, 1) := dk_42 (dk_at dksX13_duskBy_12 20 rfl rfl)
theorem dX13_duskBy_298 : decode cX13_duskBy 298 = .ok (.dup, 1) := dk_89 (dk_at dksX13_duskBy_12 21 rfl rfl)
theorem dX13_duskBy_299 : decode cX13_duskBy 299 = .ok (.getfield 455, 3) := dk_180 1 199 (dk_at dksX13_duskBy_13 0 rfl rfl)
theorem dX13_duskBy_302 : decode cX13_duskBy 302 = .ok (.iconst 1, 1) := dk_4 (dk_at dksX13_duskBy_13 3 rfl rfl)
theorem dX13_duskBy_303 : decode cX13_duskBy 303 = .ok (.iadd, 1) := dk_96 (dk_at dksX13_duskBy_13 4 rfl rfl)
theorem dX13_duskBy_304 : decode cX13_duskBy 304 = .ok (.putfield 455, 3) := dk_181 1 199 (dk_at dksX13_duskBy_13 5 rfl rfl)
theorem dX13_duskBy_307 : decode cX13_duskBy 307 = .ok (.goto (-291), 3) := dk_167 254 221 (dk_at dksX13_duskBy_13 8 rfl rfl)
theorem dX13_duskBy_310 : decode cX13_duskBy 310 = .ok (.return_, 1) := dk_177 (dk_at dksX13_duskBy_13 11 rfl rfl)
abbrev cX13_bestDusk : ByteArray := prog_21_method_102_code
def yX13_bestDusk : MethodName := ⟨RX13, "bestDusk", "()I"⟩
def dkwX13_bestDusk_2 : List UInt8 := [167, 0, 16, 21, 4, 60, 42, 180, 1, 202, 61, 42, 180, 1, 199, 62, 132, 4, 1, 167, 255, 201, 27, 172]
abbrev dktX13_bestDusk_2 : List UInt8 := dkwX13_bestDusk_2 ++ []
def dkwX13_bestDusk_1 : List UInt8 := [180, 1, 202, 28, 161, 0, 35, 42, 180, 1, 202, 28, 160, 0, 14, 42, 180, 1, 199, 29, 161, 0, 6]
abbrev dktX13_bestDusk_1 : List UInt8 := dkwX13_bestDusk_1 ++ dktX13_bestDusk_2
def dkwX13_bestDusk_0 : List UInt8 := [3, 60, 2, 61, 3, 62, 3, 54, 4, 21, 4, 8, 162, 0, 55, 42, 21, 4, 182, 1, 205, 42]
abbrev dktX13_bestDusk_0 : List UInt8 := dkwX13_bestDusk_0 ++ dktX13_bestDusk_1
theorem dksX13_bestDusk_0 : cX13_bestDusk.data.toList.drop 0 = dktX13_bestDusk_0 := by decide +kernel
theorem dksX13_bestDusk_1 : cX13_bestDusk.data.toList.drop 22 = dktX13_bestDusk_1 := dk_seg dksX13_bestDusk_0 22 rfl rfl
theorem dksX13_bestDusk_2 : cX13_bestDusk.data.toList.drop 45 = dktX13_bestDusk_2 := dk_seg dksX13_bestDusk_1 23 rfl rfl
theorem dX13_bestDusk_0 : decode cX13_bestDusk 0 = .ok (.iconst 0, 1) := dk_3 (dk_at dksX13_bestDusk_0 0 rfl rfl)
theorem dX13_bestDusk_1 : decode cX13_bestDusk 1 = .ok (.istore_n 1, 1) := dk_60 (dk_at dksX13_bestDusk_0 1 rfl rfl)
theorem dX13_bestDusk_2 : decode cX13_bestDusk 2 = .ok (.iconst (-1), 1) := dk_2 (dk_at dksX13_bestDusk_0 2 rfl rfl)
theorem dX13_bestDusk_3 : decode cX13_bestDusk 3 = .ok (.istore_n 2, 1) := dk_61 (dk_at dksX13_bestDusk_0 3 rfl rfl)
theorem dX13_bestDusk_4 : decode cX13_bestDusk 4 = .ok (.iconst 0, 1) := dk_3 (dk_at dksX13_bestDusk_0 4 rfl rfl)
theorem dX13_bestDusk_5 : decode cX13_bestDusk 5 = .ok (.istore_n 3, 1) := dk_62 (dk_at dksX13_bestDusk_0 5 rfl rfl)
theorem dX13_bestDusk_6 : decode cX13_bestDusk 6 = .ok (.iconst 0, 1) := dk_3 (dk_at dksX13_bestDusk_0 6 rfl rfl)
theorem dX13_bestDusk_7 : decode cX13_bestDusk 7 = .ok (.istore 4, 2) := dk_54 4 (dk_at dksX13_bestDusk_0 7 rfl rfl)
theorem dX13_bestDusk_9 : decode cX13_bestDusk 9 = .ok (.iload 4, 2) := dk_21 4 (dk_at dksX13_bestDusk_0 9 rfl rfl)
theorem dX13_bestDusk_11 : decode cX13_bestDusk 11 = .ok (.iconst 5, 1) := dk_8 (dk_at dksX13_bestDusk_0 11 rfl rfl)
theorem dX13_bestDusk_12 : decode cX13_bestDusk 12 = .ok (.if_icmp .ge 55, 3) := dk_162 0 55 (dk_at dksX13_bestDusk_0 12 rfl rfl)
theorem dX13_bestDusk_15 : decode cX13_bestDusk 15 = .ok (.aload_n 0, 1) := dk_42 (dk_at dksX13_bestDusk_0 15 rfl rfl)
theorem dX13_bestDusk_16 : decode cX13_bestDusk 16 = .ok (.iload 4, 2) := dk_21 4 (dk_at dksX13_bestDusk_0 16 rfl rfl)
theorem dX13_bestDusk_18 : decode cX13_bestDusk 18 = .ok (.invokevirtual 461, 3) := dk_182 1 205 (dk_at dksX13_bestDusk_0 18 rfl rfl)
theorem dX13_bestDusk_21 : decode cX13_bestDusk 21 = .ok (.aload_n 0, 1) := dk_42 (dk_at dksX13_bestDusk_0 21 rfl rfl)
theorem dX13_bestDusk_22 : decode cX13_bestDusk 22 = .ok (.getfield 458, 3) := dk_180 1 202 (dk_at dksX13_bestDusk_1 0 rfl rfl)
theorem dX13_bestDusk_25 : decode cX13_bestDusk 25 = .ok (.iload_n 2, 1) := dk_28 (dk_at dksX13_bestDusk_1 3 rfl rfl)
theorem dX13_bestDusk_26 : decode cX13_bestDusk 26 = .ok (.if_icmp .lt 35, 3) := dk_161 0 35 (dk_at dksX13_bestDusk_1 4 rfl rfl)
theorem dX13_bestDusk_29 : decode cX13_bestDusk 29 = .ok (.aload_n 0, 1) := dk_42 (dk_at dksX13_bestDusk_1 7 rfl rfl)
theorem dX13_bestDusk_30 : decode cX13_bestDusk 30 = .ok (.getfield 458, 3) := dk_180 1 202 (dk_at dksX13_bestDusk_1 8 rfl rfl)
theorem dX13_bestDusk_33 : decode cX13_bestDusk 33 = .ok (.iload_n 2, 1) := dk_28 (dk_at dksX13_bestDusk_1 11 rfl rfl)
theorem dX13_bestDusk_34 : decode cX13_bestDusk 34 = .ok (.if_icmp .ne 14, 3) := dk_160 0 14 (dk_at dksX13_bestDusk_1 12 rfl rfl)
theorem dX13_bestDusk_37 : decode cX13_bestDusk 37 = .ok (.aload_n 0, 1) := dk_42 (dk_at dksX13_bestDusk_1 15 rfl rfl)
theorem dX13_bestDusk_38 : decode cX13_bestDusk 38 = .ok (.getfield 455, 3) := dk_180 1 199 (dk_at dksX13_bestDusk_1 16 rfl rfl)
theorem dX13_bestDusk_41 : decode cX13_bestDusk 41 = .ok (.iload_n 3, 1) := dk_29 (dk_at dksX13_bestDusk_1 19 rfl rfl)
theorem dX13_bestDusk_42 : decode cX13_bestDusk 42 = .ok (.if_icmp .lt 6, 3) := dk_161 0 6 (dk_at dksX13_bestDusk_1 20 rfl rfl)
theorem dX13_bestDusk_45 : decode cX13_bestDusk 45 = .ok (.goto 16, 3) := dk_167 0 16 (dk_at dksX13_bestDusk_2 0 rfl rfl)
theorem dX13_bestDusk_48 : decode cX13_bestDusk 48 = .ok (.iload 4, 2) := dk_21 4 (dk_at dksX13_bestDusk_2 3 rfl rfl)
theorem dX13_bestDusk_50 : decode cX13_bestDusk 50 = .ok (.istore_n 1, 1) := dk_60 (dk_at dksX13_bestDusk_2 5 rfl rfl)
theorem dX13_bestDusk_51 : decode cX13_bestDusk 51 = .ok (.aload_n 0, 1) := dk_42 (dk_at dksX13_bestDusk_2 6 rfl rfl)
theorem dX13_bestDusk_52 : decode cX13_bestDusk 52 = .ok (.getfield 458, 3) := dk_180 1 202 (dk_at dksX13_bestDusk_2 7 rfl rfl)
theorem dX13_bestDusk_55 : decode cX13_bestDusk 55 = .ok (.istore_n 2, 1) := dk_61 (dk_at dksX13_bestDusk_2 10 rfl rfl)
theorem dX13_bestDusk_56 : decode cX13_bestDusk 56 = .ok (.aload_n 0, 1) := dk_42 (dk_at dksX13_bestDusk_2 11 rfl rfl)
theorem dX13_bestDusk_57 : decode cX13_bestDusk 57 = .ok (.getfield 455, 3) := dk_180 1 199 (dk_at dksX13_bestDusk_2 12 rfl rfl)
theorem dX13_bestDusk_60 : decode cX13_bestDusk 60 = .ok (.istore_n 3, 1) := dk_62 (dk_at dksX13_bestDusk_2 15 rfl rfl)
theorem dX13_bestDusk_61 : decode cX13_bestDusk 61 = .ok (.iinc 4 1, 3) := dk_132 4 1 (dk_at dksX13_bestDusk_2 16 rfl rfl)
theorem dX13_bestDusk_64 : decode cX13_bestDusk 64 = .ok (.goto (-55), 3) := dk_167 255 201 (dk_at dksX13_bestDusk_2 19 rfl rfl)
theorem dX13_bestDusk_67 : decode cX13_bestDusk 67 = .ok (.iload_n 1, 1) := dk_27 (dk_at dksX13_bestDusk_2 22 rfl rfl)
theorem dX13_bestDusk_68 : decode cX13_bestDusk 68 = .ok (.ireturn, 1) := dk_172 (dk_at dksX13_bestDusk_2 23 rfl rfl)
abbrev cX13_knows : ByteArray := prog_21_method_104_code
def yX13_knows : MethodName := ⟨RX13, "knows", "(I)I"⟩
def dkwX13_knows_0 : List UInt8 := [42, 27, 182, 1, 138, 154, 0, 5, 2, 172, 42, 182, 1, 141, 42, 27, 182, 1, 208, 172]
abbrev dktX13_knows_0 : List UInt8 := dkwX13_knows_0 ++ []
theorem dksX13_knows_0 : cX13_knows.data.toList.drop 0 = dktX13_knows_0 := by decide +kernel
theorem dX13_knows_0 : decode cX13_knows 0 = .ok (.aload_n 0, 1) := dk_42 (dk_at dksX13_knows_0 0 rfl rfl)
theorem dX13_knows_1 : decode cX13_knows 1 = .ok (.iload_n 1, 1) := dk_27 (dk_at dksX13_knows_0 1 rfl rfl)
theorem dX13_knows_2 : decode cX13_knows 2 = .ok (.invokevirtual 394, 3) := dk_182 1 138 (dk_at dksX13_knows_0 2 rfl rfl)
theorem dX13_knows_5 : decode cX13_knows 5 = .ok (.ifCond .ne 5, 3) := dk_154 0 5 (dk_at dksX13_knows_0 5 rfl rfl)
theorem dX13_knows_8 : decode cX13_knows 8 = .ok (.iconst (-1), 1) := dk_2 (dk_at dksX13_knows_0 8 rfl rfl)
theorem dX13_knows_9 : decode cX13_knows 9 = .ok (.ireturn, 1) := dk_172 (dk_at dksX13_knows_0 9 rfl rfl)
theorem dX13_knows_10 : decode cX13_knows 10 = .ok (.aload_n 0, 1) := dk_42 (dk_at dksX13_knows_0 10 rfl rfl)
theorem dX13_knows_11 : decode cX13_knows 11 = .ok (.invokevirtual 397, 3) := dk_182 1 141 (dk_at dksX13_knows_0 11 rfl rfl)
theorem dX13_knows_14 : decode cX13_knows 14 = .ok (.aload_n 0, 1) := dk_42 (dk_at dksX13_knows_0 14 rfl rfl)
theorem dX13_knows_15 : decode cX13_knows 15 = .ok (.iload_n 1, 1) := dk_27 (dk_at dksX13_knows_0 15 rfl rfl)
theorem dX13_knows_16 : decode cX13_knows 16 = .ok (.invokevirtual 464, 3) := dk_182 1 208 (dk_at dksX13_knows_0 16 rfl rfl)
theorem dX13_knows_19 : decode cX13_knows 19 = .ok (.ireturn, 1) := dk_172 (dk_at dksX13_knows_0 19 rfl rfl)
abbrev cX13_knowsNow : ByteArray := prog_21_method_103_code
def yX13_knowsNow : MethodName := ⟨RX13, "knowsNow", "(I)I"⟩
def dkwX13_knowsNow_2 : List UInt8 := [132, 3, 1, 167, 255, 211, 28, 172]
abbrev dktX13_knowsNow_2 : List UInt8 := dkwX13_knowsNow_2 ++ []
def dkwX13_knowsNow_1 : List UInt8 := [29, 182, 1, 154, 157, 0, 12, 42, 29, 27, 182, 1, 154, 158, 0, 9, 28, 4, 29, 120, 128, 61]
abbrev dktX13_knowsNow_1 : List UInt8 := dkwX13_knowsNow_1 ++ dktX13_knowsNow_2
def dkwX13_knowsNow_0 : List UInt8 := [3, 61, 3, 62, 29, 42, 180, 0, 49, 42, 180, 1, 2, 46, 162, 0, 38, 29, 27, 159, 0, 27, 42, 27]
abbrev dktX13_knowsNow_0 : List UInt8 := dkwX13_knowsNow_0 ++ dktX13_knowsNow_1
theorem dksX13_knowsNow_0 : cX13_knowsNow.data.toList.drop 0 = dktX13_knowsNow_0 := by decide +kernel
theorem dksX13_knowsNow_1 : cX13_knowsNow.data.toList.drop 24 = dktX13_knowsNow_1 := dk_seg dksX13_knowsNow_0 24 rfl rfl
theorem dksX13_knowsNow_2 : cX13_knowsNow.data.toList.drop 46 = dktX13_knowsNow_2 := dk_seg dksX13_knowsNow_1 22 rfl rfl
theorem dX13_knowsNow_0 : decode cX13_knowsNow 0 = .ok (.iconst 0, 1) := dk_3 (dk_at dksX13_knowsNow_0 0 rfl rfl)
theorem dX13_knowsNow_1 : decode cX13_knowsNow 1 = .ok (.istore_n 2, 1) := dk_61 (dk_at dksX13_knowsNow_0 1 rfl rfl)
theorem dX13_knowsNow_2 : decode cX13_knowsNow 2 = .ok (.iconst 0, 1) := dk_3 (dk_at dksX13_knowsNow_0 2 rfl rfl)
theorem dX13_knowsNow_3 : decode cX13_knowsNow 3 = .ok (.istore_n 3, 1) := dk_62 (dk_at dksX13_knowsNow_0 3 rfl rfl)
theorem dX13_knowsNow_4 : decode cX13_knowsNow 4 = .ok (.iload_n 3, 1) := dk_29 (dk_at dksX13_knowsNow_0 4 rfl rfl)
theorem dX13_knowsNow_5 : decode cX13_knowsNow 5 = .ok (.aload_n 0, 1) := dk_42 (dk_at dksX13_knowsNow_0 5 rfl rfl)
theorem dX13_knowsNow_6 : decode cX13_knowsNow 6 = .ok (.getfield 49, 3) := dk_180 0 49 (dk_at dksX13_knowsNow_0 6 rfl rfl)
theorem dX13_knowsNow_9 : decode cX13_knowsNow 9 = .ok (.aload_n 0, 1) := dk_42 (dk_at dksX13_knowsNow_0 9 rfl rfl)
theorem dX13_knowsNow_10 : decode cX13_knowsNow 10 = .ok (.getfield 258, 3) := dk_180 1 2 (dk_at dksX13_knowsNow_0 10 rfl rfl)
theorem dX13_knowsNow_13 : decode cX13_knowsNow 13 = .ok (.iaload, 1) := dk_46 (dk_at dksX13_knowsNow_0 13 rfl rfl)
theorem dX13_knowsNow_14 : decode cX13_knowsNow 14 = .ok (.if_icmp .ge 38, 3) := dk_162 0 38 (dk_at dksX13_knowsNow_0 14 rfl rfl)
theorem dX13_knowsNow_17 : decode cX13_knowsNow 17 = .ok (.iload_n 3, 1) := dk_29 (dk_at dksX13_knowsNow_0 17 rfl rfl)
theorem dX13_knowsNow_18 : decode cX13_knowsNow 18 = .ok (.iload_n 1, 1) := dk_27 (dk_at dksX13_knowsNow_0 18 rfl rfl)
theorem dX13_knowsNow_19 : decode cX13_knowsNow 19 = .ok (.if_icmp .eq 27, 3) := dk_159 0 27 (dk_at dksX13_knowsNow_0 19 rfl rfl)
theorem dX13_knowsNow_22 : decode cX13_knowsNow 22 = .ok (.aload_n 0, 1) := dk_42 (dk_at dksX13_knowsNow_0 22 rfl rfl)
theorem dX13_knowsNow_23 : decode cX13_knowsNow 23 = .ok (.iload_n 1, 1) := dk_27 (dk_at dksX13_knowsNow_0 23 rfl rfl)
theorem dX13_knowsNow_24 : decode cX13_knowsNow 24 = .ok (.iload_n 3, 1) := dk_29 (dk_at dksX13_knowsNow_1 0 rfl rfl)
theorem dX13_knowsNow_25 : decode cX13_knowsNow 25 = .ok (.invokevirtual 410, 3) := dk_182 1 154 (dk_at dksX13_knowsNow_1 1 rfl rfl)
theorem dX13_knowsNow_28 : decode cX13_knowsNow 28 = .ok (.ifCond .gt 12, 3) := dk_157 0 12 (dk_at dksX13_knowsNow_1 4 rfl rfl)
theorem dX13_knowsNow_31 : decode cX13_knowsNow 31 = .ok (.aload_n 0, 1) := dk_42 (dk_at dksX13_knowsNow_1 7 rfl rfl)
theorem dX13_knowsNow_32 : decode cX13_knowsNow 32 = .ok (.iload_n 3, 1) := dk_29 (dk_at dksX13_knowsNow_1 8 rfl rfl)
theorem dX13_knowsNow_33 : decode cX13_knowsNow 33 = .ok (.iload_n 1, 1) := dk_27 (dk_at dksX13_knowsNow_1 9 rfl rfl)
theorem dX13_knowsNow_34 : decode cX13_knowsNow 34 = .ok (.invokevirtual 410, 3) := dk_182 1 154 (dk_at dksX13_knowsNow_1 10 rfl rfl)
theorem dX13_knowsNow_37 : decode cX13_knowsNow 37 = .ok (.ifCond .le 9, 3) := dk_158 0 9 (dk_at dksX13_knowsNow_1 13 rfl rfl)
theorem dX13_knowsNow_40 : decode cX13_knowsNow 40 = .ok (.iload_n 2, 1) := dk_28 (dk_at dksX13_knowsNow_1 16 rfl rfl)
theorem dX13_knowsNow_41 : decode cX13_knowsNow 41 = .ok (.iconst 1, 1) := dk_4 (dk_at dksX13_knowsNow_1 17 rfl rfl)
theorem dX13_knowsNow_42 : decode cX13_knowsNow 42 = .ok (.iload_n 3, 1) := dk_29 (dk_at dksX13_knowsNow_1 18 rfl rfl)
theorem dX13_knowsNow_43 : decode cX13_knowsNow 43 = .ok (.ishl, 1) := dk_120 (dk_at dksX13_knowsNow_1 19 rfl rfl)
theorem dX13_knowsNow_44 : decode cX13_knowsNow 44 = .ok (.ior, 1) := dk_128 (dk_at dksX13_knowsNow_1 20 rfl rfl)
theorem dX13_knowsNow_45 : decode cX13_knowsNow 45 = .ok (.istore_n 2, 1) := dk_61 (dk_at dksX13_knowsNow_1 21 rfl rfl)
theorem dX13_knowsNow_46 : decode cX13_knowsNow 46 = .ok (.iinc 3 1, 3) := dk_132 3 1 (dk_at dksX13_knowsNow_2 0 rfl rfl)
theorem dX13_knowsNow_49 : decode cX13_knowsNow 49 = .ok (.goto (-45), 3) := dk_167 255 211 (dk_at dksX13_knowsNow_2 3 rfl rfl)
theorem dX13_knowsNow_52 : decode cX13_knowsNow 52 = .ok (.iload_n 2, 1) := dk_28 (dk_at dksX13_knowsNow_2 6 rfl rfl)
theorem dX13_knowsNow_53 : decode cX13_knowsNow 53 = .ok (.ireturn, 1) := dk_172 (dk_at dksX13_knowsNow_2 7 rfl rfl)
abbrev cX13_links : ByteArray := prog_21_method_106_code
def yX13_links : MethodName := ⟨RX13, "links", "(II)I"⟩
def dkwX13_links_2 : List UInt8 := [132, 4, 1, 167, 255, 228, 16, 254, 172]
abbrev dktX13_links_2 : List UInt8 := dkwX13_links_2 ++ []
def dkwX13_links_1 : List UInt8 := [16, 7, 162, 0, 27, 42, 29, 182, 1, 211, 62, 29, 28, 122, 4, 126, 4, 160, 0, 6, 21, 4, 172]
abbrev dktX13_links_1 : List UInt8 := dkwX13_links_1 ++ dktX13_links_2
def dkwX13_links_0 : List UInt8 := [42, 27, 28, 182, 1, 157, 154, 0, 5, 2, 172, 42, 182, 1, 141, 4, 27, 120, 62, 4, 54, 4, 21, 4]
abbrev dktX13_links_0 : List UInt8 := dkwX13_links_0 ++ dktX13_links_1
theorem dksX13_links_0 : cX13_links.data.toList.drop 0 = dktX13_links_0 := by decide +kernel
theorem dksX13_links_1 : cX13_links.data.toList.drop 24 = dktX13_links_1 := dk_seg dksX13_links_0 24 rfl rfl
theorem dksX13_links_2 : cX13_links.data.toList.drop 47 = dktX13_links_2 := dk_seg dksX13_links_1 23 rfl rfl
theorem dX13_links_0 : decode cX13_links 0 = .ok (.aload_n 0, 1) := dk_42 (dk_at dksX13_links_0 0 rfl rfl)
theorem dX13_links_1 : decode cX13_links 1 = .ok (.iload_n 1, 1) := dk_27 (dk_at dksX13_links_0 1 rfl rfl)
theorem dX13_links_2 : decode cX13_links 2 = .ok (.iload_n 2, 1) := dk_28 (dk_at dksX13_links_0 2 rfl rfl)
theorem dX13_links_3 : decode cX13_links 3 = .ok (.invokevirtual 413, 3) := dk_182 1 157 (dk_at dksX13_links_0 3 rfl rfl)
theorem dX13_links_6 : decode cX13_links 6 = .ok (.ifCond .ne 5, 3) := dk_154 0 5 (dk_at dksX13_links_0 6 rfl rfl)
theorem dX13_links_9 : decode cX13_links 9 = .ok (.iconst (-1), 1) := dk_2 (dk_at dksX13_links_0 9 rfl rfl)
theorem dX13_links_10 : decode cX13_links 10 = .ok (.ireturn, 1) := dk_172 (dk_at dksX13_links_0 10 rfl rfl)
theorem dX13_links_11 : decode cX13_links 11 = .ok (.aload_n 0, 1) := dk_42 (dk_at dksX13_links_0 11 rfl rfl)
theorem dX13_links_12 : decode cX13_links 12 = .ok (.invokevirtual 397, 3) := dk_182 1 141 (dk_at dksX13_links_0 12 rfl rfl)
theorem dX13_links_15 : decode cX13_links 15 = .ok (.iconst 1, 1) := dk_4 (dk_at dksX13_links_0 15 rfl rfl)
theorem dX13_links_16 : decode cX13_links 16 = .ok (.iload_n 1, 1) := dk_27 (dk_at dksX13_links_0 16 rfl rfl)
theorem dX13_links_17 : decode cX13_links 17 = .ok (.ishl, 1) := dk_120 (dk_at dksX13_links_0 17 rfl rfl)
theorem dX13_links_18 : decode cX13_links 18 = .ok (.istore_n 3, 1) := dk_62 (dk_at dksX13_links_0 18 rfl rfl)
theorem dX13_links_19 : decode cX13_links 19 = .ok (.iconst 1, 1) := dk_4 (dk_at dksX13_links_0 19 rfl rfl)
theorem dX13_links_20 : decode cX13_links 20 = .ok (.istore 4, 2) := dk_54 4 (dk_at dksX13_links_0 20 rfl rfl)
theorem dX13_links_22 : decode cX13_links 22 = .ok (.iload 4, 2) := dk_21 4 (dk_at dksX13_links_0 22 rfl rfl)
theorem dX13_links_24 : decode cX13_links 24 = .ok (.bipush 7, 2) := dk_16 7 (dk_at dksX13_links_1 0 rfl rfl)
theorem dX13_links_26 : decode cX13_links 26 = .ok (.if_icmp .ge 27, 3) := dk_162 0 27 (dk_at dksX13_links_1 2 rfl rfl)
theorem dX13_links_29 : decode cX13_links 29 = .ok (.aload_n 0, 1) := dk_42 (dk_at dksX13_links_1 5 rfl rfl)
theorem dX13_links_30 : decode cX13_links 30 = .ok (.iload_n 3, 1) := dk_29 (dk_at dksX13_links_1 6 rfl rfl)
theorem dX13_links_31 : decode cX13_links 31 = .ok (.invokevirtual 467, 3) := dk_182 1 211 (dk_at dksX13_links_1 7 rfl rfl)
theorem dX13_links_34 : decode cX13_links 34 = .ok (.istore_n 3, 1) := dk_62 (dk_at dksX13_links_1 10 rfl rfl)
theorem dX13_links_35 : decode cX13_links 35 = .ok (.iload_n 3, 1) := dk_29 (dk_at dksX13_links_1 11 rfl rfl)
theorem dX13_links_36 : decode cX13_links 36 = .ok (.iload_n 2, 1) := dk_28 (dk_at dksX13_links_1 12 rfl rfl)
theorem dX13_links_37 : decode cX13_links 37 = .ok (.ishr, 1) := dk_122 (dk_at dksX13_links_1 13 rfl rfl)
theorem dX13_links_38 : decode cX13_links 38 = .ok (.iconst 1, 1) := dk_4 (dk_at dksX13_links_1 14 rfl rfl)
theorem dX13_links_39 : decode cX13_links 39 = .ok (.iand, 1) := dk_126 (dk_at dksX13_links_1 15 rfl rfl)
theorem dX13_links_40 : decode cX13_links 40 = .ok (.iconst 1, 1) := dk_4 (dk_at dksX13_links_1 16 rfl rfl)
theorem dX13_links_41 : decode cX13_links 41 = .ok (.if_icmp .ne 6, 3) := dk_160 0 6 (dk_at dksX13_links_1 17 rfl rfl)
theorem dX13_links_44 : decode cX13_links 44 = .ok (.iload 4, 2) := dk_21 4 (dk_at dksX13_links_1 20 rfl rfl)
theorem dX13_links_46 : decode cX13_links 46 = .ok (.ireturn, 1) := dk_172 (dk_at dksX13_links_1 22 rfl rfl)
theorem dX13_links_47 : decode cX13_links 47 = .ok (.iinc 4 1, 3) := dk_132 4 1 (dk_at dksX13_links_2 0 rfl rfl)
theorem dX13_links_50 : decode cX13_links 50 = .ok (.goto (-28), 3) := dk_167 255 228 (dk_at dksX13_links_2 3 rfl rfl)
theorem dX13_links_53 : decode cX13_links 53 = .ok (.bipush (-2), 2) := dk_16 254 (dk_at dksX13_links_2 6 rfl rfl)
theorem dX13_links_55 : decode cX13_links 55 = .ok (.ireturn, 1) := dk_172 (dk_at dksX13_links_2 8 rfl rfl)
abbrev cX13_linkedTo : ByteArray := prog_21_method_105_code
def yX13_linkedTo : MethodName := ⟨RX13, "linkedTo", "(I)I"⟩
def dkwX13_linkedTo_1 : List UInt8 := [160, 0, 11, 28, 42, 29, 182, 1, 208, 128, 61, 132, 3, 1, 167, 255, 223, 28, 172]
abbrev dktX13_linkedTo_1 : List UInt8 := dkwX13_linkedTo_1 ++ []
def dkwX13_linkedTo_0 : List UInt8 := [27, 61, 3, 62, 29, 42, 180, 0, 49, 42, 180, 1, 2, 46, 162, 0, 26, 27, 29, 122, 4, 126, 4]
abbrev dktX13_linkedTo_0 : List UInt8 := dkwX13_linkedTo_0 ++ dktX13_linkedTo_1
theorem dksX13_linkedTo_0 : cX13_linkedTo.data.toList.drop 0 = dktX13_linkedTo_0 := by decide +kernel
theorem dksX13_linkedTo_1 : cX13_linkedTo.data.toList.drop 23 = dktX13_linkedTo_1 := dk_seg dksX13_linkedTo_0 23 rfl rfl
theorem dX13_linkedTo_0 : decode cX13_linkedTo 0 = .ok (.iload_n 1, 1) := dk_27 (dk_at dksX13_linkedTo_0 0 rfl rfl)
theorem dX13_linkedTo_1 : decode cX13_linkedTo 1 = .ok (.istore_n 2, 1) := dk_61 (dk_at dksX13_linkedTo_0 1 rfl rfl)
theorem dX13_linkedTo_2 : decode cX13_linkedTo 2 = .ok (.iconst 0, 1) := dk_3 (dk_at dksX13_linkedTo_0 2 rfl rfl)
theorem dX13_linkedTo_3 : decode cX13_linkedTo 3 = .ok (.istore_n 3, 1) := dk_62 (dk_at dksX13_linkedTo_0 3 rfl rfl)
theorem dX13_linkedTo_4 : decode cX13_linkedTo 4 = .ok (.iload_n 3, 1) := dk_29 (dk_at dksX13_linkedTo_0 4 rfl rfl)
theorem dX13_linkedTo_5 : decode cX13_linkedTo 5 = .ok (.aload_n 0, 1) := dk_42 (dk_at dksX13_linkedTo_0 5 rfl rfl)
theorem dX13_linkedTo_6 : decode cX13_linkedTo 6 = .ok (.getfield 49, 3) := dk_180 0 49 (dk_at dksX13_linkedTo_0 6 rfl rfl)
theorem dX13_linkedTo_9 : decode cX13_linkedTo 9 = .ok (.aload_n 0, 1) := dk_42 (dk_at dksX13_linkedTo_0 9 rfl rfl)
theorem dX13_linkedTo_10 : decode cX13_linkedTo 10 = .ok (.getfield 258, 3) := dk_180 1 2 (dk_at dksX13_linkedTo_0 10 rfl rfl)
theorem dX13_linkedTo_13 : decode cX13_linkedTo 13 = .ok (.iaload, 1) := dk_46 (dk_at dksX13_linkedTo_0 13 rfl rfl)
theorem dX13_linkedTo_14 : decode cX13_linkedTo 14 = .ok (.if_icmp .ge 26, 3) := dk_162 0 26 (dk_at dksX13_linkedTo_0 14 rfl rfl)
theorem dX13_linkedTo_17 : decode cX13_linkedTo 17 = .ok (.iload_n 1, 1) := dk_27 (dk_at dksX13_linkedTo_0 17 rfl rfl)
theorem dX13_linkedTo_18 : decode cX13_linkedTo 18 = .ok (.iload_n 3, 1) := dk_29 (dk_at dksX13_linkedTo_0 18 rfl rfl)
theorem dX13_linkedTo_19 : decode cX13_linkedTo 19 = .ok (.ishr, 1) := dk_122 (dk_at dksX13_linkedTo_0 19 rfl rfl)
theorem dX13_linkedTo_20 : decode cX13_linkedTo 20 = .ok (.iconst 1, 1) := dk_4 (dk_at dksX13_linkedTo_0 20 rfl rfl)
theorem dX13_linkedTo_21 : decode cX13_linkedTo 21 = .ok (.iand, 1) := dk_126 (dk_at dksX13_linkedTo_0 21 rfl rfl)
theorem dX13_linkedTo_22 : decode cX13_linkedTo 22 = .ok (.iconst 1, 1) := dk_4 (dk_at dksX13_linkedTo_0 22 rfl rfl)
theorem dX13_linkedTo_23 : decode cX13_linkedTo 23 = .ok (.if_icmp .ne 11, 3) := dk_160 0 11 (dk_at dksX13_linkedTo_1 0 rfl rfl)
theorem dX13_linkedTo_26 : decode cX13_linkedTo 26 = .ok (.iload_n 2, 1) := dk_28 (dk_at dksX13_linkedTo_1 3 rfl rfl)
theorem dX13_linkedTo_27 : decode cX13_linkedTo 27 = .ok (.aload_n 0, 1) := dk_42 (dk_at dksX13_linkedTo_1 4 rfl rfl)
theorem dX13_linkedTo_28 : decode cX13_linkedTo 28 = .ok (.iload_n 3, 1) := dk_29 (dk_at dksX13_linkedTo_1 5 rfl rfl)
theorem dX13_linkedTo_29 : decode cX13_linkedTo 29 = .ok (.invokevirtual 464, 3) := dk_182 1 208 (dk_at dksX13_linkedTo_1 6 rfl rfl)
theorem dX13_linkedTo_32 : decode cX13_linkedTo 32 = .ok (.ior, 1) := dk_128 (dk_at dksX13_linkedTo_1 9 rfl rfl)
theorem dX13_linkedTo_33 : decode cX13_linkedTo 33 = .ok (.istore_n 2, 1) := dk_61 (dk_at dksX13_linkedTo_1 10 rfl rfl)
theorem dX13_linkedTo_34 : decode cX13_linkedTo 34 = .ok (.iinc 3 1, 3) := dk_132 3 1 (dk_at dksX13_linkedTo_1 11 rfl rfl)
theorem dX13_linkedTo_37 : decode cX13_linkedTo 37 = .ok (.goto (-33), 3) := dk_167 255 223 (dk_at dksX13_linkedTo_1 14 rfl rfl)
theorem dX13_linkedTo_40 : decode cX13_linkedTo 40 = .ok (.iload_n 2, 1) := dk_28 (dk_at dksX13_linkedTo_1 17 rfl rfl)
theorem dX13_linkedTo_41 : decode cX13_linkedTo 41 = .ok (.ireturn, 1) := dk_172 (dk_at dksX13_linkedTo_1 18 rfl rfl)
abbrev cX13_rounds : ByteArray := prog_21_method_107_code
def yX13_rounds : MethodName := ⟨RX13, "rounds", "()I"⟩
def dkwX13_rounds_2 : List UInt8 := [60, 132, 2, 1, 167, 255, 216, 28, 172]
abbrev dktX13_rounds_2 : List UInt8 := dkwX13_rounds_2 ++ []
def dkwX13_rounds_1 : List UInt8 := [21, 4, 16, 7, 162, 0, 15, 42, 29, 182, 1, 211, 62, 132, 4, 1, 167, 255, 240, 27, 29, 2, 130, 126]
abbrev dktX13_rounds_1 : List UInt8 := dkwX13_rounds_1 ++ dktX13_rounds_2
def dkwX13_rounds_0 : List UInt8 := [42, 182, 1, 141, 42, 182, 1, 160, 60, 3, 61, 27, 153, 0, 42, 27, 27, 116, 126, 62, 3, 54, 4]
abbrev dktX13_rounds_0 : List UInt8 := dkwX13_rounds_0 ++ dktX13_rounds_1
theorem dksX13_rounds_0 : cX13_rounds.data.toList.drop 0 = dktX13_rounds_0 := by decide +kernel
theorem dksX13_rounds_1 : cX13_rounds.data.toList.drop 23 = dktX13_rounds_1 := dk_seg dksX13_rounds_0 23 rfl rfl
theorem dksX13_rounds_2 : cX13_rounds.data.toList.drop 47 = dktX13_rounds_2 := dk_seg dksX13_rounds_1 24 rfl rfl
theorem dX13_rounds_0 : decode cX13_rounds 0 = .ok (.aload_n 0, 1) := dk_42 (dk_at dksX13_rounds_0 0 rfl rfl)
theorem dX13_rounds_1 : decode cX13_rounds 1 = .ok (.invokevirtual 397, 3) := dk_182 1 141 (dk_at dksX13_rounds_0 1 rfl rfl)
theorem dX13_rounds_4 : decode cX13_rounds 4 = .ok (.aload_n 0, 1) := dk_42 (dk_at dksX13_rounds_0 4 rfl rfl)
theorem dX13_rounds_5 : decode cX13_rounds 5 = .ok (.invokevirtual 416, 3) := dk_182 1 160 (dk_at dksX13_rounds_0 5 rfl rfl)
theorem dX13_rounds_8 : decode cX13_rounds 8 = .ok (.istore_n 1, 1) := dk_60 (dk_at dksX13_rounds_0 8 rfl rfl)
theorem dX13_rounds_9 : decode cX13_rounds 9 = .ok (.iconst 0, 1) := dk_3 (dk_at dksX13_rounds_0 9 rfl rfl)
theorem dX13_rounds_10 : decode cX13_rounds 10 = .ok (.istore_n 2, 1) := dk_61 (dk_at dksX13_rounds_0 10 rfl rfl)
theorem dX13_rounds_11 : decode cX13_rounds 11 = .ok (.iload_n 1, 1) := dk_27 (dk_at dksX13_rounds_0 11 rfl rfl)
theorem dX13_rounds_12 : decode cX13_rounds 12 = .ok (.ifCond .eq 42, 3) := dk_153 0 42 (dk_at dksX13_rounds_0 12 rfl rfl)
theorem dX13_rounds_15 : decode cX13_rounds 15 = .ok (.iload_n 1, 1) := dk_27 (dk_at dksX13_rounds_0 15 rfl rfl)
theorem dX13_rounds_16 : decode cX13_rounds 16 = .ok (.iload_n 1, 1) := dk_27 (dk_at dksX13_rounds_0 16 rfl rfl)
theorem dX13_rounds_17 : decode cX13_rounds 17 = .ok (.ineg, 1) := dk_116 (dk_at dksX13_rounds_0 17 rfl rfl)
theorem dX13_rounds_18 : decode cX13_rounds 18 = .ok (.iand, 1) := dk_126 (dk_at dksX13_rounds_0 18 rfl rfl)
theorem dX13_rounds_19 : decode cX13_rounds 19 = .ok (.istore_n 3, 1) := dk_62 (dk_at dksX13_rounds_0 19 rfl rfl)
theorem dX13_rounds_20 : decode cX13_rounds 20 = .ok (.iconst 0, 1) := dk_3 (dk_at dksX13_rounds_0 20 rfl rfl)
theorem dX13_rounds_21 : decode cX13_rounds 21 = .ok (.istore 4, 2) := dk_54 4 (dk_at dksX13_rounds_0 21 rfl rfl)
theorem dX13_rounds_23 : decode cX13_rounds 23 = .ok (.iload 4, 2) := dk_21 4 (dk_at dksX13_rounds_1 0 rfl rfl)
theorem dX13_rounds_25 : decode cX13_rounds 25 = .ok (.bipush 7, 2) := dk_16 7 (dk_at dksX13_rounds_1 2 rfl rfl)
theorem dX13_rounds_27 : decode cX13_rounds 27 = .ok (.if_icmp .ge 15, 3) := dk_162 0 15 (dk_at dksX13_rounds_1 4 rfl rfl)
theorem dX13_rounds_30 : decode cX13_rounds 30 = .ok (.aload_n 0, 1) := dk_42 (dk_at dksX13_rounds_1 7 rfl rfl)
theorem dX13_rounds_31 : decode cX13_rounds 31 = .ok (.iload_n 3, 1) := dk_29 (dk_at dksX13_rounds_1 8 rfl rfl)
theorem dX13_rounds_32 : decode cX13_rounds 32 = .ok (.invokevirtual 467, 3) := dk_182 1 211 (dk_at dksX13_rounds_1 9 rfl rfl)
theorem dX13_rounds_35 : decode cX13_rounds 35 = .ok (.istore_n 3, 1) := dk_62 (dk_at dksX13_rounds_1 12 rfl rfl)
theorem dX13_rounds_36 : decode cX13_rounds 36 = .ok (.iinc 4 1, 3) := dk_132 4 1 (dk_at dksX13_rounds_1 13 rfl rfl)
theorem dX13_rounds_39 : decode cX13_rounds 39 = .ok (.goto (-16), 3) := dk_167 255 240 (dk_at dksX13_rounds_1 16 rfl rfl)
theorem dX13_rounds_42 : decode cX13_rounds 42 = .ok (.iload_n 1, 1) := dk_27 (dk_at dksX13_rounds_1 19 rfl rfl)
theorem dX13_rounds_43 : decode cX13_rounds 43 = .ok (.iload_n 3, 1) := dk_29 (dk_at dksX13_rounds_1 20 rfl rfl)
theorem dX13_rounds_44 : decode cX13_rounds 44 = .ok (.iconst (-1), 1) := dk_2 (dk_at dksX13_rounds_1 21 rfl rfl)
theorem dX13_rounds_45 : decode cX13_rounds 45 = .ok (.ixor, 1) := dk_130 (dk_at dksX13_rounds_1 22 rfl rfl)
theorem dX13_rounds_46 : decode cX13_rounds 46 = .ok (.iand, 1) := dk_126 (dk_at dksX13_rounds_1 23 rfl rfl)
theorem dX13_rounds_47 : decode cX13_rounds 47 = .ok (.istore_n 1, 1) := dk_60 (dk_at dksX13_rounds_2 0 rfl rfl)
theorem dX13_rounds_48 : decode cX13_rounds 48 = .ok (.iinc 2 1, 3) := dk_132 2 1 (dk_at dksX13_rounds_2 1 rfl rfl)
theorem dX13_rounds_51 : decode cX13_rounds 51 = .ok (.goto (-40), 3) := dk_167 255 216 (dk_at dksX13_rounds_2 4 rfl rfl)
theorem dX13_rounds_54 : decode cX13_rounds 54 = .ok (.iload_n 2, 1) := dk_28 (dk_at dksX13_rounds_2 7 rfl rfl)
theorem dX13_rounds_55 : decode cX13_rounds 55 = .ok (.ireturn, 1) := dk_172 (dk_at dksX13_rounds_2 8 rfl rfl)
abbrev cX13_crowd : ByteArray := prog_21_method_109_code
def yX13_crowd : MethodName := ⟨RX13, "crowd", "(I)I"⟩
def dkwX13_crowd_6 : List UInt8 := [29, 172]
abbrev dktX13_crowd_6 : List UInt8 := dkwX13_crowd_6 ++ []
def dkwX13_crowd_5 : List UInt8 := [132, 5, 1, 167, 255, 176, 132, 4, 1, 167, 255, 153, 28, 155, 0, 7, 27, 154, 0, 7, 28, 167, 0, 4]
abbrev dktX13_crowd_5 : List UInt8 := dkwX13_crowd_5 ++ dktX13_crowd_6
def dkwX13_crowd_4 : List UInt8 := [167, 255, 223, 21, 6, 29, 163, 0, 6, 167, 0, 15, 16, 100, 21, 4, 104, 21, 5, 96, 61, 21, 6, 62]
abbrev dktX13_crowd_4 : List UInt8 := dkwX13_crowd_4 ++ dktX13_crowd_5
def dkwX13_crowd_3 : List UInt8 := [162, 0, 25, 42, 21, 7, 21, 5, 21, 4, 182, 1, 214, 153, 0, 6, 132, 6, 1, 132, 7, 1]
abbrev dktX13_crowd_3 : List UInt8 := dkwX13_crowd_3 ++ dktX13_crowd_4
def dkwX13_crowd_2 : List UInt8 := [180, 1, 2, 46, 162, 0, 72, 3, 54, 6, 3, 54, 7, 21, 7, 42, 180, 0, 49, 42, 180, 1, 2, 46]
abbrev dktX13_crowd_2 : List UInt8 := dkwX13_crowd_2 ++ dktX13_crowd_3
def dkwX13_crowd_1 : List UInt8 := [21, 4, 42, 180, 0, 46, 42, 180, 1, 2, 46, 162, 0, 95, 3, 54, 5, 21, 5, 42, 180, 0, 43, 42]
abbrev dktX13_crowd_1 : List UInt8 := dkwX13_crowd_1 ++ dktX13_crowd_2
def dkwX13_crowd_0 : List UInt8 := [27, 3, 4, 184, 1, 89, 154, 0, 5, 2, 172, 42, 182, 1, 141, 16, 254, 61, 3, 62, 3, 54, 4]
abbrev dktX13_crowd_0 : List UInt8 := dkwX13_crowd_0 ++ dktX13_crowd_1
theorem dksX13_crowd_0 : cX13_crowd.data.toList.drop 0 = dktX13_crowd_0 := by decide +kernel
theorem dksX13_crowd_1 : cX13_crowd.data.toList.drop 23 = dktX13_crowd_1 := dk_seg dksX13_crowd_0 23 rfl rfl
theorem dksX13_crowd_2 : cX13_crowd.data.toList.drop 47 = dktX13_crowd_2 := dk_seg dksX13_crowd_1 24 rfl rfl
theorem dksX13_crowd_3 : cX13_crowd.data.toList.drop 71 = dktX13_crowd_3 := dk_seg dksX13_crowd_2 24 rfl rfl
theorem dksX13_crowd_4 : cX13_crowd.data.toList.drop 93 = dktX13_crowd_4 := dk_seg dksX13_crowd_3 22 rfl rfl
theorem dksX13_crowd_5 : cX13_crowd.data.toList.drop 117 = dktX13_crowd_5 := dk_seg dksX13_crowd_4 24 rfl rfl
theorem dksX13_crowd_6 : cX13_crowd.data.toList.drop 141 = dktX13_crowd_6 := dk_seg dksX13_crowd_5 24 rfl rfl
theorem dX13_crowd_0 : decode cX13_crowd 0 = .ok (.iload_n 1, 1) := dk_27 (dk_at dksX13_crowd_0 0 rfl rfl)
theorem dX13_crowd_1 : decode cX13_crowd 1 = .ok (.iconst 0, 1) := dk_3 (dk_at dksX13_crowd_0 1 rfl rfl)
theorem dX13_crowd_2 : decode cX13_crowd 2 = .ok (.iconst 1, 1) := dk_4 (dk_at dksX13_crowd_0 2 rfl rfl)
theorem dX13_crowd_3 : decode cX13_crowd 3 = .ok (.invokestatic 345, 3) := dk_184 1 89 (dk_at dksX13_crowd_0 3 rfl rfl)
theorem dX13_crowd_6 : decode cX13_crowd 6 = .ok (.ifCond .ne 5, 3) := dk_154 0 5 (dk_at dksX13_crowd_0 6 rfl rfl)
theorem dX13_crowd_9 : decode cX13_crowd 9 = .ok (.iconst (-1), 1) := dk_2 (dk_at dksX13_crowd_0 9 rfl rfl)
theorem dX13_crowd_10 : decode cX13_crowd 10 = .ok (.ireturn, 1) := dk_172 (dk_at dksX13_crowd_0 10 rfl rfl)
theorem dX13_crowd_11 : decode cX13_crowd 11 = .ok (.aload_n 0, 1) := dk_42 (dk_at dksX13_crowd_0 11 rfl rfl)
theorem dX13_crowd_12 : decode cX13_crowd 12 = .ok (.invokevirtual 397, 3) := dk_182 1 141 (dk_at dksX13_crowd_0 12 rfl rfl)
theorem dX13_crowd_15 : decode cX13_crowd 15 = .ok (.bipush (-2), 2) := dk_16 254 (dk_at dksX13_crowd_0 15 rfl rfl)
theorem dX13_crowd_17 : decode cX13_crowd 17 = .ok (.istore_n 2, 1) := dk_61 (dk_at dksX13_crowd_0 17 rfl rfl)
theorem dX13_crowd_18 : decode cX13_crowd 18 = .ok (.iconst 0, 1) := dk_3 (dk_at dksX13_crowd_0 18 rfl rfl)
theorem dX13_crowd_19 : decode cX13_crowd 19 = .ok (.istore_n 3, 1) := dk_62 (dk_at dksX13_crowd_0 19 rfl rfl)
theorem dX13_crowd_20 : decode cX13_crowd 20 = .ok (.iconst 0, 1) := dk_3 (dk_at dksX13_crowd_0 20 rfl rfl)
theorem dX13_crowd_21 : decode cX13_crowd 21 = .ok (.istore 4, 2) := dk_54 4 (dk_at dksX13_crowd_0 21 rfl rfl)
theorem dX13_crowd_23 : decode cX13_crowd 23 = .ok (.iload 4, 2) := dk_21 4 (dk_at dksX13_crowd_1 0 rfl rfl)
theorem dX13_crowd_25 : decode cX13_crowd 25 = .ok (.aload_n 0, 1) := dk_42 (dk_at dksX13_crowd_1 2 rfl rfl)
theorem dX13_crowd_26 : decode cX13_crowd 26 = .ok (.getfield 46, 3) := dk_180 0 46 (dk_at dksX13_crowd_1 3 rfl rfl)
theorem dX13_crowd_29 : decode cX13_crowd 29 = .ok (.aload_n 0, 1) := dk_42 (dk_at dksX13_crowd_1 6 rfl rfl)
theorem dX13_crowd_30 : decode cX13_crowd 30 = .ok (.getfield 258, 3) := dk_180 1 2 (dk_at dksX13_crowd_1 7 rfl rfl)
theorem dX13_crowd_33 : decode cX13_crowd 33 = .ok (.iaload, 1) := dk_46 (dk_at dksX13_crowd_1 10 rfl rfl)
theorem dX13_crowd_34 : decode cX13_crowd 34 = .ok (.if_icmp .ge 95, 3) := dk_162 0 95 (dk_at dksX13_crowd_1 11 rfl rfl)
theorem dX13_crowd_37 : decode cX13_crowd 37 = .ok (.iconst 0, 1) := dk_3 (dk_at dksX13_crowd_1 14 rfl rfl)
theorem dX13_crowd_38 : decode cX13_crowd 38 = .ok (.istore 5, 2) := dk_54 5 (dk_at dksX13_crowd_1 15 rfl rfl)
theorem dX13_crowd_40 : decode cX13_crowd 40 = .ok (.iload 5, 2) := dk_21 5 (dk_at dksX13_crowd_1 17 rfl rfl)
theorem dX13_crowd_42 : decode cX13_crowd 42 = .ok (.aload_n 0, 1) := dk_42 (dk_at dksX13_crowd_1 19 rfl rfl)
theorem dX13_crowd_43 : decode cX13_crowd 43 = .ok (.getfield 43, 3) := dk_180 0 43 (dk_at dksX13_crowd_1 20 rfl rfl)
theorem dX13_crowd_46 : decode cX13_crowd 46 = .ok (.aload_n 0, 1) := dk_42 (dk_at dksX13_crowd_1 23 rfl rfl)
theorem dX13_crowd_47 : decode cX13_crowd 47 = .ok (.getfield 258, 3) := dk_180 1 2 (dk_at dksX13_crowd_2 0 rfl rfl)
theorem dX13_crowd_50 : decode cX13_crowd 50 = .ok (.iaload, 1) := dk_46 (dk_at dksX13_crowd_2 3 rfl rfl)
theorem dX13_crowd_51 : decode cX13_crowd 51 = .ok (.if_icmp .ge 72, 3) := dk_162 0 72 (dk_at dksX13_crowd_2 4 rfl rfl)
theorem dX13_crowd_54 : decode cX13_crowd 54 = .ok (.iconst 0, 1) := dk_3 (dk_at dksX13_crowd_2 7 rfl rfl)
theorem dX13_crowd_55 : decode cX13_crowd 55 = .ok (.istore 6, 2) := dk_54 6 (dk_at dksX13_crowd_2 8 rfl rfl)
theorem dX13_crowd_57 : decode cX13_crowd 57 = .ok (.iconst 0, 1) := dk_3 (dk_at dksX13_crowd_2 10 rfl rfl)
theorem dX13_crowd_58 : decode cX13_crowd 58 = .ok (.istore 7, 2) := dk_54 7 (dk_at dksX13_crowd_2 11 rfl rfl)
theorem dX13_crowd_60 : decode cX13_crowd 60 = .ok (.iload 7, 2) := dk_21 7 (dk_at dksX13_crowd_2 13 rfl rfl)
theorem dX13_crowd_62 : decode cX13_crowd 62 = .ok (.aload_n 0, 1) := dk_42 (dk_at dksX13_crowd_2 15 rfl rfl)
theorem dX13_crowd_63 : decode cX13_crowd 63 = .ok (.getfield 49, 3) := dk_180 0 49 (dk_at dksX13_crowd_2 16 rfl rfl)
theorem dX13_crowd_66 : decode cX13_crowd 66 = .ok (.aload_n 0, 1) := dk_42 (dk_at dksX13_crowd_2 19 rfl rfl)
theorem dX13_crowd_67 : decode cX13_crowd 67 = .ok (.getfield 258, 3) := dk_180 1 2 (dk_at dksX13_crowd_2 20 rfl rfl)
theorem dX13_crowd_70 : decode cX13_crowd 70 = .ok (.iaload, 1) := dk_46 (dk_at dksX13_crowd_2 23 rfl rfl)
theorem dX13_crowd_71 : decode cX13_crowd 71 = .ok (.if_icmp .ge 25, 3) := dk_162 0 25 (dk_at dksX13_crowd_3 0 rfl rfl)
theorem dX13_crowd_74 : decode cX13_crowd 74 = .ok (.aload_n 0, 1) := dk_42 (dk_at dksX13_crowd_3 3 rfl rfl)
theorem dX13_crowd_75 : decode cX13_crowd 75 = .ok (.iload 7, 2) := dk_21 7 (dk_at dksX13_crowd_3 4 rfl rfl)
theorem dX13_crowd_77 : decode cX13_crowd 77 = .ok (.iload 5, 2) := dk_21 5 (dk_at dksX13_crowd_3 6 rfl rfl)
theorem dX13_crowd_79 : decode cX13_crowd 79 = .ok (.iload 4, 2) := dk_21 4 (dk_at dksX13_crowd_3 8 rfl rfl)
theorem dX13_crowd_81 : decode cX13_crowd 81 = .ok (.invokevirtual 470, 3) := dk_182 1 214 (dk_at dksX13_crowd_3 10 rfl rfl)
theorem dX13_crowd_84 : decode cX13_crowd 84 = .ok (.ifCond .eq 6, 3) := dk_153 0 6 (dk_at dksX13_crowd_3 13 rfl rfl)
theorem dX13_crowd_87 : decode cX13_crowd 87 = .ok (.iinc 6 1, 3) := dk_132 6 1 (dk_at dksX13_crowd_3 16 rfl rfl)
theorem dX13_crowd_90 : decode cX13_crowd 90 = .ok (.iinc 7 1, 3) := dk_132 7 1 (dk_at dksX13_crowd_3 19 rfl rfl)
theorem dX13_crowd_93 : decode cX13_crowd 93 = .ok (.goto (-33), 3) := dk_167 255 223 (dk_at dksX13_crowd_4 0 rfl rfl)
theorem dX13_crowd_96 : decode cX13_crowd 96 = .ok (.iload 6, 2) := dk_21 6 (dk_at dksX13_crowd_4 3 rfl rfl)
theorem dX13_crowd_98 : decode cX13_crowd 98 = .ok (.iload_n 3, 1) := dk_29 (dk_at dksX13_crowd_4 5 rfl rfl)
theorem dX13_crowd_99 : decode cX13_crowd 99 = .ok (.if_icmp .gt 6, 3) := dk_163 0 6 (dk_at dksX13_crowd_4 6 rfl rfl)
theorem dX13_crowd_102 : decode cX13_crowd 102 = .ok (.goto 15, 3) := dk_167 0 15 (dk_at dksX13_crowd_4 9 rfl rfl)
theorem dX13_crowd_105 : decode cX13_crowd 105 = .ok (.bipush 100, 2) := dk_16 100 (dk_at dksX13_crowd_4 12 rfl rfl)
theorem dX13_crowd_107 : decode cX13_crowd 107 = .ok (.iload 4, 2) := dk_21 4 (dk_at dksX13_crowd_4 14 rfl rfl)
theorem dX13_crowd_109 : decode cX13_crowd 109 = .ok (.imul, 1) := dk_104 (dk_at dksX13_crowd_4 16 rfl rfl)
theorem dX13_crowd_110 : decode cX13_crowd 110 = .ok (.iload 5, 2) := dk_21 5 (dk_at dksX13_crowd_4 17 rfl rfl)
theorem dX13_crowd_112 : decode cX13_crowd 112 = .ok (.iadd, 1) := dk_96 (dk_at dksX13_crowd_4 19 rfl rfl)
theorem dX13_crowd_113 : decode cX13_crowd 113 = .ok (.istore_n 2, 1) := dk_61 (dk_at dksX13_crowd_4 20 rfl rfl)
theorem dX13_crowd_114 : decode cX13_crowd 114 = .ok (.iload 6, 2) := dk_21 6 (dk_at dksX13_crowd_4 21 rfl rfl)
theorem dX13_crowd_116 : decode cX13_crowd 116 = .ok (.istore_n 3, 1) := dk_62 (dk_at dksX13_crowd_4 23 rfl rfl)
theorem dX13_crowd_117 : decode cX13_crowd 117 = .ok (.iinc 5 1, 3) := dk_132 5 1 (dk_at dksX13_crowd_5 0 rfl rfl)
theorem dX13_crowd_120 : decode cX13_crowd 120 = .ok (.goto (-80), 3) := dk_167 255 176 (dk_at dksX13_crowd_5 3 rfl rfl)
theorem dX13_crowd_123 : decode cX13_crowd 123 = .ok (.iinc 4 1, 3) := dk_132 4 1 (dk_at dksX13_crowd_5 6 rfl rfl)
theorem dX13_crowd_126 : decode cX13_crowd 126 = .ok (.goto (-103), 3) := dk_167 255 153 (dk_at dksX13_crowd_5 9 rfl rfl)
theorem dX13_crowd_129 : decode cX13_crowd 129 = .ok (.iload_n 2, 1) := dk_28 (dk_at dksX13_crowd_5 12 rfl rfl)
theorem dX13_crowd_130 : decode cX13_crowd 130 = .ok (.ifCond .lt 7, 3) := dk_155 0 7 (dk_at dksX13_crowd_5 13 rfl rfl)
theorem dX13_crowd_133 : decode cX13_crowd 133 = .ok (.iload_n 1, 1) := dk_27 (dk_at dksX13_crowd_5 16 rfl rfl)
theorem dX13_crowd_134 : decode cX13_crowd 134 = .ok (.ifCond .ne 7, 3) := dk_154 0 7 (dk_at dksX13_crowd_5 17 rfl rfl)
theorem dX13_crowd_137 : decode cX13_crowd 137 = .ok (.iload_n 2, 1) := dk_28 (dk_at dksX13_crowd_5 20 rfl rfl)
theorem dX13_crowd_138 : decode cX13_crowd 138 = .ok (.goto 4, 3) := dk_167 0 4 (dk_at dksX13_crowd_5 21 rfl rfl)
theorem dX13_crowd_141 : decode cX13_crowd 141 = .ok (.iload_n 3, 1) := dk_29 (dk_at dksX13_crowd_6 0 rfl rfl)
theorem dX13_crowd_142 : decode cX13_crowd 142 = .ok (.ireturn, 1) := dk_172 (dk_at dksX13_crowd_6 1 rfl rfl)
abbrev cX13_comesTo : ByteArray := prog_21_method_108_code
def yX13_comesTo : MethodName := ⟨RX13, "comesTo", "(III)Z"⟩
def dkwX13_comesTo_5 : List UInt8 := [54, 5, 21, 4, 28, 160, 0, 11, 21, 5, 29, 160, 0, 5, 4, 172, 132, 6, 1, 167, 255, 179, 3, 172]
abbrev dktX13_comesTo_5 : List UInt8 := dkwX13_comesTo_5 ++ []
def dkwX13_comesTo_4 : List UInt8 := [96, 54, 4, 21, 5, 42, 180, 0, 131, 16, 30, 16, 60, 27, 104, 96, 21, 6, 96, 46, 184, 1, 115, 96]
abbrev dktX13_comesTo_4 : List UInt8 := dkwX13_comesTo_4 ++ dktX13_comesTo_5
def dkwX13_comesTo_3 : List UInt8 := [46, 162, 0, 69, 21, 4, 42, 180, 0, 131, 16, 30, 16, 60, 27, 104, 96, 21, 6, 96, 46, 184, 1, 112]
abbrev dktX13_comesTo_3 : List UInt8 := dkwX13_comesTo_3 ++ dktX13_comesTo_4
def dkwX13_comesTo_2 : List UInt8 := [160, 0, 11, 21, 5, 29, 160, 0, 5, 4, 172, 3, 54, 6, 21, 6, 42, 180, 0, 131, 16, 14, 27, 96]
abbrev dktX13_comesTo_2 : List UInt8 := dkwX13_comesTo_2 ++ dktX13_comesTo_3
def dkwX13_comesTo_1 : List UInt8 := [180, 1, 2, 104, 27, 96, 46, 54, 5, 42, 180, 0, 131, 16, 14, 27, 96, 46, 158, 0, 17, 21, 4, 28]
abbrev dktX13_comesTo_1 : List UInt8 := dkwX13_comesTo_1 ++ dktX13_comesTo_2
def dkwX13_comesTo_0 : List UInt8 := [42, 180, 0, 52, 16, 7, 42, 180, 1, 2, 104, 27, 96, 46, 54, 4, 42, 180, 0, 55, 16, 7, 42]
abbrev dktX13_comesTo_0 : List UInt8 := dkwX13_comesTo_0 ++ dktX13_comesTo_1
theorem dksX13_comesTo_0 : cX13_comesTo.data.toList.drop 0 = dktX13_comesTo_0 := by decide +kernel
theorem dksX13_comesTo_1 : cX13_comesTo.data.toList.drop 23 = dktX13_comesTo_1 := dk_seg dksX13_comesTo_0 23 rfl rfl
theorem dksX13_comesTo_2 : cX13_comesTo.data.toList.drop 47 = dktX13_comesTo_2 := dk_seg dksX13_comesTo_1 24 rfl rfl
theorem dksX13_comesTo_3 : cX13_comesTo.data.toList.drop 71 = dktX13_comesTo_3 := dk_seg dksX13_comesTo_2 24 rfl rfl
theorem dksX13_comesTo_4 : cX13_comesTo.data.toList.drop 95 = dktX13_comesTo_4 := dk_seg dksX13_comesTo_3 24 rfl rfl
theorem dksX13_comesTo_5 : cX13_comesTo.data.toList.drop 119 = dktX13_comesTo_5 := dk_seg dksX13_comesTo_4 24 rfl rfl
theorem dX13_comesTo_0 : decode cX13_comesTo 0 = .ok (.aload_n 0, 1) := dk_42 (dk_at dksX13_comesTo_0 0 rfl rfl)
theorem dX13_comesTo_1 : decode cX13_comesTo 1 = .ok (.getfield 52, 3) := dk_180 0 52 (dk_at dksX13_comesTo_0 1 rfl rfl)
theorem dX13_comesTo_4 : decode cX13_comesTo 4 = .ok (.bipush 7, 2) := dk_16 7 (dk_at dksX13_comesTo_0 4 rfl rfl)
theorem dX13_comesTo_6 : decode cX13_comesTo 6 = .ok (.aload_n 0, 1) := dk_42 (dk_at dksX13_comesTo_0 6 rfl rfl)
theorem dX13_comesTo_7 : decode cX13_comesTo 7 = .ok (.getfield 258, 3) := dk_180 1 2 (dk_at dksX13_comesTo_0 7 rfl rfl)
theorem dX13_comesTo_10 : decode cX13_comesTo 10 = .ok (.imul, 1) := dk_104 (dk_at dksX13_comesTo_0 10 rfl rfl)
theorem dX13_comesTo_11 : decode cX13_comesTo 11 = .ok (.iload_n 1, 1) := dk_27 (dk_at dksX13_comesTo_0 11 rfl rfl)
theorem dX13_comesTo_12 : decode cX13_comesTo 12 = .ok (.iadd, 1) := dk_96 (dk_at dksX13_comesTo_0 12 rfl rfl)
theorem dX13_comesTo_13 : decode cX13_comesTo 13 = .ok (.iaload, 1) := dk_46 (dk_at dksX13_comesTo_0 13 rfl rfl)
theorem dX13_comesTo_14 : decode cX13_comesTo 14 = .ok (.istore 4, 2) := dk_54 4 (dk_at dksX13_comesTo_0 14 rfl rfl)
theorem dX13_comesTo_16 : decode cX13_comesTo 16 = .ok (.aload_n 0, 1) := dk_42 (dk_at dksX13_comesTo_0 16 rfl rfl)
theorem dX13_comesTo_17 : decode cX13_comesTo 17 = .ok (.getfield 55, 3) := dk_180 0 55 (dk_at dksX13_comesTo_0 17 rfl rfl)
theorem dX13_comesTo_20 : decode cX13_comesTo 20 = .ok (.bipush 7, 2) := dk_16 7 (dk_at dksX13_comesTo_0 20 rfl rfl)
theorem dX13_comesTo_22 : decode cX13_comesTo 22 = .ok (.aload_n 0, 1) := dk_42 (dk_at dksX13_comesTo_0 22 rfl rfl)
theorem dX13_comesTo_23 : decode cX13_comesTo 23 = .ok (.getfield 258, 3) := dk_180 1 2 (dk_at dksX13_comesTo_1 0 rfl rfl)
theorem dX13_comesTo_26 : decode cX13_comesTo 26 = .ok (.imul, 1) := dk_104 (dk_at dksX13_comesTo_1 3 rfl rfl)
theorem dX13_comesTo_27 : decode cX13_comesTo 27 = .ok (.iload_n 1, 1) := dk_27 (dk_at dksX13_comesTo_1 4 rfl rfl)
theorem dX13_comesTo_28 : decode cX13_comesTo 28 = .ok (.iadd, 1) := dk_96 (dk_at dksX13_comesTo_1 5 rfl rfl)
theorem dX13_comesTo_29 : decode cX13_comesTo 29 = .ok (.iaload, 1) := dk_46 (dk_at dksX13_comesTo_1 6 rfl rfl)
theorem dX13_comesTo_30 : decode cX13_comesTo 30 = .ok (.istore 5, 2) := dk_54 5 (dk_at dksX13_comesTo_1 7 rfl rfl)
theorem dX13_comesTo_32 : decode cX13_comesTo 32 = .ok (.aload_n 0, 1) := dk_42 (dk_at dksX13_comesTo_1 9 rfl rfl)
theorem dX13_comesTo_33 : decode cX13_comesTo 33 = .ok (.getfield 131, 3) := dk_180 0 131 (dk_at dksX13_comesTo_1 10 rfl rfl)
theorem dX13_comesTo_36 : decode cX13_comesTo 36 = .ok (.bipush 14, 2) := dk_16 14 (dk_at dksX13_comesTo_1 13 rfl rfl)
theorem dX13_comesTo_38 : decode cX13_comesTo 38 = .ok (.iload_n 1, 1) := dk_27 (dk_at dksX13_comesTo_1 15 rfl rfl)
theorem dX13_comesTo_39 : decode cX13_comesTo 39 = .ok (.iadd, 1) := dk_96 (dk_at dksX13_comesTo_1 16 rfl rfl)
theorem dX13_comesTo_40 : decode cX13_comesTo 40 = .ok (.iaload, 1) := dk_46 (dk_at dksX13_comesTo_1 17 rfl rfl)
theorem dX13_comesTo_41 : decode cX13_comesTo 41 = .ok (.ifCond .le 17, 3) := dk_158 0 17 (dk_at dksX13_comesTo_1 18 rfl rfl)
theorem dX13_comesTo_44 : decode cX13_comesTo 44 = .ok (.iload 4, 2) := dk_21 4 (dk_at dksX13_comesTo_1 21 rfl rfl)
theorem dX13_comesTo_46 : decode cX13_comesTo 46 = .ok (.iload_n 2, 1) := dk_28 (dk_at dksX13_comesTo_1 23 rfl rfl)
theorem dX13_comesTo_47 : decode cX13_comesTo 47 = .ok (.if_icmp .ne 11, 3) := dk_160 0 11 (dk_at dksX13_comesTo_2 0 rfl rfl)
theorem dX13_comesTo_50 : decode cX13_comesTo 50 = .ok (.iload 5, 2) := dk_21 5 (dk_at dksX13_comesTo_2 3 rfl rfl)
theorem dX13_comesTo_52 : decode cX13_comesTo 52 = .ok (.iload_n 3, 1) := dk_29 (dk_at dksX13_comesTo_2 5 rfl rfl)
theorem dX13_comesTo_53 : decode cX13_comesTo 53 = .ok (.if_icmp .ne 5, 3) := dk_160 0 5 (dk_at dksX13_comesTo_2 6 rfl rfl)
theorem dX13_comesTo_56 : decode cX13_comesTo 56 = .ok (.iconst 1, 1) := dk_4 (dk_at dksX13_comesTo_2 9 rfl rfl)
theorem dX13_comesTo_57 : decode cX13_comesTo 57 = .ok (.ireturn, 1) := dk_172 (dk_at dksX13_comesTo_2 10 rfl rfl)
theorem dX13_comesTo_58 : decode cX13_comesTo 58 = .ok (.iconst 0, 1) := dk_3 (dk_at dksX13_comesTo_2 11 rfl rfl)
theorem dX13_comesTo_59 : decode cX13_comesTo 59 = .ok (.istore 6, 2) := dk_54 6 (dk_at dksX13_comesTo_2 12 rfl rfl)
theorem dX13_comesTo_61 : decode cX13_comesTo 61 = .ok (.iload 6, 2) := dk_21 6 (dk_at dksX13_comesTo_2 14 rfl rfl)
theorem dX13_comesTo_63 : decode cX13_comesTo 63 = .ok (.aload_n 0, 1) := dk_42 (dk_at dksX13_comesTo_2 16 rfl rfl)
theorem dX13_comesTo_64 : decode cX13_comesTo 64 = .ok (.getfield 131, 3) := dk_180 0 131 (dk_at dksX13_comesTo_2 17 rfl rfl)
theorem dX13_comesTo_67 : decode cX13_comesTo 67 = .ok (.bipush 14, 2) := dk_16 14 (dk_at dksX13_comesTo_2 20 rfl rfl)
theorem dX13_comesTo_69 : decode cX13_comesTo 69 = .ok (.iload_n 1, 1) := dk_27 (dk_at dksX13_comesTo_2 22 rfl rfl)
theorem dX13_comesTo_70 : decode cX13_comesTo 70 = .ok (.iadd, 1) := dk_96 (dk_at dksX13_comesTo_2 23 rfl rfl)
theorem dX13_comesTo_71 : decode cX13_comesTo 71 = .ok (.iaload, 1) := dk_46 (dk_at dksX13_comesTo_3 0 rfl rfl)
theorem dX13_comesTo_72 : decode cX13_comesTo 72 = .ok (.if_icmp .ge 69, 3) := dk_162 0 69 (dk_at dksX13_comesTo_3 1 rfl rfl)
theorem dX13_comesTo_75 : decode cX13_comesTo 75 = .ok (.iload 4, 2) := dk_21 4 (dk_at dksX13_comesTo_3 4 rfl rfl)
theorem dX13_comesTo_77 : decode cX13_comesTo 77 = .ok (.aload_n 0, 1) := dk_42 (dk_at dksX13_comesTo_3 6 rfl rfl)
theorem dX13_comesTo_78 : decode cX13_comesTo 78 = .ok (.getfield 131, 3) := dk_180 0 131 (dk_at dksX13_comesTo_3 7 rfl rfl)
theorem dX13_comesTo_81 : decode cX13_comesTo 81 = .ok (.bipush 30, 2) := dk_16 30 (dk_at dksX13_comesTo_3 10 rfl rfl)
theorem dX13_comesTo_83 : decode cX13_comesTo 83 = .ok (.bipush 60, 2) := dk_16 60 (dk_at dksX13_comesTo_3 12 rfl rfl)
theorem dX13_comesTo_85 : decode cX13_comesTo 85 = .ok (.iload_n 1, 1) := dk_27 (dk_at dksX13_comesTo_3 14 rfl rfl)
theorem dX13_comesTo_86 : decode cX13_comesTo 86 = .ok (.imul, 1) := dk_104 (dk_at dksX13_comesTo_3 15 rfl rfl)
theorem dX13_comesTo_87 : decode cX13_comesTo 87 = .ok (.iadd, 1) := dk_96 (dk_at dksX13_comesTo_3 16 rfl rfl)
theorem dX13_comesTo_88 : decode cX13_comesTo 88 = .ok (.iload 6, 2) := dk_21 6 (dk_at dksX13_comesTo_3 17 rfl rfl)
theorem dX13_comesTo_90 : decode cX13_comesTo 90 = .ok (.iadd, 1) := dk_96 (dk_at dksX13_comesTo_3 19 rfl rfl)
theorem dX13_comesTo_91 : decode cX13_comesTo 91 = .ok (.iaload, 1) := dk_46 (dk_at dksX13_comesTo_3 20 rfl rfl)
theorem dX13_comesTo_92 : decode cX13_comesTo 92 = .ok (.invokestatic 368, 3) := dk_184 1 112 (dk_at dksX13_comesTo_3 21 rfl rfl)
theorem dX13_comesTo_95 : decode cX13_comesTo 95 = .ok (.iadd, 1) := dk_96 (dk_at dksX13_comesTo_4 0 rfl rfl)
theorem dX13_comesTo_96 : decode cX13_comesTo 96 = .ok (.istore 4, 2) := dk_54 4 (dk_at dksX13_comesTo_4 1 rfl rfl)
theorem dX13_comesTo_98 : decode cX13_comesTo 98 = .ok (.iload 5, 2) := dk_21 5 (dk_at dksX13_comesTo_4 3 rfl rfl)
theorem dX13_comesTo_100 : decode cX13_comesTo 100 = .ok (.aload_n 0, 1) := dk_42 (dk_at dksX13_comesTo_4 5 rfl rfl)
theorem dX13_comesTo_101 : decode cX13_comesTo 101 = .ok (.getfield 131, 3) := dk_180 0 131 (dk_at dksX13_comesTo_4 6 rfl rfl)
theorem dX13_comesTo_104 : decode cX13_comesTo 104 = .ok (.bipush 30, 2) := dk_16 30 (dk_at dksX13_comesTo_4 9 rfl rfl)
theorem dX13_comesTo_106 : decode cX13_comesTo 106 = .ok (.bipush 60, 2) := dk_16 60 (dk_at dksX13_comesTo_4 11 rfl rfl)
theorem dX13_comesTo_108 : decode cX13_comesTo 108 = .ok (.iload_n 1, 1) := dk_27 (dk_at dksX13_comesTo_4 13 rfl rfl)
theorem dX13_comesTo_109 : decode cX13_comesTo 109 = .ok (.imul, 1) := dk_104 (dk_at dksX13_comesTo_4 14 rfl rfl)
theorem dX13_comesTo_110 : decode cX13_comesTo 110 = .ok (.iadd, 1) := dk_96 (dk_at dksX13_comesTo_4 15 rfl rfl)
theorem dX13_comesTo_111 : decode cX13_comesTo 111 = .ok (.iload 6, 2) := dk_21 6 (dk_at dksX13_comesTo_4 16 rfl rfl)
theorem dX13_comesTo_113 : decode cX13_comesTo 113 = .ok (.iadd, 1) := dk_96 (dk_at dksX13_comesTo_4 18 rfl rfl)
theorem dX13_comesTo_114 : decode cX13_comesTo 114 = .ok (.iaload, 1) := dk_46 (dk_at dksX13_comesTo_4 19 rfl rfl)
theorem dX13_comesTo_115 : decode cX13_comesTo 115 = .ok (.invokestatic 371, 3) := dk_184 1 115 (dk_at dksX13_comesTo_4 20 rfl rfl)
theorem dX13_comesTo_118 : decode cX13_comesTo 118 = .ok (.iadd, 1) := dk_96 (dk_at dksX13_comesTo_4 23 rfl rfl)
theorem dX13_comesTo_119 : decode cX13_comesTo 119 = .ok (.istore 5, 2) := dk_54 5 (dk_at dksX13_comesTo_5 0 rfl rfl)
theorem dX13_comesTo_121 : decode cX13_comesTo 121 = .ok (.iload 4, 2) := dk_21 4 (dk_at dksX13_comesTo_5 2 rfl rfl)
theorem dX13_comesTo_123 : decode cX13_comesTo 123 = .ok (.iload_n 2, 1) := dk_28 (dk_at dksX13_comesTo_5 4 rfl rfl)
theorem dX13_comesTo_124 : decode cX13_comesTo 124 = .ok (.if_icmp .ne 11, 3) := dk_160 0 11 (dk_at dksX13_comesTo_5 5 rfl rfl)
theorem dX13_comesTo_127 : decode cX13_comesTo 127 = .ok (.iload 5, 2) := dk_21 5 (dk_at dksX13_comesTo_5 8 rfl rfl)
theorem dX13_comesTo_129 : decode cX13_comesTo 129 = .ok (.iload_n 3, 1) := dk_29 (dk_at dksX13_comesTo_5 10 rfl rfl)
theorem dX13_comesTo_130 : decode cX13_comesTo 130 = .ok (.if_icmp .ne 5, 3) := dk_160 0 5 (dk_at dksX13_comesTo_5 11 rfl rfl)
theorem dX13_comesTo_133 : decode cX13_comesTo 133 = .ok (.iconst 1, 1) := dk_4 (dk_at dksX13_comesTo_5 14 rfl rfl)
theorem dX13_comesTo_134 : decode cX13_comesTo 134 = .ok (.ireturn, 1) := dk_172 (dk_at dksX13_comesTo_5 15 rfl rfl)
theorem dX13_comesTo_135 : decode cX13_comesTo 135 = .ok (.iinc 6 1, 3) := dk_132 6 1 (dk_at dksX13_comesTo_5 16 rfl rfl)
theorem dX13_comesTo_138 : decode cX13_comesTo 138 = .ok (.goto (-77), 3) := dk_167 255 179 (dk_at dksX13_comesTo_5 19 rfl rfl)
theorem dX13_comesTo_141 : decode cX13_comesTo 141 = .ok (.iconst 0, 1) := dk_3 (dk_at dksX13_comesTo_5 22 rfl rfl)
theorem dX13_comesTo_142 : decode cX13_comesTo 142 = .ok (.ireturn, 1) := dk_172 (dk_at dksX13_comesTo_5 23 rfl rfl)
abbrev cX13_plain : ByteArray := prog_21_method_111_code
def yX13_plain : MethodName := ⟨RX13, "plain", "(I)I"⟩
def dkwX13_plain_13 : List UInt8 := [167, 255, 128, 27, 154, 0, 7, 29, 167, 0, 4, 28, 172]
abbrev dktX13_plain_13 : List UInt8 := dkwX13_plain_13 ++ []
def dkwX13_plain_12 : List UInt8 := [29, 155, 0, 12, 21, 5, 29, 161, 0, 6, 167, 0, 9, 21, 4, 61, 21, 5, 62, 132, 4, 1]
abbrev dktX13_plain_12 : List UInt8 := dkwX13_plain_12 ++ dktX13_plain_13
def dkwX13_plain_11 : List UInt8 := [21, 4, 21, 7, 122, 4, 126, 96, 46, 96, 54, 5, 132, 7, 1, 167, 255, 201, 132, 6, 1, 167, 255, 175]
abbrev dktX13_plain_11 : List UInt8 := dkwX13_plain_11 ++ dktX13_plain_12
def dkwX13_plain_10 : List UInt8 := [180, 0, 159, 16, 14, 5, 21, 6, 104, 21, 4, 21, 6, 122, 4, 126, 96, 104, 5, 21, 7, 104, 96]
abbrev dktX13_plain_10 : List UInt8 := dkwX13_plain_10 ++ dktX13_plain_11
def dkwX13_plain_9 : List UInt8 := [21, 6, 4, 96, 54, 7, 21, 7, 42, 180, 0, 49, 42, 180, 1, 2, 46, 162, 0, 47, 21, 5, 42]
abbrev dktX13_plain_9 : List UInt8 := dkwX13_plain_9 ++ dktX13_plain_10
def dkwX13_plain_8 : List UInt8 := [162, 0, 118, 3, 54, 5, 3, 54, 6, 21, 6, 42, 180, 0, 49, 42, 180, 1, 2, 46, 162, 0, 73]
abbrev dktX13_plain_8 : List UInt8 := dkwX13_plain_8 ++ dktX13_plain_9
def dkwX13_plain_7 : List UInt8 := [167, 255, 145, 3, 61, 2, 62, 3, 54, 4, 21, 4, 4, 42, 180, 0, 49, 42, 180, 1, 2, 46, 120]
abbrev dktX13_plain_7 : List UInt8 := dkwX13_plain_7 ++ dktX13_plain_8
def dkwX13_plain_6 : List UInt8 := [104, 21, 4, 96, 46, 104, 96, 79, 132, 4, 1, 167, 255, 204, 132, 3, 1, 167, 255, 168, 132, 2, 1]
abbrev dktX13_plain_6 : List UInt8 := dkwX13_plain_6 ++ dktX13_plain_7
def dkwX13_plain_5 : List UInt8 := [96, 92, 46, 42, 180, 0, 156, 17, 1, 32, 28, 104, 21, 4, 96, 46, 42, 180, 0, 156, 17, 1, 32, 29]
abbrev dktX13_plain_5 : List UInt8 := dkwX13_plain_5 ++ dktX13_plain_6
def dkwX13_plain_4 : List UInt8 := [29, 96, 3, 79, 3, 54, 4, 21, 4, 17, 1, 32, 162, 0, 50, 42, 180, 0, 159, 16, 14, 28, 104, 29]
abbrev dktX13_plain_4 : List UInt8 := dkwX13_plain_4 ++ dktX13_plain_5
def dkwX13_plain_3 : List UInt8 := [62, 29, 5, 42, 180, 0, 49, 42, 180, 1, 2, 46, 104, 162, 0, 79, 42, 180, 0, 159, 16, 14, 28, 104]
abbrev dktX13_plain_3 : List UInt8 := dkwX13_plain_3 ++ dktX13_plain_4
def dkwX13_plain_2 : List UInt8 := [132, 2, 1, 167, 255, 221, 3, 61, 28, 5, 42, 180, 0, 49, 42, 180, 1, 2, 46, 104, 162, 0, 102, 3]
abbrev dktX13_plain_2 : List UInt8 := dkwX13_plain_2 ++ dktX13_plain_3
def dkwX13_plain_1 : List UInt8 := [162, 0, 28, 3, 62, 29, 5, 162, 0, 15, 42, 28, 29, 182, 1, 217, 132, 3, 1, 167, 255, 242]
abbrev dktX13_plain_1 : List UInt8 := dkwX13_plain_1 ++ dktX13_plain_2
def dkwX13_plain_0 : List UInt8 := [27, 3, 4, 184, 1, 89, 154, 0, 5, 2, 172, 3, 61, 28, 42, 180, 0, 49, 42, 180, 1, 2, 46]
abbrev dktX13_plain_0 : List UInt8 := dkwX13_plain_0 ++ dktX13_plain_1
theorem dksX13_plain_0 : cX13_plain.data.toList.drop 0 = dktX13_plain_0 := by decide +kernel
theorem dksX13_plain_1 : cX13_plain.data.toList.drop 23 = dktX13_plain_1 := dk_seg dksX13_plain_0 23 rfl rfl
theorem dksX13_plain_2 : cX13_plain.data.toList.drop 45 = dktX13_plain_2 := dk_seg dksX13_plain_1 22 rfl rfl
theorem dksX13_plain_3 : cX13_plain.data.toList.drop 69 = dktX13_plain_3 := dk_seg dksX13_plain_2 24 rfl rfl
theorem dksX13_plain_4 : cX13_plain.data.toList.drop 93 = dktX13_plain_4 := dk_seg dksX13_plain_3 24 rfl rfl
theorem dksX13_plain_5 : cX13_plain.data.toList.drop 117 = dktX13_plain_5 := dk_seg dksX13_plain_4 24 rfl rfl
theorem dksX13_plain_6 : cX13_plain.data.toList.drop 141 = dktX13_plain_6 := dk_seg dksX13_plain_5 24 rfl rfl
theorem dksX13_plain_7 : cX13_plain.data.toList.drop 164 = dktX13_plain_7 := dk_seg dksX13_plain_6 23 rfl rfl
theorem dksX13_plain_8 : cX13_plain.data.toList.drop 187 = dktX13_plain_8 := dk_seg dksX13_plain_7 23 rfl rfl
theorem dksX13_plain_9 : cX13_plain.data.toList.drop 210 = dktX13_plain_9 := dk_seg dksX13_plain_8 23 rfl rfl
theorem dksX13_plain_10 : cX13_plain.data.toList.drop 233 = dktX13_plain_10 := dk_seg dksX13_plain_9 23 rfl rfl
theorem dksX13_plain_11 : cX13_plain.data.toList.drop 256 = dktX13_plain_11 := dk_seg dksX13_plain_10 23 rfl rfl
theorem dksX13_plain_12 : cX13_plain.data.toList.drop 280 = dktX13_plain_12 := dk_seg dksX13_plain_11 24 rfl rfl
theorem dksX13_plain_13 : cX13_plain.data.toList.drop 302 = dktX13_plain_13 := dk_seg dksX13_plain_12 22 rfl rfl
theorem dX13_plain_0 : decode cX13_plain 0 = .ok (.iload_n 1, 1) := dk_27 (dk_at dksX13_plain_0 0 rfl rfl)
theorem dX13_plain_1 : decode cX13_plain 1 = .ok (.iconst 0, 1) := dk_3 (dk_at dksX13_plain_0 1 rfl rfl)
theorem dX13_plain_2 : decode cX13_plain 2 = .ok (.iconst 1, 1) := dk_4 (dk_at dksX13_plain_0 2 rfl rfl)
theorem dX13_plain_3 : decode cX13_plain 3 = .ok (.invokestatic 345, 3) := dk_184 1 89 (dk_at dksX13_plain_0 3 rfl rfl)
theorem dX13_plain_6 : decode cX13_plain 6 = .ok (.ifCond .ne 5, 3) := dk_154 0 5 (dk_at dksX13_plain_0 6 rfl rfl)
theorem dX13_plain_9 : decode cX13_plain 9 = .ok (.iconst (-1), 1) := dk_2 (dk_at dksX13_plain_0 9 rfl rfl)
theorem dX13_plain_10 : decode cX13_plain 10 = .ok (.ireturn, 1) := dk_172 (dk_at dksX13_plain_0 10 rfl rfl)
theorem dX13_plain_11 : decode cX13_plain 11 = .ok (.iconst 0, 1) := dk_3 (dk_at dksX13_plain_0 11 rfl rfl)
theorem dX13_plain_12 : decode cX13_plain 12 = .ok (.istore_n 2, 1) := dk_61 (dk_at dksX13_plain_0 12 rfl rfl)
theorem dX13_plain_13 : decode cX13_plain 13 = .ok (.iload_n 2, 1) := dk_28 (dk_at dksX13_plain_0 13 rfl rfl)
theorem dX13_plain_14 : decode cX13_plain 14 = .ok (.aload_n 0, 1) := dk_42 (dk_at dksX13_plain_0 14 rfl rfl)
theorem dX13_plain_15 : decode cX13_plain 15 = .ok (.getfield 49, 3) := dk_180 0 49 (dk_at dksX13_plain_0 15 rfl rfl)
theorem dX13_plain_18 : decode cX13_plain 18 = .ok (.aload_n 0, 1) := dk_42 (dk_at dksX13_plain_0 18 rfl rfl)
theorem dX13_plain_19 : decode cX13_plain 19 = .ok (.getfield 258, 3) := dk_180 1 2 (dk_at dksX13_plain_0 19 rfl rfl)
theorem dX13_plain_22 : decode cX13_plain 22 = .ok (.iaload, 1) := dk_46 (dk_at dksX13_plain_0 22 rfl rfl)
theorem dX13_plain_23 : decode cX13_plain 23 = .ok (.if_icmp .ge 28, 3) := dk_162 0 28 (dk_at dksX13_plain_1 0 rfl rfl)
theorem dX13_plain_26 : decode cX13_plain 26 = .ok (.iconst 0, 1) := dk_3 (dk_at dksX13_plain_1 3 rfl rfl)
theorem dX13_plain_27 : decode cX13_plain 27 = .ok (.istore_n 3, 1) := dk_62 (dk_at dksX13_plain_1 4 rfl rfl)
theorem dX13_plain_28 : decode cX13_plain 28 = .ok (.iload_n 3, 1) := dk_29 (dk_at dksX13_plain_1 5 rfl rfl)
theorem dX13_plain_29 : decode cX13_plain 29 = .ok (.iconst 2, 1) := dk_5 (dk_at dksX13_plain_1 6 rfl rfl)
theorem dX13_plain_30 : decode cX13_plain 30 = .ok (.if_icmp .ge 15, 3) := dk_162 0 15 (dk_at dksX13_plain_1 7 rfl rfl)
theorem dX13_plain_33 : decode cX13_plain 33 = .ok (.aload_n 0, 1) := dk_42 (dk_at dksX13_plain_1 10 rfl rfl)
theorem dX13_plain_34 : decode cX13_plain 34 = .ok (.iload_n 2, 1) := dk_28 (dk_at dksX13_plain_1 11 rfl rfl)
theorem dX13_plain_35 : decode cX13_plain 35 = .ok (.iload_n 3, 1) := dk_29 (dk_at dksX13_plain_1 12 rfl rfl)
theorem dX13_plain_36 : decode cX13_plain 36 = .ok (.invokevirtual 473, 3) := dk_182 1 217 (dk_at dksX13_plain_1 13 rfl rfl)
theorem dX13_plain_39 : decode cX13_plain 39 = .ok (.iinc 3 1, 3) := dk_132 3 1 (dk_at dksX13_plain_1 16 rfl rfl)
theorem dX13_plain_42 : decode cX13_plain 42 = .ok (.goto (-14), 3) := dk_167 255 242 (dk_at dksX13_plain_1 19 rfl rfl)
theorem dX13_plain_45 : decode cX13_plain 45 = .ok (.iinc 2 1, 3) := dk_132 2 1 (dk_at dksX13_plain_2 0 rfl rfl)
theorem dX13_plain_48 : decode cX13_plain 48 = .ok (.goto (-35), 3) := dk_167 255 221 (dk_at dksX13_plain_2 3 rfl rfl)
theorem dX13_plain_51 : decode cX13_plain 51 = .ok (.iconst 0, 1) := dk_3 (dk_at dksX13_plain_2 6 rfl rfl)
theorem dX13_plain_52 : decode cX13_plain 52 = .ok (.istore_n 2, 1) := dk_61 (dk_at dksX13_plain_2 7 rfl rfl)
theorem dX13_plain_53 : decode cX13_plain 53 = .ok (.iload_n 2, 1) := dk_28 (dk_at dksX13_plain_2 8 rfl rfl)
theorem dX13_plain_54 : decode cX13_plain 54 = .ok (.iconst 2, 1) := dk_5 (dk_at dksX13_plain_2 9 rfl rfl)
theorem dX13_plain_55 : decode cX13_plain 55 = .ok (.aload_n 0, 1) := dk_42 (dk_at dksX13_plain_2 10 rfl rfl)
theorem dX13_plain_56 : decode cX13_plain 56 = .ok (.getfield 49, 3) := dk_180 0 49 (dk_at dksX13_plain_2 11 rfl rfl)
theorem dX13_plain_59 : decode cX13_plain 59 = .ok (.aload_n 0, 1) := dk_42 (dk_at dksX13_plain_2 14 rfl rfl)
theorem dX13_plain_60 : decode cX13_plain 60 = .ok (.getfield 258, 3) := dk_180 1 2 (dk_at dksX13_plain_2 15 rfl rfl)
theorem dX13_plain_63 : decode cX13_plain 63 = .ok (.iaload, 1) := dk_46 (dk_at dksX13_plain_2 18 rfl rfl)
theorem dX13_plain_64 : decode cX13_plain 64 = .ok (.imul, 1) := dk_104 (dk_at dksX13_plain_2 19 rfl rfl)
theorem dX13_plain_65 : decode cX13_plain 65 = .ok (.if_icmp .ge 102, 3) := dk_162 0 102 (dk_at dksX13_plain_2 20 rfl rfl)
theorem dX13_plain_68 : decode cX13_plain 68 = .ok (.iconst 0, 1) := dk_3 (dk_at dksX13_plain_2 23 rfl rfl)
theorem dX13_plain_69 : decode cX13_plain 69 = .ok (.istore_n 3, 1) := dk_62 (dk_at dksX13_plain_3 0 rfl rfl)
theorem dX13_plain_70 : decode cX13_plain 70 = .ok (.iload_n 3, 1) := dk_29 (dk_at dksX13_plain_3 1 rfl rfl)
theorem dX13_plain_71 : decode cX13_plain 71 = .ok (.iconst 2, 1) := dk_5 (dk_at dksX13_plain_3 2 rfl rfl)
theorem dX13_plain_72 : decode cX13_plain 72 = .ok (.aload_n 0, 1) := dk_42 (dk_at dksX13_plain_3 3 rfl rfl)
theorem dX13_plain_73 : decode cX13_plain 73 = .ok (.getfield 49, 3) := dk_180 0 49 (dk_at dksX13_plain_3 4 rfl rfl)
theorem dX13_plain_76 : decode cX13_plain 76 = .ok (.aload_n 0, 1) := dk_42 (dk_at dksX13_plain_3 7 rfl rfl)
theorem dX13_plain_77 : decode cX13_plain 77 = .ok (.getfield 258, 3) := dk_180 1 2 (dk_at dksX13_plain_3 8 rfl rfl)
theorem dX13_plain_80 : decode cX13_plain 80 = .ok (.iaload, 1) := dk_46 (dk_at dksX13_plain_3 11 rfl rfl)
theorem dX13_plain_81 : decode cX13_plain 81 = .ok (.imul, 1) := dk_104 (dk_at dksX13_plain_3 12 rfl rfl)
theorem dX13_plain_82 : decode cX13_plain 82 = .ok (.if_icmp .ge 79, 3) := dk_162 0 79 (dk_at dksX13_plain_3 13 rfl rfl)
theorem dX13_plain_85 : decode cX13_plain 85 = .ok (.aload_n 0, 1) := dk_42 (dk_at dksX13_plain_3 16 rfl rfl)
theorem dX13_plain_86 : decode cX13_plain 86 = .ok (.getfield 159, 3) := dk_180 0 159 (dk_at dksX13_plain_3 17 rfl rfl)
theorem dX13_plain_89 : decode cX13_plain 89 = .ok (.bipush 14, 2) := dk_16 14 (dk_at dksX13_plain_3 20 rfl rfl)
theorem dX13_plain_91 : decode cX13_plain 91 = .ok (.iload_n 2, 1) := dk_28 (dk_at dksX13_plain_3 22 rfl rfl)
theorem dX13_plain_92 : decode cX13_plain 92 = .ok (.imul, 1) := dk_104 (dk_at dksX13_plain_3 23 rfl rfl)
theorem dX13_plain_93 : decode cX13_plain 93 = .ok (.iload_n 3, 1) := dk_29 (dk_at dksX13_plain_4 0 rfl rfl)
theorem dX13_plain_94 : decode cX13_plain 94 = .ok (.iadd, 1) := dk_96 (dk_at dksX13_plain_4 1 rfl rfl)
theorem dX13_plain_95 : decode cX13_plain 95 = .ok (.iconst 0, 1) := dk_3 (dk_at dksX13_plain_4 2 rfl rfl)
theorem dX13_plain_96 : decode cX13_plain 96 = .ok (.iastore, 1) := dk_79 (dk_at dksX13_plain_4 3 rfl rfl)
theorem dX13_plain_97 : decode cX13_plain 97 = .ok (.iconst 0, 1) := dk_3 (dk_at dksX13_plain_4 4 rfl rfl)
theorem dX13_plain_98 : decode cX13_plain 98 = .ok (.istore 4, 2) := dk_54 4 (dk_at dksX13_plain_4 5 rfl rfl)
theorem dX13_plain_100 : decode cX13_plain 100 = .ok (.iload 4, 2) := dk_21 4 (dk_at dksX13_plain_4 7 rfl rfl)
theorem dX13_plain_102 : decode cX13_plain 102 = .ok (.sipush 288, 3) := dk_17 1 32 (dk_at dksX13_plain_4 9 rfl rfl)
theorem dX13_plain_105 : decode cX13_plain 105 = .ok (.if_icmp .ge 50, 3) := dk_162 0 50 (dk_at dksX13_plain_4 12 rfl rfl)
theorem dX13_plain_108 : decode cX13_plain 108 = .ok (.aload_n 0, 1) := dk_42 (dk_at dksX13_plain_4 15 rfl rfl)
theorem dX13_plain_109 : decode cX13_plain 109 = .ok (.getfield 159, 3) := dk_180 0 159 (dk_at dksX13_plain_4 16 rfl rfl)
theorem dX13_plain_112 : decode cX13_plain 112 = .ok (.bipush 14, 2) := dk_16 14 (dk_at dksX13_plain_4 19 rfl rfl)
theorem dX13_plain_114 : decode cX13_plain 114 = .ok (.iload_n 2, 1) := dk_28 (dk_at dksX13_plain_4 21 rfl rfl)
theorem dX13_plain_115 : decode cX13_plain 115 = .ok (.imul, 1) := dk_104 (dk_at dksX13_plain_4 22 rfl rfl)
theorem dX13_plain_116 : decode cX13_plain 116 = .ok (.iload_n 3, 1) := dk_29 (dk_at dksX13_plain_4 23 rfl rfl)
theorem dX13_plain_117 : decode cX13_plain 117 = .ok (.iadd, 1) := dk_96 (dk_at dksX13_plain_5 0 rfl rfl)
theorem dX13_plain_118 : decode cX13_plain 118 = .ok (.dup2, 1) := dk_92 (dk_at dksX13_plain_5 1 rfl rfl)
theorem dX13_plain_119 : decode cX13_plain 119 = .ok (.iaload, 1) := dk_46 (dk_at dksX13_plain_5 2 rfl rfl)
theorem dX13_plain_120 : decode cX13_plain 120 = .ok (.aload_n 0, 1) := dk_42 (dk_at dksX13_plain_5 3 rfl rfl)
theorem dX13_plain_121 : decode cX13_plain 121 = .ok (.getfield 156, 3) := dk_180 0 156 (dk_at dksX13_plain_5 4 rfl rfl)
theorem dX13_plain_124 : decode cX13_plain 124 = .ok (.sipush 288, 3) := dk_17 1 32 (dk_at dksX13_plain_5 7 rfl rfl)
theorem dX13_plain_127 : decode cX13_plain 127 = .ok (.iload_n 2, 1) := dk_28 (dk_at dksX13_plain_5 10 rfl rfl)
theorem dX13_plain_128 : decode cX13_plain 128 = .ok (.imul, 1) := dk_104 (dk_at dksX13_plain_5 11 rfl rfl)
theorem dX13_plain_129 : decode cX13_plain 129 = .ok (.iload 4, 2) := dk_21 4 (dk_at dksX13_plain_5 12 rfl rfl)
theorem dX13_plain_131 : decode cX13_plain 131 = .ok (.iadd, 1) := dk_96 (dk_at dksX13_plain_5 14 rfl rfl)
theorem dX13_plain_132 : decode cX13_plain 132 = .ok (.iaload, 1) := dk_46 (dk_at dksX13_plain_5 15 rfl rfl)
theorem dX13_plain_133 : decode cX13_plain 133 = .ok (.aload_n 0, 1) := dk_42 (dk_at dksX13_plain_5 16 rfl rfl)
theorem dX13_plain_134 : decode cX13_plain 134 = .ok (.getfield 156, 3) := dk_180 0 156 (dk_at dksX13_plain_5 17 rfl rfl)
theorem dX13_plain_137 : decode cX13_plain 137 = .ok (.sipush 288, 3) := dk_17 1 32 (dk_at dksX13_plain_5 20 rfl rfl)
theorem dX13_plain_140 : decode cX13_plain 140 = .ok (.iload_n 3, 1) := dk_29 (dk_at dksX13_plain_5 23 rfl rfl)
theorem dX13_plain_141 : decode cX13_plain 141 = .ok (.imul, 1) := dk_104 (dk_at dksX13_plain_6 0 rfl rfl)
theorem dX13_plain_142 : decode cX13_plain 142 = .ok (.iload 4, 2) := dk_21 4 (dk_at dksX13_plain_6 1 rfl rfl)
theorem dX13_plain_144 : decode cX13_plain 144 = .ok (.iadd, 1) := dk_96 (dk_at dksX13_plain_6 3 rfl rfl)
theorem dX13_plain_145 : decode cX13_plain 145 = .ok (.iaload, 1) := dk_46 (dk_at dksX13_plain_6 4 rfl rfl)
theorem dX13_plain_146 : decode cX13_plain 146 = .ok (.imul, 1) := dk_104 (dk_at dksX13_plain_6 5 rfl rfl)
theorem dX13_plain_147 : decode cX13_plain 147 = .ok (.iadd, 1) := dk_96 (dk_at dksX13_plain_6 6 rfl rfl)
theorem dX13_plain_148 : decode cX13_plain 148 = .ok (.iastore, 1) := dk_79 (dk_at dksX13_plain_6 7 rfl rfl)
theorem dX13_plain_149 : decode cX13_plain 149 = .ok (.iinc 4 1, 3) := dk_132 4 1 (dk_at dksX13_plain_6 8 rfl rfl)
theorem dX13_plain_152 : decode cX13_plain 152 = .ok (.goto (-52), 3) := dk_167 255 204 (dk_at dksX13_plain_6 11 rfl rfl)
theorem dX13_plain_155 : decode cX13_plain 155 = .ok (.iinc 3 1, 3) := dk_132 3 1 (dk_at dksX13_plain_6 14 rfl rfl)
theorem dX13_plain_158 : decode cX13_plain 158 = .ok (.goto (-88), 3) := dk_167 255 168 (dk_at dksX13_plain_6 17 rfl rfl)
theorem dX13_plain_161 : decode cX13_plain 161 = .ok (.iinc 2 1, 3) := dk_132 2 1 (dk_at dksX13_plain_6 20 rfl rfl)
theorem dX13_plain_164 : decode cX13_plain 164 = .ok (.goto (-111), 3) := dk_167 255 145 (dk_at dksX13_plain_7 0 rfl rfl)
theorem dX13_plain_167 : decode cX13_plain 167 = .ok (.iconst 0, 1) := dk_3 (dk_at dksX13_plain_7 3 rfl rfl)
theorem dX13_plain_168 : decode cX13_plain 168 = .ok (.istore_n 2, 1) := dk_61 (dk_at dksX13_plain_7 4 rfl rfl)
theorem dX13_plain_169 : decode cX13_plain 169 = .ok (.iconst (-1), 1) := dk_2 (dk_at dksX13_plain_7 5 rfl rfl)
theorem dX13_plain_170 : decode cX13_plain 170 = .ok (.istore_n 3, 1) := dk_62 (dk_at dksX13_plain_7 6 rfl rfl)
theorem dX13_plain_171 : decode cX13_plain 171 = .ok (.iconst 0, 1) := dk_3 (dk_at dksX13_plain_7 7 rfl rfl)
theorem dX13_plain_172 : decode cX13_plain 172 = .ok (.istore 4, 2) := dk_54 4 (dk_at dksX13_plain_7 8 rfl rfl)
theorem dX13_plain_174 : decode cX13_plain 174 = .ok (.iload 4, 2) := dk_21 4 (dk_at dksX13_plain_7 10 rfl rfl)
theorem dX13_plain_176 : decode cX13_plain 176 = .ok (.iconst 1, 1) := dk_4 (dk_at dksX13_plain_7 12 rfl rfl)
theorem dX13_plain_177 : decode cX13_plain 177 = .ok (.aload_n 0, 1) := dk_42 (dk_at dksX13_plain_7 13 rfl rfl)
theorem dX13_plain_178 : decode cX13_plain 178 = .ok (.getfield 49, 3) := dk_180 0 49 (dk_at dksX13_plain_7 14 rfl rfl)
theorem dX13_plain_181 : decode cX13_plain 181 = .ok (.aload_n 0, 1) := dk_42 (dk_at dksX13_plain_7 17 rfl rfl)
theorem dX13_plain_182 : decode cX13_plain 182 = .ok (.getfield 258, 3) := dk_180 1 2 (dk_at dksX13_plain_7 18 rfl rfl)
theorem dX13_plain_185 : decode cX13_plain 185 = .ok (.iaload, 1) := dk_46 (dk_at dksX13_plain_7 21 rfl rfl)
theorem dX13_plain_186 : decode cX13_plain 186 = .ok (.ishl, 1) := dk_120 (dk_at dksX13_plain_7 22 rfl rfl)
theorem dX13_plain_187 : decode cX13_plain 187 = .ok (.if_icmp .ge 118, 3) := dk_162 0 118 (dk_at dksX13_plain_8 0 rfl rfl)
theorem dX13_plain_190 : decode cX13_plain 190 = .ok (.iconst 0, 1) := dk_3 (dk_at dksX13_plain_8 3 rfl rfl)
theorem dX13_plain_191 : decode cX13_plain 191 = .ok (.istore 5, 2) := dk_54 5 (dk_at dksX13_plain_8 4 rfl rfl)
theorem dX13_plain_193 : decode cX13_plain 193 = .ok (.iconst 0, 1) := dk_3 (dk_at dksX13_plain_8 6 rfl rfl)
theorem dX13_plain_194 : decode cX13_plain 194 = .ok (.istore 6, 2) := dk_54 6 (dk_at dksX13_plain_8 7 rfl rfl)
theorem dX13_plain_196 : decode cX13_plain 196 = .ok (.iload 6, 2) := dk_21 6 (dk_at dksX13_plain_8 9 rfl rfl)
theorem dX13_plain_198 : decode cX13_plain 198 = .ok (.aload_n 0, 1) := dk_42 (dk_at dksX13_plain_8 11 rfl rfl)
theorem dX13_plain_199 : decode cX13_plain 199 = .ok (.getfield 49, 3) := dk_180 0 49 (dk_at dksX13_plain_8 12 rfl rfl)
theorem dX13_plain_202 : decode cX13_plain 202 = .ok (.aload_n 0, 1) := dk_42 (dk_at dksX13_plain_8 15 rfl rfl)
theorem dX13_plain_203 : decode cX13_plain 203 = .ok (.getfield 258, 3) := dk_180 1 2 (dk_at dksX13_plain_8 16 rfl rfl)
theorem dX13_plain_206 : decode cX13_plain 206 = .ok (.iaload, 1) := dk_46 (dk_at dksX13_plain_8 19 rfl rfl)
theorem dX13_plain_207 : decode cX13_plain 207 = .ok (.if_icmp .ge 73, 3) := dk_162 0 73 (dk_at dksX13_plain_8 20 rfl rfl)
theorem dX13_plain_210 : decode cX13_plain 210 = .ok (.iload 6, 2) := dk_21 6 (dk_at dksX13_plain_9 0 rfl rfl)
theorem dX13_plain_212 : decode cX13_plain 212 = .ok (.iconst 1, 1) := dk_4 (dk_at dksX13_plain_9 2 rfl rfl)
theorem dX13_plain_213 : decode cX13_plain 213 = .ok (.iadd, 1) := dk_96 (dk_at dksX13_plain_9 3 rfl rfl)
theorem dX13_plain_214 : decode cX13_plain 214 = .ok (.istore 7, 2) := dk_54 7 (dk_at dksX13_plain_9 4 rfl rfl)
theorem dX13_plain_216 : decode cX13_plain 216 = .ok (.iload 7, 2) := dk_21 7 (dk_at dksX13_plain_9 6 rfl rfl)
theorem dX13_plain_218 : decode cX13_plain 218 = .ok (.aload_n 0, 1) := dk_42 (dk_at dksX13_plain_9 8 rfl rfl)
theorem dX13_plain_219 : decode cX13_plain 219 = .ok (.getfield 49, 3) := dk_180 0 49 (dk_at dksX13_plain_9 9 rfl rfl)
theorem dX13_plain_222 : decode cX13_plain 222 = .ok (.aload_n 0, 1) := dk_42 (dk_at dksX13_plain_9 12 rfl rfl)
theorem dX13_plain_223 : decode cX13_plain 223 = .ok (.getfield 258, 3) := dk_180 1 2 (dk_at dksX13_plain_9 13 rfl rfl)
theorem dX13_plain_226 : decode cX13_plain 226 = .ok (.iaload, 1) := dk_46 (dk_at dksX13_plain_9 16 rfl rfl)
theorem dX13_plain_227 : decode cX13_plain 227 = .ok (.if_icmp .ge 47, 3) := dk_162 0 47 (dk_at dksX13_plain_9 17 rfl rfl)
theorem dX13_plain_230 : decode cX13_plain 230 = .ok (.iload 5, 2) := dk_21 5 (dk_at dksX13_plain_9 20 rfl rfl)
theorem dX13_plain_232 : decode cX13_plain 232 = .ok (.aload_n 0, 1) := dk_42 (dk_at dksX13_plain_9 22 rfl rfl)
theorem dX13_plain_233 : decode cX13_plain 233 = .ok (.getfield 159, 3) := dk_180 0 159 (dk_at dksX13_plain_10 0 rfl rfl)
theorem dX13_plain_236 : decode cX13_plain 236 = .ok (.bipush 14, 2) := dk_16 14 (dk_at dksX13_plain_10 3 rfl rfl)
theorem dX13_plain_238 : decode cX13_plain 238 = .ok (.iconst 2, 1) := dk_5 (dk_at dksX13_plain_10 5 rfl rfl)
theorem dX13_plain_239 : decode cX13_plain 239 = .ok (.iload 6, 2) := dk_21 6 (dk_at dksX13_plain_10 6 rfl rfl)
theorem dX13_plain_241 : decode cX13_plain 241 = .ok (.imul, 1) := dk_104 (dk_at dksX13_plain_10 8 rfl rfl)
theorem dX13_plain_242 : decode cX13_plain 242 = .ok (.iload 4, 2) := dk_21 4 (dk_at dksX13_plain_10 9 rfl rfl)
theorem dX13_plain_244 : decode cX13_plain 244 = .ok (.iload 6, 2) := dk_21 6 (dk_at dksX13_plain_10 11 rfl rfl)
theorem dX13_plain_246 : decode cX13_plain 246 = .ok (.ishr, 1) := dk_122 (dk_at dksX13_plain_10 13 rfl rfl)
theorem dX13_plain_247 : decode cX13_plain 247 = .ok (.iconst 1, 1) := dk_4 (dk_at dksX13_plain_10 14 rfl rfl)
theorem dX13_plain_248 : decode cX13_plain 248 = .ok (.iand, 1) := dk_126 (dk_at dksX13_plain_10 15 rfl rfl)
theorem dX13_plain_249 : decode cX13_plain 249 = .ok (.iadd, 1) := dk_96 (dk_at dksX13_plain_10 16 rfl rfl)
theorem dX13_plain_250 : decode cX13_plain 250 = .ok (.imul, 1) := dk_104 (dk_at dksX13_plain_10 17 rfl rfl)
theorem dX13_plain_251 : decode cX13_plain 251 = .ok (.iconst 2, 1) := dk_5 (dk_at dksX13_plain_10 18 rfl rfl)
theorem dX13_plain_252 : decode cX13_plain 252 = .ok (.iload 7, 2) := dk_21 7 (dk_at dksX13_plain_10 19 rfl rfl)
theorem dX13_plain_254 : decode cX13_plain 254 = .ok (.imul, 1) := dk_104 (dk_at dksX13_plain_10 21 rfl rfl)
theorem dX13_plain_255 : decode cX13_plain 255 = .ok (.iadd, 1) := dk_96 (dk_at dksX13_plain_10 22 rfl rfl)
theorem dX13_plain_256 : decode cX13_plain 256 = .ok (.iload 4, 2) := dk_21 4 (dk_at dksX13_plain_11 0 rfl rfl)
theorem dX13_plain_258 : decode cX13_plain 258 = .ok (.iload 7, 2) := dk_21 7 (dk_at dksX13_plain_11 2 rfl rfl)
theorem dX13_plain_260 : decode cX13_plain 260 = .ok (.ishr, 1) := dk_122 (dk_at dksX13_plain_11 4 rfl rfl)
theorem dX13_plain_261 : decode cX13_plain 261 = .ok (.iconst 1, 1) := dk_4 (dk_at dksX13_plain_11 5 rfl rfl)
theorem dX13_plain_262 : decode cX13_plain 262 = .ok (.iand, 1) := dk_126 (dk_at dksX13_plain_11 6 rfl rfl)
theorem dX13_plain_263 : decode cX13_plain 263 = .ok (.iadd, 1) := dk_96 (dk_at dksX13_plain_11 7 rfl rfl)
theorem dX13_plain_264 : decode cX13_plain 264 = .ok (.iaload, 1) := dk_46 (dk_at dksX13_plain_11 8 rfl rfl)
theorem dX13_plain_265 : decode cX13_plain 265 = .ok (.iadd, 1) := dk_96 (dk_at dksX13_plain_11 9 rfl rfl)
theorem dX13_plain_266 : decode cX13_plain 266 = .ok (.istore 5, 2) := dk_54 5 (dk_at dksX13_plain_11 10 rfl rfl)
theorem dX13_plain_268 : decode cX13_plain 268 = .ok (.iinc 7 1, 3) := dk_132 7 1 (dk_at dksX13_plain_11 12 rfl rfl)
theorem dX13_plain_271 : decode cX13_plain 271 = .ok (.goto (-55), 3) := dk_167 255 201 (dk_at dksX13_plain_11 15 rfl rfl)
theorem dX13_plain_274 : decode cX13_plain 274 = .ok (.iinc 6 1, 3) := dk_132 6 1 (dk_at dksX13_plain_11 18 rfl rfl)
theorem dX13_plain_277 : decode cX13_plain 277 = .ok (.goto (-81), 3) := dk_167 255 175 (dk_at dksX13_plain_11 21 rfl rfl)
theorem dX13_plain_280 : decode cX13_plain 280 = .ok (.iload_n 3, 1) := dk_29 (dk_at dksX13_plain_12 0 rfl rfl)
theorem dX13_plain_281 : decode cX13_plain 281 = .ok (.ifCond .lt 12, 3) := dk_155 0 12 (dk_at dksX13_plain_12 1 rfl rfl)
theorem dX13_plain_284 : decode cX13_plain 284 = .ok (.iload 5, 2) := dk_21 5 (dk_at dksX13_plain_12 4 rfl rfl)
theorem dX13_plain_286 : decode cX13_plain 286 = .ok (.iload_n 3, 1) := dk_29 (dk_at dksX13_plain_12 6 rfl rfl)
theorem dX13_plain_287 : decode cX13_plain 287 = .ok (.if_icmp .lt 6, 3) := dk_161 0 6 (dk_at dksX13_plain_12 7 rfl rfl)
theorem dX13_plain_290 : decode cX13_plain 290 = .ok (.goto 9, 3) := dk_167 0 9 (dk_at dksX13_plain_12 10 rfl rfl)
theorem dX13_plain_293 : decode cX13_plain 293 = .ok (.iload 4, 2) := dk_21 4 (dk_at dksX13_plain_12 13 rfl rfl)
theorem dX13_plain_295 : decode cX13_plain 295 = .ok (.istore_n 2, 1) := dk_61 (dk_at dksX13_plain_12 15 rfl rfl)
theorem dX13_plain_296 : decode cX13_plain 296 = .ok (.iload 5, 2) := dk_21 5 (dk_at dksX13_plain_12 16 rfl rfl)
theorem dX13_plain_298 : decode cX13_plain 298 = .ok (.istore_n 3, 1) := dk_62 (dk_at dksX13_plain_12 18 rfl rfl)
theorem dX13_plain_299 : decode cX13_plain 299 = .ok (.iinc 4 1, 3) := dk_132 4 1 (dk_at dksX13_plain_12 19 rfl rfl)
theorem dX13_plain_302 : decode cX13_plain 302 = .ok (.goto (-128), 3) := dk_167 255 128 (dk_at dksX13_plain_13 0 rfl rfl)
theorem dX13_plain_305 : decode cX13_plain 305 = .ok (.iload_n 1, 1) := dk_27 (dk_at dksX13_plain_13 3 rfl rfl)
theorem dX13_plain_306 : decode cX13_plain 306 = .ok (.ifCond .ne 7, 3) := dk_154 0 7 (dk_at dksX13_plain_13 4 rfl rfl)
theorem dX13_plain_309 : decode cX13_plain 309 = .ok (.iload_n 3, 1) := dk_29 (dk_at dksX13_plain_13 7 rfl rfl)
theorem dX13_plain_310 : decode cX13_plain 310 = .ok (.goto 4, 3) := dk_167 0 4 (dk_at dksX13_plain_13 8 rfl rfl)
theorem dX13_plain_313 : decode cX13_plain 313 = .ok (.iload_n 2, 1) := dk_28 (dk_at dksX13_plain_13 11 rfl rfl)
theorem dX13_plain_314 : decode cX13_plain 314 = .ok (.ireturn, 1) := dk_172 (dk_at dksX13_plain_13 12 rfl rfl)
abbrev cX13_walks : ByteArray := prog_21_method_110_code
def yX13_walks : MethodName := ⟨RX13, "walks", "(II)V"⟩
def dkwX13_walks_11 : List UInt8 := [184, 1, 115, 96, 54, 5, 167, 255, 140, 132, 8, 1, 167, 255, 115, 132, 6, 1, 167, 255, 65, 177]
abbrev dktX13_walks_11 : List UInt8 := dkwX13_walks_11 ++ []
def dkwX13_walks_10 : List UInt8 := [184, 1, 122, 96, 92, 46, 4, 96, 79, 21, 4, 21, 10, 184, 1, 112, 96, 54, 4, 21, 5, 21, 10]
abbrev dktX13_walks_10 : List UInt8 := dkwX13_walks_10 ++ dktX13_walks_11
def dkwX13_walks_9 : List UInt8 := [21, 7, 46, 162, 0, 7, 5, 167, 0, 4, 7, 54, 10, 42, 180, 0, 156, 29, 21, 4, 21, 5, 21, 10]
abbrev dktX13_walks_9 : List UInt8 := dkwX13_walks_9 ++ dktX13_walks_10
def dkwX13_walks_8 : List UInt8 := [180, 0, 67, 21, 7, 46, 162, 0, 7, 4, 167, 0, 24, 6, 167, 0, 20, 21, 4, 42, 180, 0, 64]
abbrev dktX13_walks_8 : List UInt8 := dkwX13_walks_8 ++ dktX13_walks_9
def dkwX13_walks_7 : List UInt8 := [167, 0, 15, 21, 4, 42, 180, 0, 64, 21, 7, 46, 159, 0, 90, 21, 9, 153, 0, 23, 21, 5, 42]
abbrev dktX13_walks_7 : List UInt8 := dkwX13_walks_7 ++ dktX13_walks_8
def dkwX13_walks_6 : List UInt8 := [167, 0, 4, 3, 54, 9, 21, 9, 153, 0, 18, 21, 5, 42, 180, 0, 67, 21, 7, 46, 159, 0, 105]
abbrev dktX13_walks_6 : List UInt8 := dkwX13_walks_6 ++ dktX13_walks_7
def dkwX13_walks_5 : List UInt8 := [21, 6, 46, 96, 54, 7, 3, 54, 8, 21, 8, 5, 162, 0, 141, 21, 8, 28, 159, 0, 7, 4]
abbrev dktX13_walks_5 : List UInt8 := dkwX13_walks_5 ++ dktX13_walks_6
def dkwX13_walks_4 : List UInt8 := [104, 27, 96, 46, 162, 0, 178, 16, 42, 42, 180, 1, 2, 104, 16, 6, 27, 104, 96, 42, 180, 0, 150]
abbrev dktX13_walks_4 : List UInt8 := dkwX13_walks_4 ++ dktX13_walks_5
def dkwX13_walks_3 : List UInt8 := [180, 1, 2, 104, 27, 96, 46, 54, 5, 3, 54, 6, 21, 6, 42, 180, 0, 61, 16, 7, 42, 180, 1, 2]
abbrev dktX13_walks_3 : List UInt8 := dkwX13_walks_3 ++ dktX13_walks_4
def dkwX13_walks_2 : List UInt8 := [180, 0, 52, 16, 7, 42, 180, 1, 2, 104, 27, 96, 46, 54, 4, 42, 180, 0, 55, 16, 7, 42]
abbrev dktX13_walks_2 : List UInt8 := dkwX13_walks_2 ++ dktX13_walks_3
def dkwX13_walks_1 : List UInt8 := [180, 0, 156, 29, 21, 4, 96, 3, 79, 132, 4, 1, 167, 255, 235, 42, 27, 182, 1, 178, 87, 42]
abbrev dktX13_walks_1 : List UInt8 := dkwX13_walks_1 ++ dktX13_walks_2
def dkwX13_walks_0 : List UInt8 := [17, 1, 32, 5, 27, 104, 28, 96, 104, 62, 3, 54, 4, 21, 4, 17, 1, 32, 162, 0, 19, 42]
abbrev dktX13_walks_0 : List UInt8 := dkwX13_walks_0 ++ dktX13_walks_1
theorem dksX13_walks_0 : cX13_walks.data.toList.drop 0 = dktX13_walks_0 := by decide +kernel
theorem dksX13_walks_1 : cX13_walks.data.toList.drop 22 = dktX13_walks_1 := dk_seg dksX13_walks_0 22 rfl rfl
theorem dksX13_walks_2 : cX13_walks.data.toList.drop 44 = dktX13_walks_2 := dk_seg dksX13_walks_1 22 rfl rfl
theorem dksX13_walks_3 : cX13_walks.data.toList.drop 66 = dktX13_walks_3 := dk_seg dksX13_walks_2 22 rfl rfl
theorem dksX13_walks_4 : cX13_walks.data.toList.drop 90 = dktX13_walks_4 := dk_seg dksX13_walks_3 24 rfl rfl
theorem dksX13_walks_5 : cX13_walks.data.toList.drop 113 = dktX13_walks_5 := dk_seg dksX13_walks_4 23 rfl rfl
theorem dksX13_walks_6 : cX13_walks.data.toList.drop 135 = dktX13_walks_6 := dk_seg dksX13_walks_5 22 rfl rfl
theorem dksX13_walks_7 : cX13_walks.data.toList.drop 158 = dktX13_walks_7 := dk_seg dksX13_walks_6 23 rfl rfl
theorem dksX13_walks_8 : cX13_walks.data.toList.drop 181 = dktX13_walks_8 := dk_seg dksX13_walks_7 23 rfl rfl
theorem dksX13_walks_9 : cX13_walks.data.toList.drop 204 = dktX13_walks_9 := dk_seg dksX13_walks_8 23 rfl rfl
theorem dksX13_walks_10 : cX13_walks.data.toList.drop 228 = dktX13_walks_10 := dk_seg dksX13_walks_9 24 rfl rfl
theorem dksX13_walks_11 : cX13_walks.data.toList.drop 251 = dktX13_walks_11 := dk_seg dksX13_walks_10 23 rfl rfl
theorem dX13_walks_0 : decode cX13_walks 0 = .ok (.sipush 288, 3) := dk_17 1 32 (dk_at dksX13_walks_0 0 rfl rfl)
theorem dX13_walks_3 : decode cX13_walks 3 = .ok (.iconst 2, 1) := dk_5 (dk_at dksX13_walks_0 3 rfl rfl)
theorem dX13_walks_4 : decode cX13_walks 4 = .ok (.iload_n 1, 1) := dk_27 (dk_at dksX13_walks_0 4 rfl rfl)
theorem dX13_walks_5 : decode cX13_walks 5 = .ok (.imul, 1) := dk_104 (dk_at dksX13_walks_0 5 rfl rfl)
theorem dX13_walks_6 : decode cX13_walks 6 = .ok (.iload_n 2, 1) := dk_28 (dk_at dksX13_walks_0 6 rfl rfl)
theorem dX13_walks_7 : decode cX13_walks 7 = .ok (.iadd, 1) := dk_96 (dk_at dksX13_walks_0 7 rfl rfl)
theorem dX13_walks_8 : decode cX13_walks 8 = .ok (.imul, 1) := dk_104 (dk_at dksX13_walks_0 8 rfl rfl)
theorem dX13_walks_9 : decode cX13_walks 9 = .ok (.istore_n 3, 1) := dk_62 (dk_at dksX13_walks_0 9 rfl rfl)
theorem dX13_walks_10 : decode cX13_walks 10 = .ok (.iconst 0, 1) := dk_3 (dk_at dksX13_walks_0 10 rfl rfl)
theorem dX13_walks_11 : decode cX13_walks 11 = .ok (.istore 4, 2) := dk_54 4 (dk_at dksX13_walks_0 11 rfl rfl)
theorem dX13_walks_13 : decode cX13_walks 13 = .ok (.iload 4, 2) := dk_21 4 (dk_at dksX13_walks_0 13 rfl rfl)
theorem dX13_walks_15 : decode cX13_walks 15 = .ok (.sipush 288, 3) := dk_17 1 32 (dk_at dksX13_walks_0 15 rfl rfl)
theorem dX13_walks_18 : decode cX13_walks 18 = .ok (.if_icmp .ge 19, 3) := dk_162 0 19 (dk_at dksX13_walks_0 18 rfl rfl)
theorem dX13_walks_21 : decode cX13_walks 21 = .ok (.aload_n 0, 1) := dk_42 (dk_at dksX13_walks_0 21 rfl rfl)
theorem dX13_walks_22 : decode cX13_walks 22 = .ok (.getfield 156, 3) := dk_180 0 156 (dk_at dksX13_walks_1 0 rfl rfl)
theorem dX13_walks_25 : decode cX13_walks 25 = .ok (.iload_n 3, 1) := dk_29 (dk_at dksX13_walks_1 3 rfl rfl)
theorem dX13_walks_26 : decode cX13_walks 26 = .ok (.iload 4, 2) := dk_21 4 (dk_at dksX13_walks_1 4 rfl rfl)
theorem dX13_walks_28 : decode cX13_walks 28 = .ok (.iadd, 1) := dk_96 (dk_at dksX13_walks_1 6 rfl rfl)
theorem dX13_walks_29 : decode cX13_walks 29 = .ok (.iconst 0, 1) := dk_3 (dk_at dksX13_walks_1 7 rfl rfl)
theorem dX13_walks_30 : decode cX13_walks 30 = .ok (.iastore, 1) := dk_79 (dk_at dksX13_walks_1 8 rfl rfl)
theorem dX13_walks_31 : decode cX13_walks 31 = .ok (.iinc 4 1, 3) := dk_132 4 1 (dk_at dksX13_walks_1 9 rfl rfl)
theorem dX13_walks_34 : decode cX13_walks 34 = .ok (.goto (-21), 3) := dk_167 255 235 (dk_at dksX13_walks_1 12 rfl rfl)
theorem dX13_walks_37 : decode cX13_walks 37 = .ok (.aload_n 0, 1) := dk_42 (dk_at dksX13_walks_1 15 rfl rfl)
theorem dX13_walks_38 : decode cX13_walks 38 = .ok (.iload_n 1, 1) := dk_27 (dk_at dksX13_walks_1 16 rfl rfl)
theorem dX13_walks_39 : decode cX13_walks 39 = .ok (.invokevirtual 434, 3) := dk_182 1 178 (dk_at dksX13_walks_1 17 rfl rfl)
theorem dX13_walks_42 : decode cX13_walks 42 = .ok (.pop, 1) := dk_87 (dk_at dksX13_walks_1 20 rfl rfl)
theorem dX13_walks_43 : decode cX13_walks 43 = .ok (.aload_n 0, 1) := dk_42 (dk_at dksX13_walks_1 21 rfl rfl)
theorem dX13_walks_44 : decode cX13_walks 44 = .ok (.getfield 52, 3) := dk_180 0 52 (dk_at dksX13_walks_2 0 rfl rfl)
theorem dX13_walks_47 : decode cX13_walks 47 = .ok (.bipush 7, 2) := dk_16 7 (dk_at dksX13_walks_2 3 rfl rfl)
theorem dX13_walks_49 : decode cX13_walks 49 = .ok (.aload_n 0, 1) := dk_42 (dk_at dksX13_walks_2 5 rfl rfl)
theorem dX13_walks_50 : decode cX13_walks 50 = .ok (.getfield 258, 3) := dk_180 1 2 (dk_at dksX13_walks_2 6 rfl rfl)
theorem dX13_walks_53 : decode cX13_walks 53 = .ok (.imul, 1) := dk_104 (dk_at dksX13_walks_2 9 rfl rfl)
theorem dX13_walks_54 : decode cX13_walks 54 = .ok (.iload_n 1, 1) := dk_27 (dk_at dksX13_walks_2 10 rfl rfl)
theorem dX13_walks_55 : decode cX13_walks 55 = .ok (.iadd, 1) := dk_96 (dk_at dksX13_walks_2 11 rfl rfl)
theorem dX13_walks_56 : decode cX13_walks 56 = .ok (.iaload, 1) := dk_46 (dk_at dksX13_walks_2 12 rfl rfl)
theorem dX13_walks_57 : decode cX13_walks 57 = .ok (.istore 4, 2) := dk_54 4 (dk_at dksX13_walks_2 13 rfl rfl)
theorem dX13_walks_59 : decode cX13_walks 59 = .ok (.aload_n 0, 1) := dk_42 (dk_at dksX13_walks_2 15 rfl rfl)
theorem dX13_walks_60 : decode cX13_walks 60 = .ok (.getfield 55, 3) := dk_180 0 55 (dk_at dksX13_walks_2 16 rfl rfl)
theorem dX13_walks_63 : decode cX13_walks 63 = .ok (.bipush 7, 2) := dk_16 7 (dk_at dksX13_walks_2 19 rfl rfl)
theorem dX13_walks_65 : decode cX13_walks 65 = .ok (.aload_n 0, 1) := dk_42 (dk_at dksX13_walks_2 21 rfl rfl)
theorem dX13_walks_66 : decode cX13_walks 66 = .ok (.getfield 258, 3) := dk_180 1 2 (dk_at dksX13_walks_3 0 rfl rfl)
theorem dX13_walks_69 : decode cX13_walks 69 = .ok (.imul, 1) := dk_104 (dk_at dksX13_walks_3 3 rfl rfl)
theorem dX13_walks_70 : decode cX13_walks 70 = .ok (.iload_n 1, 1) := dk_27 (dk_at dksX13_walks_3 4 rfl rfl)
theorem dX13_walks_71 : decode cX13_walks 71 = .ok (.iadd, 1) := dk_96 (dk_at dksX13_walks_3 5 rfl rfl)
theorem dX13_walks_72 : decode cX13_walks 72 = .ok (.iaload, 1) := dk_46 (dk_at dksX13_walks_3 6 rfl rfl)
theorem dX13_walks_73 : decode cX13_walks 73 = .ok (.istore 5, 2) := dk_54 5 (dk_at dksX13_walks_3 7 rfl rfl)
theorem dX13_walks_75 : decode cX13_walks 75 = .ok (.iconst 0, 1) := dk_3 (dk_at dksX13_walks_3 9 rfl rfl)
theorem dX13_walks_76 : decode cX13_walks 76 = .ok (.istore 6, 2) := dk_54 6 (dk_at dksX13_walks_3 10 rfl rfl)
theorem dX13_walks_78 : decode cX13_walks 78 = .ok (.iload 6, 2) := dk_21 6 (dk_at dksX13_walks_3 12 rfl rfl)
theorem dX13_walks_80 : decode cX13_walks 80 = .ok (.aload_n 0, 1) := dk_42 (dk_at dksX13_walks_3 14 rfl rfl)
theorem dX13_walks_81 : decode cX13_walks 81 = .ok (.getfield 61, 3) := dk_180 0 61 (dk_at dksX13_walks_3 15 rfl rfl)
theorem dX13_walks_84 : decode cX13_walks 84 = .ok (.bipush 7, 2) := dk_16 7 (dk_at dksX13_walks_3 18 rfl rfl)
theorem dX13_walks_86 : decode cX13_walks 86 = .ok (.aload_n 0, 1) := dk_42 (dk_at dksX13_walks_3 20 rfl rfl)
theorem dX13_walks_87 : decode cX13_walks 87 = .ok (.getfield 258, 3) := dk_180 1 2 (dk_at dksX13_walks_3 21 rfl rfl)
theorem dX13_walks_90 : decode cX13_walks 90 = .ok (.imul, 1) := dk_104 (dk_at dksX13_walks_4 0 rfl rfl)
theorem dX13_walks_91 : decode cX13_walks 91 = .ok (.iload_n 1, 1) := dk_27 (dk_at dksX13_walks_4 1 rfl rfl)
theorem dX13_walks_92 : decode cX13_walks 92 = .ok (.iadd, 1) := dk_96 (dk_at dksX13_walks_4 2 rfl rfl)
theorem dX13_walks_93 : decode cX13_walks 93 = .ok (.iaload, 1) := dk_46 (dk_at dksX13_walks_4 3 rfl rfl)
theorem dX13_walks_94 : decode cX13_walks 94 = .ok (.if_icmp .ge 178, 3) := dk_162 0 178 (dk_at dksX13_walks_4 4 rfl rfl)
theorem dX13_walks_97 : decode cX13_walks 97 = .ok (.bipush 42, 2) := dk_16 42 (dk_at dksX13_walks_4 7 rfl rfl)
theorem dX13_walks_99 : decode cX13_walks 99 = .ok (.aload_n 0, 1) := dk_42 (dk_at dksX13_walks_4 9 rfl rfl)
theorem dX13_walks_100 : decode cX13_walks 100 = .ok (.getfield 258, 3) := dk_180 1 2 (dk_at dksX13_walks_4 10 rfl rfl)
theorem dX13_walks_103 : decode cX13_walks 103 = .ok (.imul, 1) := dk_104 (dk_at dksX13_walks_4 13 rfl rfl)
theorem dX13_walks_104 : decode cX13_walks 104 = .ok (.bipush 6, 2) := dk_16 6 (dk_at dksX13_walks_4 14 rfl rfl)
theorem dX13_walks_106 : decode cX13_walks 106 = .ok (.iload_n 1, 1) := dk_27 (dk_at dksX13_walks_4 16 rfl rfl)
theorem dX13_walks_107 : decode cX13_walks 107 = .ok (.imul, 1) := dk_104 (dk_at dksX13_walks_4 17 rfl rfl)
theorem dX13_walks_108 : decode cX13_walks 108 = .ok (.iadd, 1) := dk_96 (dk_at dksX13_walks_4 18 rfl rfl)
theorem dX13_walks_109 : decode cX13_walks 109 = .ok (.aload_n 0, 1) := dk_42 (dk_at dksX13_walks_4 19 rfl rfl)
theorem dX13_walks_110 : decode cX13_walks 110 = .ok (.getfield 150, 3) := dk_180 0 150 (dk_at dksX13_walks_4 20 rfl rfl)
theorem dX13_walks_113 : decode cX13_walks 113 = .ok (.iload 6, 2) := dk_21 6 (dk_at dksX13_walks_5 0 rfl rfl)
theorem dX13_walks_115 : decode cX13_walks 115 = .ok (.iaload, 1) := dk_46 (dk_at dksX13_walks_5 2 rfl rfl)
theorem dX13_walks_116 : decode cX13_walks 116 = .ok (.iadd, 1) := dk_96 (dk_at dksX13_walks_5 3 rfl rfl)
theorem dX13_walks_117 : decode cX13_walks 117 = .ok (.istore 7, 2) := dk_54 7 (dk_at dksX13_walks_5 4 rfl rfl)
theorem dX13_walks_119 : decode cX13_walks 119 = .ok (.iconst 0, 1) := dk_3 (dk_at dksX13_walks_5 6 rfl rfl)
theorem dX13_walks_120 : decode cX13_walks 120 = .ok (.istore 8, 2) := dk_54 8 (dk_at dksX13_walks_5 7 rfl rfl)
theorem dX13_walks_122 : decode cX13_walks 122 = .ok (.iload 8, 2) := dk_21 8 (dk_at dksX13_walks_5 9 rfl rfl)
theorem dX13_walks_124 : decode cX13_walks 124 = .ok (.iconst 2, 1) := dk_5 (dk_at dksX13_walks_5 11 rfl rfl)
theorem dX13_walks_125 : decode cX13_walks 125 = .ok (.if_icmp .ge 141, 3) := dk_162 0 141 (dk_at dksX13_walks_5 12 rfl rfl)
theorem dX13_walks_128 : decode cX13_walks 128 = .ok (.iload 8, 2) := dk_21 8 (dk_at dksX13_walks_5 15 rfl rfl)
theorem dX13_walks_130 : decode cX13_walks 130 = .ok (.iload_n 2, 1) := dk_28 (dk_at dksX13_walks_5 17 rfl rfl)
theorem dX13_walks_131 : decode cX13_walks 131 = .ok (.if_icmp .eq 7, 3) := dk_159 0 7 (dk_at dksX13_walks_5 18 rfl rfl)
theorem dX13_walks_134 : decode cX13_walks 134 = .ok (.iconst 1, 1) := dk_4 (dk_at dksX13_walks_5 21 rfl rfl)
theorem dX13_walks_135 : decode cX13_walks 135 = .ok (.goto 4, 3) := dk_167 0 4 (dk_at dksX13_walks_6 0 rfl rfl)
theorem dX13_walks_138 : decode cX13_walks 138 = .ok (.iconst 0, 1) := dk_3 (dk_at dksX13_walks_6 3 rfl rfl)
theorem dX13_walks_139 : decode cX13_walks 139 = .ok (.istore 9, 2) := dk_54 9 (dk_at dksX13_walks_6 4 rfl rfl)
theorem dX13_walks_141 : decode cX13_walks 141 = .ok (.iload 9, 2) := dk_21 9 (dk_at dksX13_walks_6 6 rfl rfl)
theorem dX13_walks_143 : decode cX13_walks 143 = .ok (.ifCond .eq 18, 3) := dk_153 0 18 (dk_at dksX13_walks_6 8 rfl rfl)
theorem dX13_walks_146 : decode cX13_walks 146 = .ok (.iload 5, 2) := dk_21 5 (dk_at dksX13_walks_6 11 rfl rfl)
theorem dX13_walks_148 : decode cX13_walks 148 = .ok (.aload_n 0, 1) := dk_42 (dk_at dksX13_walks_6 13 rfl rfl)
theorem dX13_walks_149 : decode cX13_walks 149 = .ok (.getfield 67, 3) := dk_180 0 67 (dk_at dksX13_walks_6 14 rfl rfl)
theorem dX13_walks_152 : decode cX13_walks 152 = .ok (.iload 7, 2) := dk_21 7 (dk_at dksX13_walks_6 17 rfl rfl)
theorem dX13_walks_154 : decode cX13_walks 154 = .ok (.iaload, 1) := dk_46 (dk_at dksX13_walks_6 19 rfl rfl)
theorem dX13_walks_155 : decode cX13_walks 155 = .ok (.if_icmp .eq 105, 3) := dk_159 0 105 (dk_at dksX13_walks_6 20 rfl rfl)
theorem dX13_walks_158 : decode cX13_walks 158 = .ok (.goto 15, 3) := dk_167 0 15 (dk_at dksX13_walks_7 0 rfl rfl)
theorem dX13_walks_161 : decode cX13_walks 161 = .ok (.iload 4, 2) := dk_21 4 (dk_at dksX13_walks_7 3 rfl rfl)
theorem dX13_walks_163 : decode cX13_walks 163 = .ok (.aload_n 0, 1) := dk_42 (dk_at dksX13_walks_7 5 rfl rfl)
theorem dX13_walks_164 : decode cX13_walks 164 = .ok (.getfield 64, 3) := dk_180 0 64 (dk_at dksX13_walks_7 6 rfl rfl)
theorem dX13_walks_167 : decode cX13_walks 167 = .ok (.iload 7, 2) := dk_21 7 (dk_at dksX13_walks_7 9 rfl rfl)
theorem dX13_walks_169 : decode cX13_walks 169 = .ok (.iaload, 1) := dk_46 (dk_at dksX13_walks_7 11 rfl rfl)
theorem dX13_walks_170 : decode cX13_walks 170 = .ok (.if_icmp .eq 90, 3) := dk_159 0 90 (dk_at dksX13_walks_7 12 rfl rfl)
theorem dX13_walks_173 : decode cX13_walks 173 = .ok (.iload 9, 2) := dk_21 9 (dk_at dksX13_walks_7 15 rfl rfl)
theorem dX13_walks_175 : decode cX13_walks 175 = .ok (.ifCond .eq 23, 3) := dk_153 0 23 (dk_at dksX13_walks_7 17 rfl rfl)
theorem dX13_walks_178 : decode cX13_walks 178 = .ok (.iload 5, 2) := dk_21 5 (dk_at dksX13_walks_7 20 rfl rfl)
theorem dX13_walks_180 : decode cX13_walks 180 = .ok (.aload_n 0, 1) := dk_42 (dk_at dksX13_walks_7 22 rfl rfl)
theorem dX13_walks_181 : decode cX13_walks 181 = .ok (.getfield 67, 3) := dk_180 0 67 (dk_at dksX13_walks_8 0 rfl rfl)
theorem dX13_walks_184 : decode cX13_walks 184 = .ok (.iload 7, 2) := dk_21 7 (dk_at dksX13_walks_8 3 rfl rfl)
theorem dX13_walks_186 : decode cX13_walks 186 = .ok (.iaload, 1) := dk_46 (dk_at dksX13_walks_8 5 rfl rfl)
theorem dX13_walks_187 : decode cX13_walks 187 = .ok (.if_icmp .ge 7, 3) := dk_162 0 7 (dk_at dksX13_walks_8 6 rfl rfl)
theorem dX13_walks_190 : decode cX13_walks 190 = .ok (.iconst 1, 1) := dk_4 (dk_at dksX13_walks_8 9 rfl rfl)
theorem dX13_walks_191 : decode cX13_walks 191 = .ok (.goto 24, 3) := dk_167 0 24 (dk_at dksX13_walks_8 10 rfl rfl)
theorem dX13_walks_194 : decode cX13_walks 194 = .ok (.iconst 3, 1) := dk_6 (dk_at dksX13_walks_8 13 rfl rfl)
theorem dX13_walks_195 : decode cX13_walks 195 = .ok (.goto 20, 3) := dk_167 0 20 (dk_at dksX13_walks_8 14 rfl rfl)
theorem dX13_walks_198 : decode cX13_walks 198 = .ok (.iload 4, 2) := dk_21 4 (dk_at dksX13_walks_8 17 rfl rfl)
theorem dX13_walks_200 : decode cX13_walks 200 = .ok (.aload_n 0, 1) := dk_42 (dk_at dksX13_walks_8 19 rfl rfl)
theorem dX13_walks_201 : decode cX13_walks 201 = .ok (.getfield 64, 3) := dk_180 0 64 (dk_at dksX13_walks_8 20 rfl rfl)
theorem dX13_walks_204 : decode cX13_walks 204 = .ok (.iload 7, 2) := dk_21 7 (dk_at dksX13_walks_9 0 rfl rfl)
theorem dX13_walks_206 : decode cX13_walks 206 = .ok (.iaload, 1) := dk_46 (dk_at dksX13_walks_9 2 rfl rfl)
theorem dX13_walks_207 : decode cX13_walks 207 = .ok (.if_icmp .ge 7, 3) := dk_162 0 7 (dk_at dksX13_walks_9 3 rfl rfl)
theorem dX13_walks_210 : decode cX13_walks 210 = .ok (.iconst 2, 1) := dk_5 (dk_at dksX13_walks_9 6 rfl rfl)
theorem dX13_walks_211 : decode cX13_walks 211 = .ok (.goto 4, 3) := dk_167 0 4 (dk_at dksX13_walks_9 7 rfl rfl)
theorem dX13_walks_214 : decode cX13_walks 214 = .ok (.iconst 4, 1) := dk_7 (dk_at dksX13_walks_9 10 rfl rfl)
theorem dX13_walks_215 : decode cX13_walks 215 = .ok (.istore 10, 2) := dk_54 10 (dk_at dksX13_walks_9 11 rfl rfl)
theorem dX13_walks_217 : decode cX13_walks 217 = .ok (.aload_n 0, 1) := dk_42 (dk_at dksX13_walks_9 13 rfl rfl)
theorem dX13_walks_218 : decode cX13_walks 218 = .ok (.getfield 156, 3) := dk_180 0 156 (dk_at dksX13_walks_9 14 rfl rfl)
theorem dX13_walks_221 : decode cX13_walks 221 = .ok (.iload_n 3, 1) := dk_29 (dk_at dksX13_walks_9 17 rfl rfl)
theorem dX13_walks_222 : decode cX13_walks 222 = .ok (.iload 4, 2) := dk_21 4 (dk_at dksX13_walks_9 18 rfl rfl)
theorem dX13_walks_224 : decode cX13_walks 224 = .ok (.iload 5, 2) := dk_21 5 (dk_at dksX13_walks_9 20 rfl rfl)
theorem dX13_walks_226 : decode cX13_walks 226 = .ok (.iload 10, 2) := dk_21 10 (dk_at dksX13_walks_9 22 rfl rfl)
theorem dX13_walks_228 : decode cX13_walks 228 = .ok (.invokestatic 378, 3) := dk_184 1 122 (dk_at dksX13_walks_10 0 rfl rfl)
theorem dX13_walks_231 : decode cX13_walks 231 = .ok (.iadd, 1) := dk_96 (dk_at dksX13_walks_10 3 rfl rfl)
theorem dX13_walks_232 : decode cX13_walks 232 = .ok (.dup2, 1) := dk_92 (dk_at dksX13_walks_10 4 rfl rfl)
theorem dX13_walks_233 : decode cX13_walks 233 = .ok (.iaload, 1) := dk_46 (dk_at dksX13_walks_10 5 rfl rfl)
theorem dX13_walks_234 : decode cX13_walks 234 = .ok (.iconst 1, 1) := dk_4 (dk_at dksX13_walks_10 6 rfl rfl)
theorem dX13_walks_235 : decode cX13_walks 235 = .ok (.iadd, 1) := dk_96 (dk_at dksX13_walks_10 7 rfl rfl)
theorem dX13_walks_236 : decode cX13_walks 236 = .ok (.iastore, 1) := dk_79 (dk_at dksX13_walks_10 8 rfl rfl)
theorem dX13_walks_237 : decode cX13_walks 237 = .ok (.iload 4, 2) := dk_21 4 (dk_at dksX13_walks_10 9 rfl rfl)
theorem dX13_walks_239 : decode cX13_walks 239 = .ok (.iload 10, 2) := dk_21 10 (dk_at dksX13_walks_10 11 rfl rfl)
theorem dX13_walks_241 : decode cX13_walks 241 = .ok (.invokestatic 368, 3) := dk_184 1 112 (dk_at dksX13_walks_10 13 rfl rfl)
theorem dX13_walks_244 : decode cX13_walks 244 = .ok (.iadd, 1) := dk_96 (dk_at dksX13_walks_10 16 rfl rfl)
theorem dX13_walks_245 : decode cX13_walks 245 = .ok (.istore 4, 2) := dk_54 4 (dk_at dksX13_walks_10 17 rfl rfl)
theorem dX13_walks_247 : decode cX13_walks 247 = .ok (.iload 5, 2) := dk_21 5 (dk_at dksX13_walks_10 19 rfl rfl)
theorem dX13_walks_249 : decode cX13_walks 249 = .ok (.iload 10, 2) := dk_21 10 (dk_at dksX13_walks_10 21 rfl rfl)
theorem dX13_walks_251 : decode cX13_walks 251 = .ok (.invokestatic 371, 3) := dk_184 1 115 (dk_at dksX13_walks_11 0 rfl rfl)
theorem dX13_walks_254 : decode cX13_walks 254 = .ok (.iadd, 1) := dk_96 (dk_at dksX13_walks_11 3 rfl rfl)
theorem dX13_walks_255 : decode cX13_walks 255 = .ok (.istore 5, 2) := dk_54 5 (dk_at dksX13_walks_11 4 rfl rfl)
theorem dX13_walks_257 : decode cX13_walks 257 = .ok (.goto (-116), 3) := dk_167 255 140 (dk_at dksX13_walks_11 6 rfl rfl)
theorem dX13_walks_260 : decode cX13_walks 260 = .ok (.iinc 8 1, 3) := dk_132 8 1 (dk_at dksX13_walks_11 9 rfl rfl)
theorem dX13_walks_263 : decode cX13_walks 263 = .ok (.goto (-141), 3) := dk_167 255 115 (dk_at dksX13_walks_11 12 rfl rfl)
theorem dX13_walks_266 : decode cX13_walks 266 = .ok (.iinc 6 1, 3) := dk_132 6 1 (dk_at dksX13_walks_11 15 rfl rfl)
theorem dX13_walks_269 : decode cX13_walks 269 = .ok (.goto (-191), 3) := dk_167 255 65 (dk_at dksX13_walks_11 18 rfl rfl)
theorem dX13_walks_272 : decode cX13_walks 272 = .ok (.return_, 1) := dk_177 (dk_at dksX13_walks_11 21 rfl rfl)
abbrev cX13_tell : ByteArray := prog_21_method_112_code
def yX13_tell : MethodName := ⟨RX13, "tell", "(IIZ)I"⟩
def dkwX13_tell_2 : List UInt8 := [29, 84, 42, 89, 180, 1, 30, 4, 96, 181, 1, 30, 42, 180, 1, 30, 4, 100, 172]
abbrev dktX13_tell_2 : List UInt8 := dkwX13_tell_2 ++ []
def dkwX13_tell_1 : List UInt8 := [42, 180, 1, 30, 27, 79, 42, 180, 0, 165, 42, 180, 1, 30, 28, 79, 42, 180, 0, 168, 42, 180, 1, 30]
abbrev dktX13_tell_1 : List UInt8 := dkwX13_tell_1 ++ dktX13_tell_2
def dkwX13_tell_0 : List UInt8 := [42, 180, 1, 30, 16, 12, 159, 0, 12, 42, 27, 28, 182, 1, 157, 154, 0, 5, 2, 172, 42, 180, 0, 162]
abbrev dktX13_tell_0 : List UInt8 := dkwX13_tell_0 ++ dktX13_tell_1
theorem dksX13_tell_0 : cX13_tell.data.toList.drop 0 = dktX13_tell_0 := by decide +kernel
theorem dksX13_tell_1 : cX13_tell.data.toList.drop 24 = dktX13_tell_1 := dk_seg dksX13_tell_0 24 rfl rfl
theorem dksX13_tell_2 : cX13_tell.data.toList.drop 48 = dktX13_tell_2 := dk_seg dksX13_tell_1 24 rfl rfl
theorem dX13_tell_0 : decode cX13_tell 0 = .ok (.aload_n 0, 1) := dk_42 (dk_at dksX13_tell_0 0 rfl rfl)
theorem dX13_tell_1 : decode cX13_tell 1 = .ok (.getfield 286, 3) := dk_180 1 30 (dk_at dksX13_tell_0 1 rfl rfl)
theorem dX13_tell_4 : decode cX13_tell 4 = .ok (.bipush 12, 2) := dk_16 12 (dk_at dksX13_tell_0 4 rfl rfl)
theorem dX13_tell_6 : decode cX13_tell 6 = .ok (.if_icmp .eq 12, 3) := dk_159 0 12 (dk_at dksX13_tell_0 6 rfl rfl)
theorem dX13_tell_9 : decode cX13_tell 9 = .ok (.aload_n 0, 1) := dk_42 (dk_at dksX13_tell_0 9 rfl rfl)
theorem dX13_tell_10 : decode cX13_tell 10 = .ok (.iload_n 1, 1) := dk_27 (dk_at dksX13_tell_0 10 rfl rfl)
theorem dX13_tell_11 : decode cX13_tell 11 = .ok (.iload_n 2, 1) := dk_28 (dk_at dksX13_tell_0 11 rfl rfl)
theorem dX13_tell_12 : decode cX13_tell 12 = .ok (.invokevirtual 413, 3) := dk_182 1 157 (dk_at dksX13_tell_0 12 rfl rfl)
theorem dX13_tell_15 : decode cX13_tell 15 = .ok (.ifCond .ne 5, 3) := dk_154 0 5 (dk_at dksX13_tell_0 15 rfl rfl)
theorem dX13_tell_18 : decode cX13_tell 18 = .ok (.iconst (-1), 1) := dk_2 (dk_at dksX13_tell_0 18 rfl rfl)
theorem dX13_tell_19 : decode cX13_tell 19 = .ok (.ireturn, 1) := dk_172 (dk_at dksX13_tell_0 19 rfl rfl)
theorem dX13_tell_20 : decode cX13_tell 20 = .ok (.aload_n 0, 1) := dk_42 (dk_at dksX13_tell_0 20 rfl rfl)
theorem dX13_tell_21 : decode cX13_tell 21 = .ok (.getfield 162, 3) := dk_180 0 162 (dk_at dksX13_tell_0 21 rfl rfl)
theorem dX13_tell_24 : decode cX13_tell 24 = .ok (.aload_n 0, 1) := dk_42 (dk_at dksX13_tell_1 0 rfl rfl)
theorem dX13_tell_25 : decode cX13_tell 25 = .ok (.getfield 286, 3) := dk_180 1 30 (dk_at dksX13_tell_1 1 rfl rfl)
theorem dX13_tell_28 : decode cX13_tell 28 = .ok (.iload_n 1, 1) := dk_27 (dk_at dksX13_tell_1 4 rfl rfl)
theorem dX13_tell_29 : decode cX13_tell 29 = .ok (.iastore, 1) := dk_79 (dk_at dksX13_tell_1 5 rfl rfl)
theorem dX13_tell_30 : decode cX13_tell 30 = .ok (.aload_n 0, 1) := dk_42 (dk_at dksX13_tell_1 6 rfl rfl)
theorem dX13_tell_31 : decode cX13_tell 31 = .ok (.getfield 165, 3) := dk_180 0 165 (dk_at dksX13_tell_1 7 rfl rfl)
theorem dX13_tell_34 : decode cX13_tell 34 = .ok (.aload_n 0, 1) := dk_42 (dk_at dksX13_tell_1 10 rfl rfl)
theorem dX13_tell_35 : decode cX13_tell 35 = .ok (.getfield 286, 3) := dk_180 1 30 (dk_at dksX13_tell_1 11 rfl rfl)
theorem dX13_tell_38 : decode cX13_tell 38 = .ok (.iload_n 2, 1) := dk_28 (dk_at dksX13_tell_1 14 rfl rfl)
theorem dX13_tell_39 : decode cX13_tell 39 = .ok (.iastore, 1) := dk_79 (dk_at dksX13_tell_1 15 rfl rfl)
theorem dX13_tell_40 : decode cX13_tell 40 = .ok (.aload_n 0, 1) := dk_42 (dk_at dksX13_tell_1 16 rfl rfl)
theorem dX13_tell_41 : decode cX13_tell 41 = .ok (.getfield 168, 3) := dk_180 0 168 (dk_at dksX13_tell_1 17 rfl rfl)
theorem dX13_tell_44 : decode cX13_tell 44 = .ok (.aload_n 0, 1) := dk_42 (dk_at dksX13_tell_1 20 rfl rfl)
theorem dX13_tell_45 : decode cX13_tell 45 = .ok (.getfield 286, 3) := dk_180 1 30 (dk_at dksX13_tell_1 21 rfl rfl)
theorem dX13_tell_48 : decode cX13_tell 48 = .ok (.iload_n 3, 1) := dk_29 (dk_at dksX13_tell_2 0 rfl rfl)
theorem dX13_tell_49 : decode cX13_tell 49 = .ok (.bastore, 1) := dk_84 (dk_at dksX13_tell_2 1 rfl rfl)
theorem dX13_tell_50 : decode cX13_tell 50 = .ok (.aload_n 0, 1) := dk_42 (dk_at dksX13_tell_2 2 rfl rfl)
theorem dX13_tell_51 : decode cX13_tell 51 = .ok (.dup, 1) := dk_89 (dk_at dksX13_tell_2 3 rfl rfl)
theorem dX13_tell_52 : decode cX13_tell 52 = .ok (.getfield 286, 3) := dk_180 1 30 (dk_at dksX13_tell_2 4 rfl rfl)
theorem dX13_tell_55 : decode cX13_tell 55 = .ok (.iconst 1, 1) := dk_4 (dk_at dksX13_tell_2 7 rfl rfl)
theorem dX13_tell_56 : decode cX13_tell 56 = .ok (.iadd, 1) := dk_96 (dk_at dksX13_tell_2 8 rfl rfl)
theorem dX13_tell_57 : decode cX13_tell 57 = .ok (.putfield 286, 3) := dk_181 1 30 (dk_at dksX13_tell_2 9 rfl rfl)
theorem dX13_tell_60 : decode cX13_tell 60 = .ok (.aload_n 0, 1) := dk_42 (dk_at dksX13_tell_2 12 rfl rfl)
theorem dX13_tell_61 : decode cX13_tell 61 = .ok (.getfield 286, 3) := dk_180 1 30 (dk_at dksX13_tell_2 13 rfl rfl)
theorem dX13_tell_64 : decode cX13_tell 64 = .ok (.iconst 1, 1) := dk_4 (dk_at dksX13_tell_2 16 rfl rfl)
theorem dX13_tell_65 : decode cX13_tell 65 = .ok (.isub, 1) := dk_100 (dk_at dksX13_tell_2 17 rfl rfl)
theorem dX13_tell_66 : decode cX13_tell 66 = .ok (.ireturn, 1) := dk_172 (dk_at dksX13_tell_2 18 rfl rfl)
abbrev cX13_forget : ByteArray := prog_21_method_113_code
def yX13_forget : MethodName := ⟨RX13, "forget", "()I"⟩
def dkwX13_forget_0 : List UInt8 := [42, 180, 1, 30, 60, 42, 3, 181, 1, 30, 27, 172]
abbrev dktX13_forget_0 : List UInt8 := dkwX13_forget_0 ++ []
theorem dksX13_forget_0 : cX13_forget.data.toList.drop 0 = dktX13_forget_0 := by decide +kernel
theorem dX13_forget_0 : decode cX13_forget 0 = .ok (.aload_n 0, 1) := dk_42 (dk_at dksX13_forget_0 0 rfl rfl)
theorem dX13_forget_1 : decode cX13_forget 1 = .ok (.getfield 286, 3) := dk_180 1 30 (dk_at dksX13_forget_0 1 rfl rfl)
theorem dX13_forget_4 : decode cX13_forget 4 = .ok (.istore_n 1, 1) := dk_60 (dk_at dksX13_forget_0 4 rfl rfl)
theorem dX13_forget_5 : decode cX13_forget 5 = .ok (.aload_n 0, 1) := dk_42 (dk_at dksX13_forget_0 5 rfl rfl)
theorem dX13_forget_6 : decode cX13_forget 6 = .ok (.iconst 0, 1) := dk_3 (dk_at dksX13_forget_0 6 rfl rfl)
theorem dX13_forget_7 : decode cX13_forget 7 = .ok (.putfield 286, 3) := dk_181 1 30 (dk_at dksX13_forget_0 7 rfl rfl)
theorem dX13_forget_10 : decode cX13_forget 10 = .ok (.iload_n 1, 1) := dk_27 (dk_at dksX13_forget_0 10 rfl rfl)
theorem dX13_forget_11 : decode cX13_forget 11 = .ok (.ireturn, 1) := dk_172 (dk_at dksX13_forget_0 11 rfl rfl)
abbrev cX13_starts : ByteArray := prog_21_method_115_code
def yX13_starts : MethodName := ⟨RX13, "starts", "(III)I"⟩
def dkwX13_starts_4 : List UInt8 := [21, 6, 27, 28, 29, 182, 1, 220, 153, 0, 6, 132, 5, 1, 132, 6, 1, 167, 255, 231, 21, 5, 172]
abbrev dktX13_starts_4 : List UInt8 := dkwX13_starts_4 ++ []
def dkwX13_starts_3 : List UInt8 := [17, 3, 232, 164, 0, 6, 16, 254, 172, 3, 54, 5, 3, 54, 6, 21, 6, 21, 4, 162, 0, 24, 42]
abbrev dktX13_starts_3 : List UInt8 := dkwX13_starts_3 ++ dktX13_starts_4
def dkwX13_starts_2 : List UInt8 := [180, 1, 2, 46, 162, 0, 17, 21, 4, 27, 4, 96, 104, 54, 4, 132, 5, 1, 167, 255, 231, 21, 4]
abbrev dktX13_starts_2 : List UInt8 := dkwX13_starts_2 ++ dktX13_starts_3
def dkwX13_starts_1 : List UInt8 := [180, 1, 30, 184, 1, 89, 154, 0, 5, 2, 172, 4, 54, 4, 3, 54, 5, 21, 5, 42, 180, 0, 49, 42]
abbrev dktX13_starts_1 : List UInt8 := dkwX13_starts_1 ++ dktX13_starts_2
def dkwX13_starts_0 : List UInt8 := [27, 3, 6, 184, 1, 89, 153, 0, 25, 28, 3, 16, 40, 184, 1, 89, 153, 0, 15, 29, 3, 42]
abbrev dktX13_starts_0 : List UInt8 := dkwX13_starts_0 ++ dktX13_starts_1
theorem dksX13_starts_0 : cX13_starts.data.toList.drop 0 = dktX13_starts_0 := by decide +kernel
theorem dksX13_starts_1 : cX13_starts.data.toList.drop 22 = dktX13_starts_1 := dk_seg dksX13_starts_0 22 rfl rfl
theorem dksX13_starts_2 : cX13_starts.data.toList.drop 46 = dktX13_starts_2 := dk_seg dksX13_starts_1 24 rfl rfl
theorem dksX13_starts_3 : cX13_starts.data.toList.drop 69 = dktX13_starts_3 := dk_seg dksX13_starts_2 23 rfl rfl
theorem dksX13_starts_4 : cX13_starts.data.toList.drop 92 = dktX13_starts_4 := dk_seg dksX13_starts_3 23 rfl rfl
theorem dX13_starts_0 : decode cX13_starts 0 = .ok (.iload_n 1, 1) := dk_27 (dk_at dksX13_starts_0 0 rfl rfl)
theorem dX13_starts_1 : decode cX13_starts 1 = .ok (.iconst 0, 1) := dk_3 (dk_at dksX13_starts_0 1 rfl rfl)
theorem dX13_starts_2 : decode cX13_starts 2 = .ok (.iconst 3, 1) := dk_6 (dk_at dksX13_starts_0 2 rfl rfl)
theorem dX13_starts_3 : decode cX13_starts 3 = .ok (.invokestatic 345, 3) := dk_184 1 89 (dk_at dksX13_starts_0 3 rfl rfl)
theorem dX13_starts_6 : decode cX13_starts 6 = .ok (.ifCond .eq 25, 3) := dk_153 0 25 (dk_at dksX13_starts_0 6 rfl rfl)
theorem dX13_starts_9 : decode cX13_starts 9 = .ok (.iload_n 2, 1) := dk_28 (dk_at dksX13_starts_0 9 rfl rfl)
theorem dX13_starts_10 : decode cX13_starts 10 = .ok (.iconst 0, 1) := dk_3 (dk_at dksX13_starts_0 10 rfl rfl)
theorem dX13_starts_11 : decode cX13_starts 11 = .ok (.bipush 40, 2) := dk_16 40 (dk_at dksX13_starts_0 11 rfl rfl)
theorem dX13_starts_13 : decode cX13_starts 13 = .ok (.invokestatic 345, 3) := dk_184 1 89 (dk_at dksX13_starts_0 13 rfl rfl)
theorem dX13_starts_16 : decode cX13_starts 16 = .ok (.ifCond .eq 15, 3) := dk_153 0 15 (dk_at dksX13_starts_0 16 rfl rfl)
theorem dX13_starts_19 : decode cX13_starts 19 = .ok (.iload_n 3, 1) := dk_29 (dk_at dksX13_starts_0 19 rfl rfl)
theorem dX13_starts_20 : decode cX13_starts 20 = .ok (.iconst 0, 1) := dk_3 (dk_at dksX13_starts_0 20 rfl rfl)
theorem dX13_starts_21 : decode cX13_starts 21 = .ok (.aload_n 0, 1) := dk_42 (dk_at dksX13_starts_0 21 rfl rfl)
theorem dX13_starts_22 : decode cX13_starts 22 = .ok (.getfield 286, 3) := dk_180 1 30 (dk_at dksX13_starts_1 0 rfl rfl)
theorem dX13_starts_25 : decode cX13_starts 25 = .ok (.invokestatic 345, 3) := dk_184 1 89 (dk_at dksX13_starts_1 3 rfl rfl)
theorem dX13_starts_28 : decode cX13_starts 28 = .ok (.ifCond .ne 5, 3) := dk_154 0 5 (dk_at dksX13_starts_1 6 rfl rfl)
theorem dX13_starts_31 : decode cX13_starts 31 = .ok (.iconst (-1), 1) := dk_2 (dk_at dksX13_starts_1 9 rfl rfl)
theorem dX13_starts_32 : decode cX13_starts 32 = .ok (.ireturn, 1) := dk_172 (dk_at dksX13_starts_1 10 rfl rfl)
theorem dX13_starts_33 : decode cX13_starts 33 = .ok (.iconst 1, 1) := dk_4 (dk_at dksX13_starts_1 11 rfl rfl)
theorem dX13_starts_34 : decode cX13_starts 34 = .ok (.istore 4, 2) := dk_54 4 (dk_at dksX13_starts_1 12 rfl rfl)
theorem dX13_starts_36 : decode cX13_starts 36 = .ok (.iconst 0, 1) := dk_3 (dk_at dksX13_starts_1 14 rfl rfl)
theorem dX13_starts_37 : decode cX13_starts 37 = .ok (.istore 5, 2) := dk_54 5 (dk_at dksX13_starts_1 15 rfl rfl)
theorem dX13_starts_39 : decode cX13_starts 39 = .ok (.iload 5, 2) := dk_21 5 (dk_at dksX13_starts_1 17 rfl rfl)
theorem dX13_starts_41 : decode cX13_starts 41 = .ok (.aload_n 0, 1) := dk_42 (dk_at dksX13_starts_1 19 rfl rfl)
theorem dX13_starts_42 : decode cX13_starts 42 = .ok (.getfield 49, 3) := dk_180 0 49 (dk_at dksX13_starts_1 20 rfl rfl)
theorem dX13_starts_45 : decode cX13_starts 45 = .ok (.aload_n 0, 1) := dk_42 (dk_at dksX13_starts_1 23 rfl rfl)
theorem dX13_starts_46 : decode cX13_starts 46 = .ok (.getfield 258, 3) := dk_180 1 2 (dk_at dksX13_starts_2 0 rfl rfl)
theorem dX13_starts_49 : decode cX13_starts 49 = .ok (.iaload, 1) := dk_46 (dk_at dksX13_starts_2 3 rfl rfl)
theorem dX13_starts_50 : decode cX13_starts 50 = .ok (.if_icmp .ge 17, 3) := dk_162 0 17 (dk_at dksX13_starts_2 4 rfl rfl)
theorem dX13_starts_53 : decode cX13_starts 53 = .ok (.iload 4, 2) := dk_21 4 (dk_at dksX13_starts_2 7 rfl rfl)
theorem dX13_starts_55 : decode cX13_starts 55 = .ok (.iload_n 1, 1) := dk_27 (dk_at dksX13_starts_2 9 rfl rfl)
theorem dX13_starts_56 : decode cX13_starts 56 = .ok (.iconst 1, 1) := dk_4 (dk_at dksX13_starts_2 10 rfl rfl)
theorem dX13_starts_57 : decode cX13_starts 57 = .ok (.iadd, 1) := dk_96 (dk_at dksX13_starts_2 11 rfl rfl)
theorem dX13_starts_58 : decode cX13_starts 58 = .ok (.imul, 1) := dk_104 (dk_at dksX13_starts_2 12 rfl rfl)
theorem dX13_starts_59 : decode cX13_starts 59 = .ok (.istore 4, 2) := dk_54 4 (dk_at dksX13_starts_2 13 rfl rfl)
theorem dX13_starts_61 : decode cX13_starts 61 = .ok (.iinc 5 1, 3) := dk_132 5 1 (dk_at dksX13_starts_2 15 rfl rfl)
theorem dX13_starts_64 : decode cX13_starts 64 = .ok (.goto (-25), 3) := dk_167 255 231 (dk_at dksX13_starts_2 18 rfl rfl)
theorem dX13_starts_67 : decode cX13_starts 67 = .ok (.iload 4, 2) := dk_21 4 (dk_at dksX13_starts_2 21 rfl rfl)
theorem dX13_starts_69 : decode cX13_starts 69 = .ok (.sipush 1000, 3) := dk_17 3 232 (dk_at dksX13_starts_3 0 rfl rfl)
theorem dX13_starts_72 : decode cX13_starts 72 = .ok (.if_icmp .le 6, 3) := dk_164 0 6 (dk_at dksX13_starts_3 3 rfl rfl)
theorem dX13_starts_75 : decode cX13_starts 75 = .ok (.bipush (-2), 2) := dk_16 254 (dk_at dksX13_starts_3 6 rfl rfl)
theorem dX13_starts_77 : decode cX13_starts 77 = .ok (.ireturn, 1) := dk_172 (dk_at dksX13_starts_3 8 rfl rfl)
theorem dX13_starts_78 : decode cX13_starts 78 = .ok (.iconst 0, 1) := dk_3 (dk_at dksX13_starts_3 9 rfl rfl)
theorem dX13_starts_79 : decode cX13_starts 79 = .ok (.istore 5, 2) := dk_54 5 (dk_at dksX13_starts_3 10 rfl rfl)
theorem dX13_starts_81 : decode cX13_starts 81 = .ok (.iconst 0, 1) := dk_3 (dk_at dksX13_starts_3 12 rfl rfl)
theorem dX13_starts_82 : decode cX13_starts 82 = .ok (.istore 6, 2) := dk_54 6 (dk_at dksX13_starts_3 13 rfl rfl)
theorem dX13_starts_84 : decode cX13_starts 84 = .ok (.iload 6, 2) := dk_21 6 (dk_at dksX13_starts_3 15 rfl rfl)
theorem dX13_starts_86 : decode cX13_starts 86 = .ok (.iload 4, 2) := dk_21 4 (dk_at dksX13_starts_3 17 rfl rfl)
theorem dX13_starts_88 : decode cX13_starts 88 = .ok (.if_icmp .ge 24, 3) := dk_162 0 24 (dk_at dksX13_starts_3 19 rfl rfl)
theorem dX13_starts_91 : decode cX13_starts 91 = .ok (.aload_n 0, 1) := dk_42 (dk_at dksX13_starts_3 22 rfl rfl)
theorem dX13_starts_92 : decode cX13_starts 92 = .ok (.iload 6, 2) := dk_21 6 (dk_at dksX13_starts_4 0 rfl rfl)
theorem dX13_starts_94 : decode cX13_starts 94 = .ok (.iload_n 1, 1) := dk_27 (dk_at dksX13_starts_4 2 rfl rfl)
theorem dX13_starts_95 : decode cX13_starts 95 = .ok (.iload_n 2, 1) := dk_28 (dk_at dksX13_starts_4 3 rfl rfl)
theorem dX13_starts_96 : decode cX13_starts 96 = .ok (.iload_n 3, 1) := dk_29 (dk_at dksX13_starts_4 4 rfl rfl)
theorem dX13_starts_97 : decode cX13_starts 97 = .ok (.invokevirtual 476, 3) := dk_182 1 220 (dk_at dksX13_starts_4 5 rfl rfl)
theorem dX13_starts_100 : decode cX13_starts 100 = .ok (.ifCond .eq 6, 3) := dk_153 0 6 (dk_at dksX13_starts_4 8 rfl rfl)
theorem dX13_starts_103 : decode cX13_starts 103 = .ok (.iinc 5 1, 3) := dk_132 5 1 (dk_at dksX13_starts_4 11 rfl rfl)
theorem dX13_starts_106 : decode cX13_starts 106 = .ok (.iinc 6 1, 3) := dk_132 6 1 (dk_at dksX13_starts_4 14 rfl rfl)
theorem dX13_starts_109 : decode cX13_starts 109 = .ok (.goto (-25), 3) := dk_167 255 231 (dk_at dksX13_starts_4 17 rfl rfl)
theorem dX13_starts_112 : decode cX13_starts 112 = .ok (.iload 5, 2) := dk_21 5 (dk_at dksX13_starts_4 20 rfl rfl)
theorem dX13_starts_114 : decode cX13_starts 114 = .ok (.ireturn, 1) := dk_172 (dk_at dksX13_starts_4 22 rfl rfl)
abbrev cX13_isSo : ByteArray := prog_21_method_114_code
def yX13_isSo : MethodName := ⟨RX13, "isSo", "(IIII)Z"⟩
def dkwX13_isSo_5 : List UInt8 := [132, 6, 1, 167, 255, 208, 4, 172]
abbrev dktX13_isSo_5 : List UInt8 := dkwX13_isSo_5 ++ []
def dkwX13_isSo_4 : List UInt8 := [182, 1, 154, 158, 0, 7, 4, 167, 0, 4, 3, 42, 180, 0, 168, 21, 6, 51, 159, 0, 5, 3, 172]
abbrev dktX13_isSo_4 : List UInt8 := dkwX13_isSo_4 ++ dktX13_isSo_5
def dkwX13_isSo_3 : List UInt8 := [54, 6, 21, 6, 21, 4, 162, 0, 47, 42, 42, 180, 0, 162, 21, 6, 46, 42, 180, 0, 165, 21, 6, 46]
abbrev dktX13_isSo_3 : List UInt8 := dkwX13_isSo_3 ++ dktX13_isSo_4
def dkwX13_isSo_2 : List UInt8 := [167, 255, 218, 3, 54, 6, 21, 6, 29, 162, 0, 13, 42, 182, 1, 151, 132, 6, 1, 167, 255, 243, 3]
abbrev dktX13_isSo_2 : List UInt8 := dkwX13_isSo_2 ++ dktX13_isSo_3
def dkwX13_isSo_1 : List UInt8 := [42, 180, 0, 134, 21, 6, 21, 5, 28, 4, 96, 112, 79, 21, 5, 28, 4, 96, 108, 54, 5, 132, 6, 1]
abbrev dktX13_isSo_1 : List UInt8 := dkwX13_isSo_1 ++ dktX13_isSo_2
def dkwX13_isSo_0 : List UInt8 := [42, 182, 0, 185, 27, 54, 5, 3, 54, 6, 21, 6, 42, 180, 0, 49, 42, 180, 1, 2, 46, 162, 0, 30]
abbrev dktX13_isSo_0 : List UInt8 := dkwX13_isSo_0 ++ dktX13_isSo_1
theorem dksX13_isSo_0 : cX13_isSo.data.toList.drop 0 = dktX13_isSo_0 := by decide +kernel
theorem dksX13_isSo_1 : cX13_isSo.data.toList.drop 24 = dktX13_isSo_1 := dk_seg dksX13_isSo_0 24 rfl rfl
theorem dksX13_isSo_2 : cX13_isSo.data.toList.drop 48 = dktX13_isSo_2 := dk_seg dksX13_isSo_1 24 rfl rfl
theorem dksX13_isSo_3 : cX13_isSo.data.toList.drop 71 = dktX13_isSo_3 := dk_seg dksX13_isSo_2 23 rfl rfl
theorem dksX13_isSo_4 : cX13_isSo.data.toList.drop 95 = dktX13_isSo_4 := dk_seg dksX13_isSo_3 24 rfl rfl
theorem dksX13_isSo_5 : cX13_isSo.data.toList.drop 118 = dktX13_isSo_5 := dk_seg dksX13_isSo_4 23 rfl rfl
theorem dX13_isSo_0 : decode cX13_isSo 0 = .ok (.aload_n 0, 1) := dk_42 (dk_at dksX13_isSo_0 0 rfl rfl)
theorem dX13_isSo_1 : decode cX13_isSo 1 = .ok (.invokevirtual 185, 3) := dk_182 0 185 (dk_at dksX13_isSo_0 1 rfl rfl)
theorem dX13_isSo_4 : decode cX13_isSo 4 = .ok (.iload_n 1, 1) := dk_27 (dk_at dksX13_isSo_0 4 rfl rfl)
theorem dX13_isSo_5 : decode cX13_isSo 5 = .ok (.istore 5, 2) := dk_54 5 (dk_at dksX13_isSo_0 5 rfl rfl)
theorem dX13_isSo_7 : decode cX13_isSo 7 = .ok (.iconst 0, 1) := dk_3 (dk_at dksX13_isSo_0 7 rfl rfl)
theorem dX13_isSo_8 : decode cX13_isSo 8 = .ok (.istore 6, 2) := dk_54 6 (dk_at dksX13_isSo_0 8 rfl rfl)
theorem dX13_isSo_10 : decode cX13_isSo 10 = .ok (.iload 6, 2) := dk_21 6 (dk_at dksX13_isSo_0 10 rfl rfl)
theorem dX13_isSo_12 : decode cX13_isSo 12 = .ok (.aload_n 0, 1) := dk_42 (dk_at dksX13_isSo_0 12 rfl rfl)
theorem dX13_isSo_13 : decode cX13_isSo 13 = .ok (.getfield 49, 3) := dk_180 0 49 (dk_at dksX13_isSo_0 13 rfl rfl)
theorem dX13_isSo_16 : decode cX13_isSo 16 = .ok (.aload_n 0, 1) := dk_42 (dk_at dksX13_isSo_0 16 rfl rfl)
theorem dX13_isSo_17 : decode cX13_isSo 17 = .ok (.getfield 258, 3) := dk_180 1 2 (dk_at dksX13_isSo_0 17 rfl rfl)
theorem dX13_isSo_20 : decode cX13_isSo 20 = .ok (.iaload, 1) := dk_46 (dk_at dksX13_isSo_0 20 rfl rfl)
theorem dX13_isSo_21 : decode cX13_isSo 21 = .ok (.if_icmp .ge 30, 3) := dk_162 0 30 (dk_at dksX13_isSo_0 21 rfl rfl)
theorem dX13_isSo_24 : decode cX13_isSo 24 = .ok (.aload_n 0, 1) := dk_42 (dk_at dksX13_isSo_1 0 rfl rfl)
theorem dX13_isSo_25 : decode cX13_isSo 25 = .ok (.getfield 134, 3) := dk_180 0 134 (dk_at dksX13_isSo_1 1 rfl rfl)
theorem dX13_isSo_28 : decode cX13_isSo 28 = .ok (.iload 6, 2) := dk_21 6 (dk_at dksX13_isSo_1 4 rfl rfl)
theorem dX13_isSo_30 : decode cX13_isSo 30 = .ok (.iload 5, 2) := dk_21 5 (dk_at dksX13_isSo_1 6 rfl rfl)
theorem dX13_isSo_32 : decode cX13_isSo 32 = .ok (.iload_n 2, 1) := dk_28 (dk_at dksX13_isSo_1 8 rfl rfl)
theorem dX13_isSo_33 : decode cX13_isSo 33 = .ok (.iconst 1, 1) := dk_4 (dk_at dksX13_isSo_1 9 rfl rfl)
theorem dX13_isSo_34 : decode cX13_isSo 34 = .ok (.iadd, 1) := dk_96 (dk_at dksX13_isSo_1 10 rfl rfl)
theorem dX13_isSo_35 : decode cX13_isSo 35 = .ok (.irem, 1) := dk_112 (dk_at dksX13_isSo_1 11 rfl rfl)
theorem dX13_isSo_36 : decode cX13_isSo 36 = .ok (.iastore, 1) := dk_79 (dk_at dksX13_isSo_1 12 rfl rfl)
theorem dX13_isSo_37 : decode cX13_isSo 37 = .ok (.iload 5, 2) := dk_21 5 (dk_at dksX13_isSo_1 13 rfl rfl)
theorem dX13_isSo_39 : decode cX13_isSo 39 = .ok (.iload_n 2, 1) := dk_28 (dk_at dksX13_isSo_1 15 rfl rfl)
theorem dX13_isSo_40 : decode cX13_isSo 40 = .ok (.iconst 1, 1) := dk_4 (dk_at dksX13_isSo_1 16 rfl rfl)
theorem dX13_isSo_41 : decode cX13_isSo 41 = .ok (.iadd, 1) := dk_96 (dk_at dksX13_isSo_1 17 rfl rfl)
theorem dX13_isSo_42 : decode cX13_isSo 42 = .ok (.idiv, 1) := dk_108 (dk_at dksX13_isSo_1 18 rfl rfl)
theorem dX13_isSo_43 : decode cX13_isSo 43 = .ok (.istore 5, 2) := dk_54 5 (dk_at dksX13_isSo_1 19 rfl rfl)
theorem dX13_isSo_45 : decode cX13_isSo 45 = .ok (.iinc 6 1, 3) := dk_132 6 1 (dk_at dksX13_isSo_1 21 rfl rfl)
theorem dX13_isSo_48 : decode cX13_isSo 48 = .ok (.goto (-38), 3) := dk_167 255 218 (dk_at dksX13_isSo_2 0 rfl rfl)
theorem dX13_isSo_51 : decode cX13_isSo 51 = .ok (.iconst 0, 1) := dk_3 (dk_at dksX13_isSo_2 3 rfl rfl)
theorem dX13_isSo_52 : decode cX13_isSo 52 = .ok (.istore 6, 2) := dk_54 6 (dk_at dksX13_isSo_2 4 rfl rfl)
theorem dX13_isSo_54 : decode cX13_isSo 54 = .ok (.iload 6, 2) := dk_21 6 (dk_at dksX13_isSo_2 6 rfl rfl)
theorem dX13_isSo_56 : decode cX13_isSo 56 = .ok (.iload_n 3, 1) := dk_29 (dk_at dksX13_isSo_2 8 rfl rfl)
theorem dX13_isSo_57 : decode cX13_isSo 57 = .ok (.if_icmp .ge 13, 3) := dk_162 0 13 (dk_at dksX13_isSo_2 9 rfl rfl)
theorem dX13_isSo_60 : decode cX13_isSo 60 = .ok (.aload_n 0, 1) := dk_42 (dk_at dksX13_isSo_2 12 rfl rfl)
theorem dX13_isSo_61 : decode cX13_isSo 61 = .ok (.invokevirtual 407, 3) := dk_182 1 151 (dk_at dksX13_isSo_2 13 rfl rfl)
theorem dX13_isSo_64 : decode cX13_isSo 64 = .ok (.iinc 6 1, 3) := dk_132 6 1 (dk_at dksX13_isSo_2 16 rfl rfl)
theorem dX13_isSo_67 : decode cX13_isSo 67 = .ok (.goto (-13), 3) := dk_167 255 243 (dk_at dksX13_isSo_2 19 rfl rfl)
theorem dX13_isSo_70 : decode cX13_isSo 70 = .ok (.iconst 0, 1) := dk_3 (dk_at dksX13_isSo_2 22 rfl rfl)
theorem dX13_isSo_71 : decode cX13_isSo 71 = .ok (.istore 6, 2) := dk_54 6 (dk_at dksX13_isSo_3 0 rfl rfl)
theorem dX13_isSo_73 : decode cX13_isSo 73 = .ok (.iload 6, 2) := dk_21 6 (dk_at dksX13_isSo_3 2 rfl rfl)
theorem dX13_isSo_75 : decode cX13_isSo 75 = .ok (.iload 4, 2) := dk_21 4 (dk_at dksX13_isSo_3 4 rfl rfl)
theorem dX13_isSo_77 : decode cX13_isSo 77 = .ok (.if_icmp .ge 47, 3) := dk_162 0 47 (dk_at dksX13_isSo_3 6 rfl rfl)
theorem dX13_isSo_80 : decode cX13_isSo 80 = .ok (.aload_n 0, 1) := dk_42 (dk_at dksX13_isSo_3 9 rfl rfl)
theorem dX13_isSo_81 : decode cX13_isSo 81 = .ok (.aload_n 0, 1) := dk_42 (dk_at dksX13_isSo_3 10 rfl rfl)
theorem dX13_isSo_82 : decode cX13_isSo 82 = .ok (.getfield 162, 3) := dk_180 0 162 (dk_at dksX13_isSo_3 11 rfl rfl)
theorem dX13_isSo_85 : decode cX13_isSo 85 = .ok (.iload 6, 2) := dk_21 6 (dk_at dksX13_isSo_3 14 rfl rfl)
theorem dX13_isSo_87 : decode cX13_isSo 87 = .ok (.iaload, 1) := dk_46 (dk_at dksX13_isSo_3 16 rfl rfl)
theorem dX13_isSo_88 : decode cX13_isSo 88 = .ok (.aload_n 0, 1) := dk_42 (dk_at dksX13_isSo_3 17 rfl rfl)
theorem dX13_isSo_89 : decode cX13_isSo 89 = .ok (.getfield 165, 3) := dk_180 0 165 (dk_at dksX13_isSo_3 18 rfl rfl)
theorem dX13_isSo_92 : decode cX13_isSo 92 = .ok (.iload 6, 2) := dk_21 6 (dk_at dksX13_isSo_3 21 rfl rfl)
theorem dX13_isSo_94 : decode cX13_isSo 94 = .ok (.iaload, 1) := dk_46 (dk_at dksX13_isSo_3 23 rfl rfl)
theorem dX13_isSo_95 : decode cX13_isSo 95 = .ok (.invokevirtual 410, 3) := dk_182 1 154 (dk_at dksX13_isSo_4 0 rfl rfl)
theorem dX13_isSo_98 : decode cX13_isSo 98 = .ok (.ifCond .le 7, 3) := dk_158 0 7 (dk_at dksX13_isSo_4 3 rfl rfl)
theorem dX13_isSo_101 : decode cX13_isSo 101 = .ok (.iconst 1, 1) := dk_4 (dk_at dksX13_isSo_4 6 rfl rfl)
theorem dX13_isSo_102 : decode cX13_isSo 102 = .ok (.goto 4, 3) := dk_167 0 4 (dk_at dksX13_isSo_4 7 rfl rfl)
theorem dX13_isSo_105 : decode cX13_isSo 105 = .ok (.iconst 0, 1) := dk_3 (dk_at dksX13_isSo_4 10 rfl rfl)
theorem dX13_isSo_106 : decode cX13_isSo 106 = .ok (.aload_n 0, 1) := dk_42 (dk_at dksX13_isSo_4 11 rfl rfl)
theorem dX13_isSo_107 : decode cX13_isSo 107 = .ok (.getfield 168, 3) := dk_180 0 168 (dk_at dksX13_isSo_4 12 rfl rfl)
theorem dX13_isSo_110 : decode cX13_isSo 110 = .ok (.iload 6, 2) := dk_21 6 (dk_at dksX13_isSo_4 15 rfl rfl)
theorem dX13_isSo_112 : decode cX13_isSo 112 = .ok (.baload, 1) := dk_51 (dk_at dksX13_isSo_4 17 rfl rfl)
theorem dX13_isSo_113 : decode cX13_isSo 113 = .ok (.if_icmp .eq 5, 3) := dk_159 0 5 (dk_at dksX13_isSo_4 18 rfl rfl)
theorem dX13_isSo_116 : decode cX13_isSo 116 = .ok (.iconst 0, 1) := dk_3 (dk_at dksX13_isSo_4 21 rfl rfl)
theorem dX13_isSo_117 : decode cX13_isSo 117 = .ok (.ireturn, 1) := dk_172 (dk_at dksX13_isSo_4 22 rfl rfl)
theorem dX13_isSo_118 : decode cX13_isSo 118 = .ok (.iinc 6 1, 3) := dk_132 6 1 (dk_at dksX13_isSo_5 0 rfl rfl)
theorem dX13_isSo_121 : decode cX13_isSo 121 = .ok (.goto (-48), 3) := dk_167 255 208 (dk_at dksX13_isSo_5 3 rfl rfl)
theorem dX13_isSo_124 : decode cX13_isSo 124 = .ok (.iconst 1, 1) := dk_4 (dk_at dksX13_isSo_5 6 rfl rfl)
theorem dX13_isSo_125 : decode cX13_isSo 125 = .ok (.ireturn, 1) := dk_172 (dk_at dksX13_isSo_5 7 rfl rfl)
abbrev cX13_hold : ByteArray := prog_21_method_116_code
def yX13_hold : MethodName := ⟨RX13, "hold", "(I)Z"⟩
def dkwX13_hold_2 : List UInt8 := [167, 255, 228, 4, 172]
abbrev dktX13_hold_2 : List UInt8 := dkwX13_hold_2 ++ []
def dkwX13_hold_1 : List UInt8 := [162, 0, 27, 42, 180, 0, 174, 17, 5, 10, 27, 104, 28, 96, 42, 180, 0, 128, 28, 46, 79, 132, 2, 1]
abbrev dktX13_hold_1 : List UInt8 := dkwX13_hold_1 ++ dktX13_hold_2
def dkwX13_hold_0 : List UInt8 := [27, 3, 5, 184, 1, 89, 154, 0, 5, 3, 172, 42, 180, 0, 171, 27, 4, 84, 3, 61, 28, 17, 5, 10]
abbrev dktX13_hold_0 : List UInt8 := dkwX13_hold_0 ++ dktX13_hold_1
theorem dksX13_hold_0 : cX13_hold.data.toList.drop 0 = dktX13_hold_0 := by decide +kernel
theorem dksX13_hold_1 : cX13_hold.data.toList.drop 24 = dktX13_hold_1 := dk_seg dksX13_hold_0 24 rfl rfl
theorem dksX13_hold_2 : cX13_hold.data.toList.drop 48 = dktX13_hold_2 := dk_seg dksX13_hold_1 24 rfl rfl
theorem dX13_hold_0 : decode cX13_hold 0 = .ok (.iload_n 1, 1) := dk_27 (dk_at dksX13_hold_0 0 rfl rfl)
theorem dX13_hold_1 : decode cX13_hold 1 = .ok (.iconst 0, 1) := dk_3 (dk_at dksX13_hold_0 1 rfl rfl)
theorem dX13_hold_2 : decode cX13_hold 2 = .ok (.iconst 2, 1) := dk_5 (dk_at dksX13_hold_0 2 rfl rfl)
theorem dX13_hold_3 : decode cX13_hold 3 = .ok (.invokestatic 345, 3) := dk_184 1 89 (dk_at dksX13_hold_0 3 rfl rfl)
theorem dX13_hold_6 : decode cX13_hold 6 = .ok (.ifCond .ne 5, 3) := dk_154 0 5 (dk_at dksX13_hold_0 6 rfl rfl)
theorem dX13_hold_9 : decode cX13_hold 9 = .ok (.iconst 0, 1) := dk_3 (dk_at dksX13_hold_0 9 rfl rfl)
theorem dX13_hold_10 : decode cX13_hold 10 = .ok (.ireturn, 1) := dk_172 (dk_at dksX13_hold_0 10 rfl rfl)
theorem dX13_hold_11 : decode cX13_hold 11 = .ok (.aload_n 0, 1) := dk_42 (dk_at dksX13_hold_0 11 rfl rfl)
theorem dX13_hold_12 : decode cX13_hold 12 = .ok (.getfield 171, 3) := dk_180 0 171 (dk_at dksX13_hold_0 12 rfl rfl)
theorem dX13_hold_15 : decode cX13_hold 15 = .ok (.iload_n 1, 1) := dk_27 (dk_at dksX13_hold_0 15 rfl rfl)
theorem dX13_hold_16 : decode cX13_hold 16 = .ok (.iconst 1, 1) := dk_4 (dk_at dksX13_hold_0 16 rfl rfl)
theorem dX13_hold_17 : decode cX13_hold 17 = .ok (.bastore, 1) := dk_84 (dk_at dksX13_hold_0 17 rfl rfl)
theorem dX13_hold_18 : decode cX13_hold 18 = .ok (.iconst 0, 1) := dk_3 (dk_at dksX13_hold_0 18 rfl rfl)
theorem dX13_hold_19 : decode cX13_hold 19 = .ok (.istore_n 2, 1) := dk_61 (dk_at dksX13_hold_0 19 rfl rfl)
theorem dX13_hold_20 : decode cX13_hold 20 = .ok (.iload_n 2, 1) := dk_28 (dk_at dksX13_hold_0 20 rfl rfl)
theorem dX13_hold_21 : decode cX13_hold 21 = .ok (.sipush 1290, 3) := dk_17 5 10 (dk_at dksX13_hold_0 21 rfl rfl)
theorem dX13_hold_24 : decode cX13_hold 24 = .ok (.if_icmp .ge 27, 3) := dk_162 0 27 (dk_at dksX13_hold_1 0 rfl rfl)
theorem dX13_hold_27 : decode cX13_hold 27 = .ok (.aload_n 0, 1) := dk_42 (dk_at dksX13_hold_1 3 rfl rfl)
theorem dX13_hold_28 : decode cX13_hold 28 = .ok (.getfield 174, 3) := dk_180 0 174 (dk_at dksX13_hold_1 4 rfl rfl)
theorem dX13_hold_31 : decode cX13_hold 31 = .ok (.sipush 1290, 3) := dk_17 5 10 (dk_at dksX13_hold_1 7 rfl rfl)
theorem dX13_hold_34 : decode cX13_hold 34 = .ok (.iload_n 1, 1) := dk_27 (dk_at dksX13_hold_1 10 rfl rfl)
theorem dX13_hold_35 : decode cX13_hold 35 = .ok (.imul, 1) := dk_104 (dk_at dksX13_hold_1 11 rfl rfl)
theorem dX13_hold_36 : decode cX13_hold 36 = .ok (.iload_n 2, 1) := dk_28 (dk_at dksX13_hold_1 12 rfl rfl)
theorem dX13_hold_37 : decode cX13_hold 37 = .ok (.iadd, 1) := dk_96 (dk_at dksX13_hold_1 13 rfl rfl)
theorem dX13_hold_38 : decode cX13_hold 38 = .ok (.aload_n 0, 1) := dk_42 (dk_at dksX13_hold_1 14 rfl rfl)
theorem dX13_hold_39 : decode cX13_hold 39 = .ok (.getfield 128, 3) := dk_180 0 128 (dk_at dksX13_hold_1 15 rfl rfl)
theorem dX13_hold_42 : decode cX13_hold 42 = .ok (.iload_n 2, 1) := dk_28 (dk_at dksX13_hold_1 18 rfl rfl)
theorem dX13_hold_43 : decode cX13_hold 43 = .ok (.iaload, 1) := dk_46 (dk_at dksX13_hold_1 19 rfl rfl)
theorem dX13_hold_44 : decode cX13_hold 44 = .ok (.iastore, 1) := dk_79 (dk_at dksX13_hold_1 20 rfl rfl)
theorem dX13_hold_45 : decode cX13_hold 45 = .ok (.iinc 2 1, 3) := dk_132 2 1 (dk_at dksX13_hold_1 21 rfl rfl)
theorem dX13_hold_48 : decode cX13_hold 48 = .ok (.goto (-28), 3) := dk_167 255 228 (dk_at dksX13_hold_2 0 rfl rfl)
theorem dX13_hold_51 : decode cX13_hold 51 = .ok (.iconst 1, 1) := dk_4 (dk_at dksX13_hold_2 3 rfl rfl)
theorem dX13_hold_52 : decode cX13_hold 52 = .ok (.ireturn, 1) := dk_172 (dk_at dksX13_hold_2 4 rfl rfl)
abbrev cX13_restore : ByteArray := prog_21_method_117_code
def yX13_restore : MethodName := ⟨RX13, "restore", "(I)Z"⟩
def dkwX13_restore_2 : List UInt8 := [132, 2, 1, 167, 255, 228, 42, 3, 181, 1, 27, 4, 172]
abbrev dktX13_restore_2 : List UInt8 := dkwX13_restore_2 ++ []
def dkwX13_restore_1 : List UInt8 := [17, 5, 10, 162, 0, 27, 42, 180, 0, 128, 28, 42, 180, 0, 174, 17, 5, 10, 27, 104, 28, 96, 46, 79]
abbrev dktX13_restore_1 : List UInt8 := dkwX13_restore_1 ++ dktX13_restore_2
def dkwX13_restore_0 : List UInt8 := [27, 3, 5, 184, 1, 89, 153, 0, 12, 42, 180, 0, 171, 27, 51, 154, 0, 5, 3, 172, 3, 61, 28]
abbrev dktX13_restore_0 : List UInt8 := dkwX13_restore_0 ++ dktX13_restore_1
theorem dksX13_restore_0 : cX13_restore.data.toList.drop 0 = dktX13_restore_0 := by decide +kernel
theorem dksX13_restore_1 : cX13_restore.data.toList.drop 23 = dktX13_restore_1 := dk_seg dksX13_restore_0 23 rfl rfl
theorem dksX13_restore_2 : cX13_restore.data.toList.drop 47 = dktX13_restore_2 := dk_seg dksX13_restore_1 24 rfl rfl
theorem dX13_restore_0 : decode cX13_restore 0 = .ok (.iload_n 1, 1) := dk_27 (dk_at dksX13_restore_0 0 rfl rfl)
theorem dX13_restore_1 : decode cX13_restore 1 = .ok (.iconst 0, 1) := dk_3 (dk_at dksX13_restore_0 1 rfl rfl)
theorem dX13_restore_2 : decode cX13_restore 2 = .ok (.iconst 2, 1) := dk_5 (dk_at dksX13_restore_0 2 rfl rfl)
theorem dX13_restore_3 : decode cX13_restore 3 = .ok (.invokestatic 345, 3) := dk_184 1 89 (dk_at dksX13_restore_0 3 rfl rfl)
theorem dX13_restore_6 : decode cX13_restore 6 = .ok (.ifCond .eq 12, 3) := dk_153 0 12 (dk_at dksX13_restore_0 6 rfl rfl)
theorem dX13_restore_9 : decode cX13_restore 9 = .ok (.aload_n 0, 1) := dk_42 (dk_at dksX13_restore_0 9 rfl rfl)
theorem dX13_restore_10 : decode cX13_restore 10 = .ok (.getfield 171, 3) := dk_180 0 171 (dk_at dksX13_restore_0 10 rfl rfl)
theorem dX13_restore_13 : decode cX13_restore 13 = .ok (.iload_n 1, 1) := dk_27 (dk_at dksX13_restore_0 13 rfl rfl)
theorem dX13_restore_14 : decode cX13_restore 14 = .ok (.baload, 1) := dk_51 (dk_at dksX13_restore_0 14 rfl rfl)
theorem dX13_restore_15 : decode cX13_restore 15 = .ok (.ifCond .ne 5, 3) := dk_154 0 5 (dk_at dksX13_restore_0 15 rfl rfl)
theorem dX13_restore_18 : decode cX13_restore 18 = .ok (.iconst 0, 1) := dk_3 (dk_at dksX13_restore_0 18 rfl rfl)
theorem dX13_restore_19 : decode cX13_restore 19 = .ok (.ireturn, 1) := dk_172 (dk_at dksX13_restore_0 19 rfl rfl)
theorem dX13_restore_20 : decode cX13_restore 20 = .ok (.iconst 0, 1) := dk_3 (dk_at dksX13_restore_0 20 rfl rfl)
theorem dX13_restore_21 : decode cX13_restore 21 = .ok (.istore_n 2, 1) := dk_61 (dk_at dksX13_restore_0 21 rfl rfl)
theorem dX13_restore_22 : decode cX13_restore 22 = .ok (.iload_n 2, 1) := dk_28 (dk_at dksX13_restore_0 22 rfl rfl)
theorem dX13_restore_23 : decode cX13_restore 23 = .ok (.sipush 1290, 3) := dk_17 5 10 (dk_at dksX13_restore_1 0 rfl rfl)
theorem dX13_restore_26 : decode cX13_restore 26 = .ok (.if_icmp .ge 27, 3) := dk_162 0 27 (dk_at dksX13_restore_1 3 rfl rfl)
theorem dX13_restore_29 : decode cX13_restore 29 = .ok (.aload_n 0, 1) := dk_42 (dk_at dksX13_restore_1 6 rfl rfl)
theorem dX13_restore_30 : decode cX13_restore 30 = .ok (.getfield 128, 3) := dk_180 0 128 (dk_at dksX13_restore_1 7 rfl rfl)
theorem dX13_restore_33 : decode cX13_restore 33 = .ok (.iload_n 2, 1) := dk_28 (dk_at dksX13_restore_1 10 rfl rfl)
theorem dX13_restore_34 : decode cX13_restore 34 = .ok (.aload_n 0, 1) := dk_42 (dk_at dksX13_restore_1 11 rfl rfl)
theorem dX13_restore_35 : decode cX13_restore 35 = .ok (.getfield 174, 3) := dk_180 0 174 (dk_at dksX13_restore_1 12 rfl rfl)
theorem dX13_restore_38 : decode cX13_restore 38 = .ok (.sipush 1290, 3) := dk_17 5 10 (dk_at dksX13_restore_1 15 rfl rfl)
theorem dX13_restore_41 : decode cX13_restore 41 = .ok (.iload_n 1, 1) := dk_27 (dk_at dksX13_restore_1 18 rfl rfl)
theorem dX13_restore_42 : decode cX13_restore 42 = .ok (.imul, 1) := dk_104 (dk_at dksX13_restore_1 19 rfl rfl)
theorem dX13_restore_43 : decode cX13_restore 43 = .ok (.iload_n 2, 1) := dk_28 (dk_at dksX13_restore_1 20 rfl rfl)
theorem dX13_restore_44 : decode cX13_restore 44 = .ok (.iadd, 1) := dk_96 (dk_at dksX13_restore_1 21 rfl rfl)
theorem dX13_restore_45 : decode cX13_restore 45 = .ok (.iaload, 1) := dk_46 (dk_at dksX13_restore_1 22 rfl rfl)
theorem dX13_restore_46 : decode cX13_restore 46 = .ok (.iastore, 1) := dk_79 (dk_at dksX13_restore_1 23 rfl rfl)
theorem dX13_restore_47 : decode cX13_restore 47 = .ok (.iinc 2 1, 3) := dk_132 2 1 (dk_at dksX13_restore_2 0 rfl rfl)
theorem dX13_restore_50 : decode cX13_restore 50 = .ok (.goto (-28), 3) := dk_167 255 228 (dk_at dksX13_restore_2 3 rfl rfl)
theorem dX13_restore_53 : decode cX13_restore 53 = .ok (.aload_n 0, 1) := dk_42 (dk_at dksX13_restore_2 6 rfl rfl)
theorem dX13_restore_54 : decode cX13_restore 54 = .ok (.iconst 0, 1) := dk_3 (dk_at dksX13_restore_2 7 rfl rfl)
theorem dX13_restore_55 : decode cX13_restore 55 = .ok (.putfield 283, 3) := dk_181 1 27 (dk_at dksX13_restore_2 8 rfl rfl)
theorem dX13_restore_58 : decode cX13_restore 58 = .ok (.iconst 1, 1) := dk_4 (dk_at dksX13_restore_2 11 rfl rfl)
theorem dX13_restore_59 : decode cX13_restore 59 = .ok (.ireturn, 1) := dk_172 (dk_at dksX13_restore_2 12 rfl rfl)
abbrev cX13_count : ByteArray := prog_21_method_118_code
def yX13_count : MethodName := ⟨RX13, "count", "(I)I"⟩
def dkwX13_count_10 : List UInt8 := [167, 0, 4, 3, 96, 172, 2, 172]
abbrev dktX13_count_10 : List UInt8 := dkwX13_count_10 ++ []
def dkwX13_count_9 : List UInt8 := [180, 0, 171, 4, 51, 153, 0, 7, 4, 167, 0, 4, 3, 96, 42, 180, 0, 171, 5, 51, 153, 0, 7, 4]
abbrev dktX13_count_9 : List UInt8 := dkwX13_count_9 ++ dktX13_count_10
def dkwX13_count_8 : List UInt8 := [180, 1, 27, 172, 42, 180, 1, 30, 172, 42, 180, 0, 171, 3, 51, 153, 0, 7, 4, 167, 0, 4, 3, 42]
abbrev dktX13_count_8 : List UInt8 := dkwX13_count_8 ++ dktX13_count_9
def dkwX13_count_7 : List UInt8 := [180, 1, 2, 104, 29, 96, 46, 96, 61, 132, 3, 1, 167, 255, 223, 28, 172, 42, 180, 0, 191, 172, 42]
abbrev dktX13_count_7 : List UInt8 := dkwX13_count_7 ++ dktX13_count_8
def dkwX13_count_6 : List UInt8 := [61, 3, 62, 29, 42, 180, 0, 49, 42, 180, 1, 2, 46, 162, 0, 26, 28, 42, 180, 0, 61, 16, 7, 42]
abbrev dktX13_count_6 : List UInt8 := dkwX13_count_6 ++ dktX13_count_7
def dkwX13_count_5 : List UInt8 := [29, 96, 46, 96, 61, 132, 3, 1, 167, 255, 218, 28, 172, 42, 180, 0, 70, 42, 180, 1, 2, 46, 172, 3]
abbrev dktX13_count_5 : List UInt8 := dkwX13_count_5 ++ dktX13_count_6
def dkwX13_count_4 : List UInt8 := [180, 1, 2, 46, 162, 0, 31, 28, 42, 180, 0, 128, 27, 7, 160, 0, 8, 16, 14, 167, 0, 5, 16, 21]
abbrev dktX13_count_4 : List UInt8 := dkwX13_count_4 ++ dktX13_count_5
def dkwX13_count_3 : List UInt8 := [42, 180, 1, 2, 46, 172, 42, 180, 0, 128, 16, 28, 46, 172, 3, 61, 3, 62, 29, 42, 180, 0, 49, 42]
abbrev dktX13_count_3 : List UInt8 := dkwX13_count_3 ++ dktX13_count_4
def dkwX13_count_2 : List UInt8 := [42, 180, 0, 49, 42, 180, 1, 2, 46, 172, 42, 180, 0, 43, 42, 180, 1, 2, 46, 172, 42, 180, 0, 46]
abbrev dktX13_count_2 : List UInt8 := dkwX13_count_2 ++ dktX13_count_3
def dkwX13_count_1 : List UInt8 := [170, 0, 0, 0, 0, 1, 4, 0, 0, 0, 0, 0, 0, 0, 11, 0, 0, 0, 63, 0, 0, 0, 73, 0, 0, 0, 83, 0, 0, 0, 93, 0, 0, 0, 101, 0, 0, 0, 101, 0, 0, 0, 148, 0, 0, 0, 158, 0, 0, 0, 200, 0, 0, 0, 205, 0, 0, 0, 210, 0, 0, 0, 215]
abbrev dktX13_count_1 : List UInt8 := dkwX13_count_1 ++ dktX13_count_2
def dkwX13_count_0 : List UInt8 := [27]
abbrev dktX13_count_0 : List UInt8 := dkwX13_count_0 ++ dktX13_count_1
theorem dksX13_count_0 : cX13_count.data.toList.drop 0 = dktX13_count_0 := by decide +kernel
theorem dksX13_count_1 : cX13_count.data.toList.drop 1 = dktX13_count_1 := dk_seg dksX13_count_0 1 rfl rfl
theorem dksX13_count_2 : cX13_count.data.toList.drop 64 = dktX13_count_2 := dk_seg dksX13_count_1 63 rfl rfl
theorem dksX13_count_3 : cX13_count.data.toList.drop 88 = dktX13_count_3 := dk_seg dksX13_count_2 24 rfl rfl
theorem dksX13_count_4 : cX13_count.data.toList.drop 112 = dktX13_count_4 := dk_seg dksX13_count_3 24 rfl rfl
theorem dksX13_count_5 : cX13_count.data.toList.drop 136 = dktX13_count_5 := dk_seg dksX13_count_4 24 rfl rfl
theorem dksX13_count_6 : cX13_count.data.toList.drop 160 = dktX13_count_6 := dk_seg dksX13_count_5 24 rfl rfl
theorem dksX13_count_7 : cX13_count.data.toList.drop 184 = dktX13_count_7 := dk_seg dksX13_count_6 24 rfl rfl
theorem dksX13_count_8 : cX13_count.data.toList.drop 207 = dktX13_count_8 := dk_seg dksX13_count_7 23 rfl rfl
theorem dksX13_count_9 : cX13_count.data.toList.drop 231 = dktX13_count_9 := dk_seg dksX13_count_8 24 rfl rfl
theorem dksX13_count_10 : cX13_count.data.toList.drop 255 = dktX13_count_10 := dk_seg dksX13_count_9 24 rfl rfl
theorem dX13_count_0 : decode cX13_count 0 = .ok (.iload_n 1, 1) := dk_27 (dk_at dksX13_count_0 0 rfl rfl)
theorem dX13_count_1 : decode cX13_count 1 = .ok (.tableswitch 260 0 11 #[63, 73, 83, 93, 101, 101, 148, 158, 200, 205, 210, 215], 63) := by decide +kernel
theorem dX13_count_64 : decode cX13_count 64 = .ok (.aload_n 0, 1) := dk_42 (dk_at dksX13_count_2 0 rfl rfl)
theorem dX13_count_65 : decode cX13_count 65 = .ok (.getfield 49, 3) := dk_180 0 49 (dk_at dksX13_count_2 1 rfl rfl)
theorem dX13_count_68 : decode cX13_count 68 = .ok (.aload_n 0, 1) := dk_42 (dk_at dksX13_count_2 4 rfl rfl)
theorem dX13_count_69 : decode cX13_count 69 = .ok (.getfield 258, 3) := dk_180 1 2 (dk_at dksX13_count_2 5 rfl rfl)
theorem dX13_count_72 : decode cX13_count 72 = .ok (.iaload, 1) := dk_46 (dk_at dksX13_count_2 8 rfl rfl)
theorem dX13_count_73 : decode cX13_count 73 = .ok (.ireturn, 1) := dk_172 (dk_at dksX13_count_2 9 rfl rfl)
theorem dX13_count_74 : decode cX13_count 74 = .ok (.aload_n 0, 1) := dk_42 (dk_at dksX13_count_2 10 rfl rfl)
theorem dX13_count_75 : decode cX13_count 75 = .ok (.getfield 43, 3) := dk_180 0 43 (dk_at dksX13_count_2 11 rfl rfl)
theorem dX13_count_78 : decode cX13_count 78 = .ok (.aload_n 0, 1) := dk_42 (dk_at dksX13_count_2 14 rfl rfl)
theorem dX13_count_79 : decode cX13_count 79 = .ok (.getfield 258, 3) := dk_180 1 2 (dk_at dksX13_count_2 15 rfl rfl)
theorem dX13_count_82 : decode cX13_count 82 = .ok (.iaload, 1) := dk_46 (dk_at dksX13_count_2 18 rfl rfl)
theorem dX13_count_83 : decode cX13_count 83 = .ok (.ireturn, 1) := dk_172 (dk_at dksX13_count_2 19 rfl rfl)
theorem dX13_count_84 : decode cX13_count 84 = .ok (.aload_n 0, 1) := dk_42 (dk_at dksX13_count_2 20 rfl rfl)
theorem dX13_count_85 : decode cX13_count 85 = .ok (.getfield 46, 3) := dk_180 0 46 (dk_at dksX13_count_2 21 rfl rfl)
theorem dX13_count_88 : decode cX13_count 88 = .ok (.aload_n 0, 1) := dk_42 (dk_at dksX13_count_3 0 rfl rfl)
theorem dX13_count_89 : decode cX13_count 89 = .ok (.getfield 258, 3) := dk_180 1 2 (dk_at dksX13_count_3 1 rfl rfl)
theorem dX13_count_92 : decode cX13_count 92 = .ok (.iaload, 1) := dk_46 (dk_at dksX13_count_3 4 rfl rfl)
theorem dX13_count_93 : decode cX13_count 93 = .ok (.ireturn, 1) := dk_172 (dk_at dksX13_count_3 5 rfl rfl)
theorem dX13_count_94 : decode cX13_count 94 = .ok (.aload_n 0, 1) := dk_42 (dk_at dksX13_count_3 6 rfl rfl)
theorem dX13_count_95 : decode cX13_count 95 = .ok (.getfield 128, 3) := dk_180 0 128 (dk_at dksX13_count_3 7 rfl rfl)
theorem dX13_count_98 : decode cX13_count 98 = .ok (.bipush 28, 2) := dk_16 28 (dk_at dksX13_count_3 10 rfl rfl)
theorem dX13_count_100 : decode cX13_count 100 = .ok (.iaload, 1) := dk_46 (dk_at dksX13_count_3 12 rfl rfl)
theorem dX13_count_101 : decode cX13_count 101 = .ok (.ireturn, 1) := dk_172 (dk_at dksX13_count_3 13 rfl rfl)
theorem dX13_count_102 : decode cX13_count 102 = .ok (.iconst 0, 1) := dk_3 (dk_at dksX13_count_3 14 rfl rfl)
theorem dX13_count_103 : decode cX13_count 103 = .ok (.istore_n 2, 1) := dk_61 (dk_at dksX13_count_3 15 rfl rfl)
theorem dX13_count_104 : decode cX13_count 104 = .ok (.iconst 0, 1) := dk_3 (dk_at dksX13_count_3 16 rfl rfl)
theorem dX13_count_105 : decode cX13_count 105 = .ok (.istore_n 3, 1) := dk_62 (dk_at dksX13_count_3 17 rfl rfl)
theorem dX13_count_106 : decode cX13_count 106 = .ok (.iload_n 3, 1) := dk_29 (dk_at dksX13_count_3 18 rfl rfl)
theorem dX13_count_107 : decode cX13_count 107 = .ok (.aload_n 0, 1) := dk_42 (dk_at dksX13_count_3 19 rfl rfl)
theorem dX13_count_108 : decode cX13_count 108 = .ok (.getfield 49, 3) := dk_180 0 49 (dk_at dksX13_count_3 20 rfl rfl)
theorem dX13_count_111 : decode cX13_count 111 = .ok (.aload_n 0, 1) := dk_42 (dk_at dksX13_count_3 23 rfl rfl)
theorem dX13_count_112 : decode cX13_count 112 = .ok (.getfield 258, 3) := dk_180 1 2 (dk_at dksX13_count_4 0 rfl rfl)
theorem dX13_count_115 : decode cX13_count 115 = .ok (.iaload, 1) := dk_46 (dk_at dksX13_count_4 3 rfl rfl)
theorem dX13_count_116 : decode cX13_count 116 = .ok (.if_icmp .ge 31, 3) := dk_162 0 31 (dk_at dksX13_count_4 4 rfl rfl)
theorem dX13_count_119 : decode cX13_count 119 = .ok (.iload_n 2, 1) := dk_28 (dk_at dksX13_count_4 7 rfl rfl)
theorem dX13_count_120 : decode cX13_count 120 = .ok (.aload_n 0, 1) := dk_42 (dk_at dksX13_count_4 8 rfl rfl)
theorem dX13_count_121 : decode cX13_count 121 = .ok (.getfield 128, 3) := dk_180 0 128 (dk_at dksX13_count_4 9 rfl rfl)
theorem dX13_count_124 : decode cX13_count 124 = .ok (.iload_n 1, 1) := dk_27 (dk_at dksX13_count_4 12 rfl rfl)
theorem dX13_count_125 : decode cX13_count 125 = .ok (.iconst 4, 1) := dk_7 (dk_at dksX13_count_4 13 rfl rfl)
theorem dX13_count_126 : decode cX13_count 126 = .ok (.if_icmp .ne 8, 3) := dk_160 0 8 (dk_at dksX13_count_4 14 rfl rfl)
theorem dX13_count_129 : decode cX13_count 129 = .ok (.bipush 14, 2) := dk_16 14 (dk_at dksX13_count_4 17 rfl rfl)
theorem dX13_count_131 : decode cX13_count 131 = .ok (.goto 5, 3) := dk_167 0 5 (dk_at dksX13_count_4 19 rfl rfl)
theorem dX13_count_134 : decode cX13_count 134 = .ok (.bipush 21, 2) := dk_16 21 (dk_at dksX13_count_4 22 rfl rfl)
theorem dX13_count_136 : decode cX13_count 136 = .ok (.iload_n 3, 1) := dk_29 (dk_at dksX13_count_5 0 rfl rfl)
theorem dX13_count_137 : decode cX13_count 137 = .ok (.iadd, 1) := dk_96 (dk_at dksX13_count_5 1 rfl rfl)
theorem dX13_count_138 : decode cX13_count 138 = .ok (.iaload, 1) := dk_46 (dk_at dksX13_count_5 2 rfl rfl)
theorem dX13_count_139 : decode cX13_count 139 = .ok (.iadd, 1) := dk_96 (dk_at dksX13_count_5 3 rfl rfl)
theorem dX13_count_140 : decode cX13_count 140 = .ok (.istore_n 2, 1) := dk_61 (dk_at dksX13_count_5 4 rfl rfl)
theorem dX13_count_141 : decode cX13_count 141 = .ok (.iinc 3 1, 3) := dk_132 3 1 (dk_at dksX13_count_5 5 rfl rfl)
theorem dX13_count_144 : decode cX13_count 144 = .ok (.goto (-38), 3) := dk_167 255 218 (dk_at dksX13_count_5 8 rfl rfl)
theorem dX13_count_147 : decode cX13_count 147 = .ok (.iload_n 2, 1) := dk_28 (dk_at dksX13_count_5 11 rfl rfl)
theorem dX13_count_148 : decode cX13_count 148 = .ok (.ireturn, 1) := dk_172 (dk_at dksX13_count_5 12 rfl rfl)
theorem dX13_count_149 : decode cX13_count 149 = .ok (.aload_n 0, 1) := dk_42 (dk_at dksX13_count_5 13 rfl rfl)
theorem dX13_count_150 : decode cX13_count 150 = .ok (.getfield 70, 3) := dk_180 0 70 (dk_at dksX13_count_5 14 rfl rfl)
theorem dX13_count_153 : decode cX13_count 153 = .ok (.aload_n 0, 1) := dk_42 (dk_at dksX13_count_5 17 rfl rfl)
theorem dX13_count_154 : decode cX13_count 154 = .ok (.getfield 258, 3) := dk_180 1 2 (dk_at dksX13_count_5 18 rfl rfl)
theorem dX13_count_157 : decode cX13_count 157 = .ok (.iaload, 1) := dk_46 (dk_at dksX13_count_5 21 rfl rfl)
theorem dX13_count_158 : decode cX13_count 158 = .ok (.ireturn, 1) := dk_172 (dk_at dksX13_count_5 22 rfl rfl)
theorem dX13_count_159 : decode cX13_count 159 = .ok (.iconst 0, 1) := dk_3 (dk_at dksX13_count_5 23 rfl rfl)
theorem dX13_count_160 : decode cX13_count 160 = .ok (.istore_n 2, 1) := dk_61 (dk_at dksX13_count_6 0 rfl rfl)
theorem dX13_count_161 : decode cX13_count 161 = .ok (.iconst 0, 1) := dk_3 (dk_at dksX13_count_6 1 rfl rfl)
theorem dX13_count_162 : decode cX13_count 162 = .ok (.istore_n 3, 1) := dk_62 (dk_at dksX13_count_6 2 rfl rfl)
theorem dX13_count_163 : decode cX13_count 163 = .ok (.iload_n 3, 1) := dk_29 (dk_at dksX13_count_6 3 rfl rfl)
theorem dX13_count_164 : decode cX13_count 164 = .ok (.aload_n 0, 1) := dk_42 (dk_at dksX13_count_6 4 rfl rfl)
theorem dX13_count_165 : decode cX13_count 165 = .ok (.getfield 49, 3) := dk_180 0 49 (dk_at dksX13_count_6 5 rfl rfl)
theorem dX13_count_168 : decode cX13_count 168 = .ok (.aload_n 0, 1) := dk_42 (dk_at dksX13_count_6 8 rfl rfl)
theorem dX13_count_169 : decode cX13_count 169 = .ok (.getfield 258, 3) := dk_180 1 2 (dk_at dksX13_count_6 9 rfl rfl)
theorem dX13_count_172 : decode cX13_count 172 = .ok (.iaload, 1) := dk_46 (dk_at dksX13_count_6 12 rfl rfl)
theorem dX13_count_173 : decode cX13_count 173 = .ok (.if_icmp .ge 26, 3) := dk_162 0 26 (dk_at dksX13_count_6 13 rfl rfl)
theorem dX13_count_176 : decode cX13_count 176 = .ok (.iload_n 2, 1) := dk_28 (dk_at dksX13_count_6 16 rfl rfl)
theorem dX13_count_177 : decode cX13_count 177 = .ok (.aload_n 0, 1) := dk_42 (dk_at dksX13_count_6 17 rfl rfl)
theorem dX13_count_178 : decode cX13_count 178 = .ok (.getfield 61, 3) := dk_180 0 61 (dk_at dksX13_count_6 18 rfl rfl)
theorem dX13_count_181 : decode cX13_count 181 = .ok (.bipush 7, 2) := dk_16 7 (dk_at dksX13_count_6 21 rfl rfl)
theorem dX13_count_183 : decode cX13_count 183 = .ok (.aload_n 0, 1) := dk_42 (dk_at dksX13_count_6 23 rfl rfl)
theorem dX13_count_184 : decode cX13_count 184 = .ok (.getfield 258, 3) := dk_180 1 2 (dk_at dksX13_count_7 0 rfl rfl)
theorem dX13_count_187 : decode cX13_count 187 = .ok (.imul, 1) := dk_104 (dk_at dksX13_count_7 3 rfl rfl)
theorem dX13_count_188 : decode cX13_count 188 = .ok (.iload_n 3, 1) := dk_29 (dk_at dksX13_count_7 4 rfl rfl)
theorem dX13_count_189 : decode cX13_count 189 = .ok (.iadd, 1) := dk_96 (dk_at dksX13_count_7 5 rfl rfl)
theorem dX13_count_190 : decode cX13_count 190 = .ok (.iaload, 1) := dk_46 (dk_at dksX13_count_7 6 rfl rfl)
theorem dX13_count_191 : decode cX13_count 191 = .ok (.iadd, 1) := dk_96 (dk_at dksX13_count_7 7 rfl rfl)
theorem dX13_count_192 : decode cX13_count 192 = .ok (.istore_n 2, 1) := dk_61 (dk_at dksX13_count_7 8 rfl rfl)
theorem dX13_count_193 : decode cX13_count 193 = .ok (.iinc 3 1, 3) := dk_132 3 1 (dk_at dksX13_count_7 9 rfl rfl)
theorem dX13_count_196 : decode cX13_count 196 = .ok (.goto (-33), 3) := dk_167 255 223 (dk_at dksX13_count_7 12 rfl rfl)
theorem dX13_count_199 : decode cX13_count 199 = .ok (.iload_n 2, 1) := dk_28 (dk_at dksX13_count_7 15 rfl rfl)
theorem dX13_count_200 : decode cX13_count 200 = .ok (.ireturn, 1) := dk_172 (dk_at dksX13_count_7 16 rfl rfl)
theorem dX13_count_201 : decode cX13_count 201 = .ok (.aload_n 0, 1) := dk_42 (dk_at dksX13_count_7 17 rfl rfl)
theorem dX13_count_202 : decode cX13_count 202 = .ok (.getfield 191, 3) := dk_180 0 191 (dk_at dksX13_count_7 18 rfl rfl)
theorem dX13_count_205 : decode cX13_count 205 = .ok (.ireturn, 1) := dk_172 (dk_at dksX13_count_7 21 rfl rfl)
theorem dX13_count_206 : decode cX13_count 206 = .ok (.aload_n 0, 1) := dk_42 (dk_at dksX13_count_7 22 rfl rfl)
theorem dX13_count_207 : decode cX13_count 207 = .ok (.getfield 283, 3) := dk_180 1 27 (dk_at dksX13_count_8 0 rfl rfl)
theorem dX13_count_210 : decode cX13_count 210 = .ok (.ireturn, 1) := dk_172 (dk_at dksX13_count_8 3 rfl rfl)
theorem dX13_count_211 : decode cX13_count 211 = .ok (.aload_n 0, 1) := dk_42 (dk_at dksX13_count_8 4 rfl rfl)
theorem dX13_count_212 : decode cX13_count 212 = .ok (.getfield 286, 3) := dk_180 1 30 (dk_at dksX13_count_8 5 rfl rfl)
theorem dX13_count_215 : decode cX13_count 215 = .ok (.ireturn, 1) := dk_172 (dk_at dksX13_count_8 8 rfl rfl)
theorem dX13_count_216 : decode cX13_count 216 = .ok (.aload_n 0, 1) := dk_42 (dk_at dksX13_count_8 9 rfl rfl)
theorem dX13_count_217 : decode cX13_count 217 = .ok (.getfield 171, 3) := dk_180 0 171 (dk_at dksX13_count_8 10 rfl rfl)
theorem dX13_count_220 : decode cX13_count 220 = .ok (.iconst 0, 1) := dk_3 (dk_at dksX13_count_8 13 rfl rfl)
theorem dX13_count_221 : decode cX13_count 221 = .ok (.baload, 1) := dk_51 (dk_at dksX13_count_8 14 rfl rfl)
theorem dX13_count_222 : decode cX13_count 222 = .ok (.ifCond .eq 7, 3) := dk_153 0 7 (dk_at dksX13_count_8 15 rfl rfl)
theorem dX13_count_225 : decode cX13_count 225 = .ok (.iconst 1, 1) := dk_4 (dk_at dksX13_count_8 18 rfl rfl)
theorem dX13_count_226 : decode cX13_count 226 = .ok (.goto 4, 3) := dk_167 0 4 (dk_at dksX13_count_8 19 rfl rfl)
theorem dX13_count_229 : decode cX13_count 229 = .ok (.iconst 0, 1) := dk_3 (dk_at dksX13_count_8 22 rfl rfl)
theorem dX13_count_230 : decode cX13_count 230 = .ok (.aload_n 0, 1) := dk_42 (dk_at dksX13_count_8 23 rfl rfl)
theorem dX13_count_231 : decode cX13_count 231 = .ok (.getfield 171, 3) := dk_180 0 171 (dk_at dksX13_count_9 0 rfl rfl)
theorem dX13_count_234 : decode cX13_count 234 = .ok (.iconst 1, 1) := dk_4 (dk_at dksX13_count_9 3 rfl rfl)
theorem dX13_count_235 : decode cX13_count 235 = .ok (.baload, 1) := dk_51 (dk_at dksX13_count_9 4 rfl rfl)
theorem dX13_count_236 : decode cX13_count 236 = .ok (.ifCond .eq 7, 3) := dk_153 0 7 (dk_at dksX13_count_9 5 rfl rfl)
theorem dX13_count_239 : decode cX13_count 239 = .ok (.iconst 1, 1) := dk_4 (dk_at dksX13_count_9 8 rfl rfl)
theorem dX13_count_240 : decode cX13_count 240 = .ok (.goto 4, 3) := dk_167 0 4 (dk_at dksX13_count_9 9 rfl rfl)
theorem dX13_count_243 : decode cX13_count 243 = .ok (.iconst 0, 1) := dk_3 (dk_at dksX13_count_9 12 rfl rfl)
theorem dX13_count_244 : decode cX13_count 244 = .ok (.iadd, 1) := dk_96 (dk_at dksX13_count_9 13 rfl rfl)
theorem dX13_count_245 : decode cX13_count 245 = .ok (.aload_n 0, 1) := dk_42 (dk_at dksX13_count_9 14 rfl rfl)
theorem dX13_count_246 : decode cX13_count 246 = .ok (.getfield 171, 3) := dk_180 0 171 (dk_at dksX13_count_9 15 rfl rfl)
theorem dX13_count_249 : decode cX13_count 249 = .ok (.iconst 2, 1) := dk_5 (dk_at dksX13_count_9 18 rfl rfl)
theorem dX13_count_250 : decode cX13_count 250 = .ok (.baload, 1) := dk_51 (dk_at dksX13_count_9 19 rfl rfl)
theorem dX13_count_251 : decode cX13_count 251 = .ok (.ifCond .eq 7, 3) := dk_153 0 7 (dk_at dksX13_count_9 20 rfl rfl)
theorem dX13_count_254 : decode cX13_count 254 = .ok (.iconst 1, 1) := dk_4 (dk_at dksX13_count_9 23 rfl rfl)
theorem dX13_count_255 : decode cX13_count 255 = .ok (.goto 4, 3) := dk_167 0 4 (dk_at dksX13_count_10 0 rfl rfl)
theorem dX13_count_258 : decode cX13_count 258 = .ok (.iconst 0, 1) := dk_3 (dk_at dksX13_count_10 3 rfl rfl)
theorem dX13_count_259 : decode cX13_count 259 = .ok (.iadd, 1) := dk_96 (dk_at dksX13_count_10 4 rfl rfl)
theorem dX13_count_260 : decode cX13_count 260 = .ok (.ireturn, 1) := dk_172 (dk_at dksX13_count_10 5 rfl rfl)
theorem dX13_count_261 : decode cX13_count 261 = .ok (.iconst (-1), 1) := dk_2 (dk_at dksX13_count_10 6 rfl rfl)
theorem dX13_count_262 : decode cX13_count 262 = .ok (.ireturn, 1) := dk_172 (dk_at dksX13_count_10 7 rfl rfl)
def mX13_init : am_M := (yX13_init, cX13_init, 1, none, [])
theorem okX13_init : am_Ok mX13_init 0 := ⟨rfl, q1553, q136, ⟨by decide +kernel, by decide +kernel, by decide +kernel⟩, by decide, by decide +kernel⟩
def mX13_plain0 : am_M := (yX13_plain0, cX13_plain0, 3, none, [])
theorem okX13_plain0 : am_Ok mX13_plain0 1 := ⟨rfl, q1559, q136, ⟨by decide +kernel, by decide +kernel, by decide +kernel⟩, by decide, by decide +kernel⟩
def mX13_word : am_M := (yX13_word, cX13_word, 7, (some .long), [])
theorem okX13_word : am_Ok mX13_word 7 := ⟨rfl, q1562, q136, ⟨by decide +kernel, by decide +kernel, by decide +kernel⟩, by decide, by decide +kernel⟩
def mX13_appends : am_M := (yX13_appends, cX13_appends, 3, (some .long), [])
theorem okX13_appends : am_Ok mX13_appends 2 := ⟨rfl, q1565, q136, ⟨by decide +kernel, by decide +kernel, by decide +kernel⟩, by decide, by decide +kernel⟩
def mX13_begins : am_M := (yX13_begins, cX13_begins, 2, none, [])
theorem okX13_begins : am_Ok mX13_begins 0 := ⟨rfl, q1570, q136, ⟨by decide +kernel, by decide +kernel, by decide +kernel⟩, by decide, by decide +kernel⟩
def mX13_keepsRow : am_M := (yX13_keepsRow, cX13_keepsRow, 2, none, [])
theorem okX13_keepsRow : am_Ok mX13_keepsRow 0 := ⟨rfl, q1574, q136, ⟨by decide +kernel, by decide +kernel, by decide +kernel⟩, by decide, by decide +kernel⟩
def mX13_feed : am_M := (yX13_feed, cX13_feed, 6, (some .int), [])
theorem okX13_feed : am_Ok mX13_feed 5 := ⟨rfl, q1804, q136, ⟨by decide +kernel, by decide +kernel, by decide +kernel⟩, by decide, by decide +kernel⟩
def mX13_put : am_M := (yX13_put, cX13_put, 3, none, [])
theorem okX13_put : am_Ok mX13_put 1 := ⟨rfl, q1808, q136, ⟨by decide +kernel, by decide +kernel, by decide +kernel⟩, by decide, by decide +kernel⟩
def mX13_back : am_M := (yX13_back, cX13_back, 2, (some .int), [])
theorem okX13_back : am_Ok mX13_back 1 := ⟨rfl, q1812, q136, ⟨by decide +kernel, by decide +kernel, by decide +kernel⟩, by decide, by decide +kernel⟩
def mX13_read : am_M := (yX13_read, cX13_read, 2, (some .int), [])
theorem okX13_read : am_Ok mX13_read 0 := ⟨rfl, q1816, q136, ⟨by decide +kernel, by decide +kernel, by decide +kernel⟩, by decide, by decide +kernel⟩
def mX13_cut0 : am_M := (yX13_cut0, cX13_cut0, 8, none, [])
theorem okX13_cut0 : am_Ok mX13_cut0 0 := ⟨rfl, q1820, q136, ⟨by decide +kernel, by decide +kernel, by decide +kernel⟩, by decide, by decide +kernel⟩
def mX13_byteAt : am_M := (yX13_byteAt, cX13_byteAt, 2, (some .int), [])
theorem okX13_byteAt : am_Ok mX13_byteAt 1 := ⟨rfl, q1824, q136, ⟨by decide +kernel, by decide +kernel, by decide +kernel⟩, by decide, by decide +kernel⟩
def mX13_token : am_M := (yX13_token, cX13_token, 6, none, [])
theorem okX13_token : am_Ok mX13_token 4 := ⟨rfl, q1828, q136, ⟨by decide +kernel, by decide +kernel, by decide +kernel⟩, by decide, by decide +kernel⟩
def mX13_isLetter : am_M := (yX13_isLetter, cX13_isLetter, 1, (some .boolean), [])
theorem okX13_isLetter : am_Ok mX13_isLetter 1 := ⟨rfl, q1831, q136, ⟨by decide +kernel, by decide +kernel, by decide +kernel⟩, by decide, by decide +kernel⟩
def mX13_isDigit : am_M := (yX13_isDigit, cX13_isDigit, 1, (some .boolean), [])
theorem okX13_isDigit : am_Ok mX13_isDigit 1 := ⟨rfl, q1834, q136, ⟨by decide +kernel, by decide +kernel, by decide +kernel⟩, by decide, by decide +kernel⟩
def mX13_sign : am_M := (yX13_sign, cX13_sign, 5, (some .int), [])
theorem okX13_sign : am_Ok mX13_sign 3 := ⟨rfl, q1838, q136, ⟨by decide +kernel, by decide +kernel, by decide +kernel⟩, by decide, by decide +kernel⟩
def mX13_is : am_M := (yX13_is, cX13_is, 2, (some .boolean), [])
theorem okX13_is : am_Ok mX13_is 1 := ⟨rfl, q1842, q136, ⟨by decide +kernel, by decide +kernel, by decide +kernel⟩, by decide, by decide +kernel⟩
def mX13_tell0 : am_M := (yX13_tell0, cX13_tell0, 3, none, [])
theorem okX13_tell0 : am_Ok mX13_tell0 0 := ⟨rfl, q1846, q136, ⟨by decide +kernel, by decide +kernel, by decide +kernel⟩, by decide, by decide +kernel⟩
def mX13_goesOn : am_M := (yX13_goesOn, cX13_goesOn, 1, none, [])
theorem okX13_goesOn : am_Ok mX13_goesOn 0 := ⟨rfl, q1850, q136, ⟨by decide +kernel, by decide +kernel, by decide +kernel⟩, by decide, by decide +kernel⟩
def mX13_fail : am_M := (yX13_fail, cX13_fail, 2, none, [])
theorem okX13_fail : am_Ok mX13_fail 1 := ⟨rfl, q1854, q136, ⟨by decide +kernel, by decide +kernel, by decide +kernel⟩, by decide, by decide +kernel⟩
def mX13_bounded : am_M := (yX13_bounded, cX13_bounded, 4, (some .int), [])
theorem okX13_bounded : am_Ok mX13_bounded 2 := ⟨rfl, q1858, q136, ⟨by decide +kernel, by decide +kernel, by decide +kernel⟩, by decide, by decide +kernel⟩
def mX13_wrong : am_M := (yX13_wrong, cX13_wrong, 4, none, [])
theorem okX13_wrong : am_Ok mX13_wrong 2 := ⟨rfl, q1862, q136, ⟨by decide +kernel, by decide +kernel, by decide +kernel⟩, by decide, by decide +kernel⟩
def mX13_must : am_M := (yX13_must, cX13_must, 2, none, [])
theorem okX13_must : am_Ok mX13_must 1 := ⟨rfl, q1866, q136, ⟨by decide +kernel, by decide +kernel, by decide +kernel⟩, by decide, by decide +kernel⟩
def mX13_roomFor : am_M := (yX13_roomFor, cX13_roomFor, 3, none, [])
theorem okX13_roomFor : am_Ok mX13_roomFor 2 := ⟨rfl, q1870, q136, ⟨by decide +kernel, by decide +kernel, by decide +kernel⟩, by decide, by decide +kernel⟩
def mX13_tellMan : am_M := (yX13_tellMan, cX13_tellMan, 4, none, [])
theorem okX13_tellMan : am_Ok mX13_tellMan 0 := ⟨rfl, q1874, q136, ⟨by decide +kernel, by decide +kernel, by decide +kernel⟩, by decide, by decide +kernel⟩
def mX13_manAt : am_M := (yX13_manAt, cX13_manAt, 3, (some .int), [])
theorem okX13_manAt : am_Ok mX13_manAt 1 := ⟨rfl, q1878, q136, ⟨by decide +kernel, by decide +kernel, by decide +kernel⟩, by decide, by decide +kernel⟩
def mX13_notesCorner : am_M := (yX13_notesCorner, cX13_notesCorner, 4, none, [])
theorem okX13_notesCorner : am_Ok mX13_notesCorner 3 := ⟨rfl, q1882, q136, ⟨by decide +kernel, by decide +kernel, by decide +kernel⟩, by decide, by decide +kernel⟩
def mX13_known : am_M := (yX13_known, cX13_known, 3, (some .int), [])
theorem okX13_known : am_Ok mX13_known 0 := ⟨rfl, q1886, q136, ⟨by decide +kernel, by decide +kernel, by decide +kernel⟩, by decide, by decide +kernel⟩
def mX13_tellLaw : am_M := (yX13_tellLaw, cX13_tellLaw, 4, none, [])
theorem okX13_tellLaw : am_Ok mX13_tellLaw 1 := ⟨rfl, q1890, q136, ⟨by decide +kernel, by decide +kernel, by decide +kernel⟩, by decide, by decide +kernel⟩
def mX13_expression : am_M := (yX13_expression, cX13_expression, 3, none, [])
theorem okX13_expression : am_Ok mX13_expression 0 := ⟨rfl, q1894, q136, ⟨by decide +kernel, by decide +kernel, by decide +kernel⟩, by decide, by decide +kernel⟩
def mX13_unit : am_M := (yX13_unit, cX13_unit, 1, none, [])
theorem okX13_unit : am_Ok mX13_unit 0 := ⟨rfl, q1898, q136, ⟨by decide +kernel, by decide +kernel, by decide +kernel⟩, by decide, by decide +kernel⟩
def mX13_emit : am_M := (yX13_emit, cX13_emit, 3, none, [])
theorem okX13_emit : am_Ok mX13_emit 2 := ⟨rfl, q1902, q136, ⟨by decide +kernel, by decide +kernel, by decide +kernel⟩, by decide, by decide +kernel⟩
def mX13_comesOut : am_M := (yX13_comesOut, cX13_comesOut, 3, none, [])
theorem okX13_comesOut : am_Ok mX13_comesOut 1 := ⟨rfl, q1906, q136, ⟨by decide +kernel, by decide +kernel, by decide +kernel⟩, by decide, by decide +kernel⟩
def mX13_term : am_M := (yX13_term, cX13_term, 1, none, [])
theorem okX13_term : am_Ok mX13_term 0 := ⟨rfl, q1910, q136, ⟨by decide +kernel, by decide +kernel, by decide +kernel⟩, by decide, by decide +kernel⟩
def mX13_tellErrand : am_M := (yX13_tellErrand, cX13_tellErrand, 6, none, [])
theorem okX13_tellErrand : am_Ok mX13_tellErrand 0 := ⟨rfl, q1914, q136, ⟨by decide +kernel, by decide +kernel, by decide +kernel⟩, by decide, by decide +kernel⟩
def mX13_tellPillar : am_M := (yX13_tellPillar, cX13_tellPillar, 2, none, [])
theorem okX13_tellPillar : am_Ok mX13_tellPillar 0 := ⟨rfl, q1918, q136, ⟨by decide +kernel, by decide +kernel, by decide +kernel⟩, by decide, by decide +kernel⟩
def mX13_place : am_M := (yX13_place, cX13_place, 1, (some .int), [])
theorem okX13_place : am_Ok mX13_place 0 := ⟨rfl, q1922, q136, ⟨by decide +kernel, by decide +kernel, by decide +kernel⟩, by decide, by decide +kernel⟩
def mX13_man : am_M := (yX13_man, cX13_man, 3, (some .int), [])
theorem okX13_man : am_Ok mX13_man 2 := ⟨rfl, q1926, q136, ⟨by decide +kernel, by decide +kernel, by decide +kernel⟩, by decide, by decide +kernel⟩
def mX13_isMan : am_M := (yX13_isMan, cX13_isMan, 2, (some .boolean), [])
theorem okX13_isMan : am_Ok mX13_isMan 1 := ⟨rfl, q1930, q136, ⟨by decide +kernel, by decide +kernel, by decide +kernel⟩, by decide, by decide +kernel⟩
def mX13_in : am_M := (yX13_in, cX13_in, 3, (some .boolean), [])
theorem okX13_in : am_Ok mX13_in 3 := ⟨rfl, q1933, q136, ⟨by decide +kernel, by decide +kernel, by decide +kernel⟩, by decide, by decide +kernel⟩
def mX13_copies : am_M := (yX13_copies, cX13_copies, 2, none, [])
theorem okX13_copies : am_Ok mX13_copies 0 := ⟨rfl, q1937, q136, ⟨by decide +kernel, by decide +kernel, by decide +kernel⟩, by decide, by decide +kernel⟩
def mX13_leftOf : am_M := (yX13_leftOf, cX13_leftOf, 2, (some .int), [])
theorem okX13_leftOf : am_Ok mX13_leftOf 1 := ⟨rfl, q1941, q136, ⟨by decide +kernel, by decide +kernel, by decide +kernel⟩, by decide, by decide +kernel⟩
def mX13_longOf : am_M := (yX13_longOf, cX13_longOf, 4, (some .int), [])
theorem okX13_longOf : am_Ok mX13_longOf 1 := ⟨rfl, q1945, q136, ⟨by decide +kernel, by decide +kernel, by decide +kernel⟩, by decide, by decide +kernel⟩
def mX13_tellsBy : am_M := (yX13_tellsBy, cX13_tellsBy, 5, (some .int), [])
theorem okX13_tellsBy : am_Ok mX13_tellsBy 1 := ⟨rfl, q1949, q136, ⟨by decide +kernel, by decide +kernel, by decide +kernel⟩, by decide, by decide +kernel⟩
def mX13_termOf : am_M := (yX13_termOf, cX13_termOf, 8, (some .int), [])
theorem okX13_termOf : am_Ok mX13_termOf 2 := ⟨rfl, q1953, q136, ⟨by decide +kernel, by decide +kernel, by decide +kernel⟩, by decide, by decide +kernel⟩
def mX13_apart : am_M := (yX13_apart, cX13_apart, 2, (some .int), [])
theorem okX13_apart : am_Ok mX13_apart 2 := ⟨rfl, q1956, q136, ⟨by decide +kernel, by decide +kernel, by decide +kernel⟩, by decide, by decide +kernel⟩
def mX13_goesOf : am_M := (yX13_goesOf, cX13_goesOf, 5, (some .int), [])
theorem okX13_goesOf : am_Ok mX13_goesOf 1 := ⟨rfl, q1960, q136, ⟨by decide +kernel, by decide +kernel, by decide +kernel⟩, by decide, by decide +kernel⟩
def mX13_lotOf : am_M := (yX13_lotOf, cX13_lotOf, 3, (some .int), [])
theorem okX13_lotOf : am_Ok mX13_lotOf 3 := ⟨rfl, q1963, q136, ⟨by decide +kernel, by decide +kernel, by decide +kernel⟩, by decide, by decide +kernel⟩
def mX13_mixed : am_M := (yX13_mixed, cX13_mixed, 3, (some .int), [])
theorem okX13_mixed : am_Ok mX13_mixed 2 := ⟨rfl, q1966, q136, ⟨by decide +kernel, by decide +kernel, by decide +kernel⟩, by decide, by decide +kernel⟩
def mX13_piece : am_M := (yX13_piece, cX13_piece, 5, (some .int), [])
theorem okX13_piece : am_Ok mX13_piece 3 := ⟨rfl, q1971, q136, ⟨by decide +kernel, by decide +kernel, by decide +kernel⟩, by decide, by decide +kernel⟩
def mX13_others : am_M := (yX13_others, cX13_others, 8, (some .int), [])
theorem okX13_others : am_Ok mX13_others 3 := ⟨rfl, q1975, q136, ⟨by decide +kernel, by decide +kernel, by decide +kernel⟩, by decide, by decide +kernel⟩
def mX13_step : am_M := (yX13_step, cX13_step, 3, (some .boolean), [])
theorem okX13_step : am_Ok mX13_step 2 := ⟨rfl, q1979, q136, ⟨by decide +kernel, by decide +kernel, by decide +kernel⟩, by decide, by decide +kernel⟩
def mX13_steps : am_M := (yX13_steps, cX13_steps, 6, (some .boolean), [])
theorem okX13_steps : am_Ok mX13_steps 2 := ⟨rfl, q1983, q136, ⟨by decide +kernel, by decide +kernel, by decide +kernel⟩, by decide, by decide +kernel⟩
def mX13_dx : am_M := (yX13_dx, cX13_dx, 1, (some .int), [])
theorem okX13_dx : am_Ok mX13_dx 1 := ⟨rfl, q1986, q136, ⟨by decide +kernel, by decide +kernel, by decide +kernel⟩, by decide, by decide +kernel⟩
def mX13_dy : am_M := (yX13_dy, cX13_dy, 1, (some .int), [])
theorem okX13_dy : am_Ok mX13_dy 1 := ⟨rfl, q1989, q136, ⟨by decide +kernel, by decide +kernel, by decide +kernel⟩, by decide, by decide +kernel⟩
def mX13_isCorner : am_M := (yX13_isCorner, cX13_isCorner, 3, (some .boolean), [])
theorem okX13_isCorner : am_Ok mX13_isCorner 2 := ⟨rfl, q1993, q136, ⟨by decide +kernel, by decide +kernel, by decide +kernel⟩, by decide, by decide +kernel⟩
def mX13_streetOf : am_M := (yX13_streetOf, cX13_streetOf, 5, (some .int), [])
theorem okX13_streetOf : am_Ok mX13_streetOf 3 := ⟨rfl, q1996, q136, ⟨by decide +kernel, by decide +kernel, by decide +kernel⟩, by decide, by decide +kernel⟩
def mX13_keeps : am_M := (yX13_keeps, cX13_keeps, 2, none, [])
theorem okX13_keeps : am_Ok mX13_keeps 0 := ⟨rfl, q2000, q136, ⟨by decide +kernel, by decide +kernel, by decide +kernel⟩, by decide, by decide +kernel⟩
def mX13_wind : am_M := (yX13_wind, cX13_wind, 2, (some .boolean), [])
theorem okX13_wind : am_Ok mX13_wind 1 := ⟨rfl, q2005, q136, ⟨by decide +kernel, by decide +kernel, by decide +kernel⟩, by decide, by decide +kernel⟩
def mX13_winds : am_M := (yX13_winds, cX13_winds, 3, (some .boolean), [])
theorem okX13_winds : am_Ok mX13_winds 1 := ⟨rfl, q2009, q136, ⟨by decide +kernel, by decide +kernel, by decide +kernel⟩, by decide, by decide +kernel⟩
def mX13_home : am_M := (yX13_home, cX13_home, 3, (some .int), [])
theorem okX13_home : am_Ok mX13_home 1 := ⟨rfl, q2013, q136, ⟨by decide +kernel, by decide +kernel, by decide +kernel⟩, by decide, by decide +kernel⟩
def mX13_cut : am_M := (yX13_cut, cX13_cut, 3, (some .int), [])
theorem okX13_cut : am_Ok mX13_cut 1 := ⟨rfl, q2017, q136, ⟨by decide +kernel, by decide +kernel, by decide +kernel⟩, by decide, by decide +kernel⟩
def mX13_run : am_M := (yX13_run, cX13_run, 3, (some .int), [])
theorem okX13_run : am_Ok mX13_run 1 := ⟨rfl, q2021, q136, ⟨by decide +kernel, by decide +kernel, by decide +kernel⟩, by decide, by decide +kernel⟩
def mX13_minuteGoes : am_M := (yX13_minuteGoes, cX13_minuteGoes, 3, none, [])
theorem okX13_minuteGoes : am_Ok mX13_minuteGoes 0 := ⟨rfl, q2025, q136, ⟨by decide +kernel, by decide +kernel, by decide +kernel⟩, by decide, by decide +kernel⟩
def mX13_undo : am_M := (yX13_undo, cX13_undo, 2, (some .boolean), [])
theorem okX13_undo : am_Ok mX13_undo 0 := ⟨rfl, q2029, q136, ⟨by decide +kernel, by decide +kernel, by decide +kernel⟩, by decide, by decide +kernel⟩
def mX13_over : am_M := (yX13_over, cX13_over, 3, (some .int), [])
theorem okX13_over : am_Ok mX13_over 2 := ⟨rfl, q2033, q136, ⟨by decide +kernel, by decide +kernel, by decide +kernel⟩, by decide, by decide +kernel⟩
def mX13_areTwo : am_M := (yX13_areTwo, cX13_areTwo, 3, (some .boolean), [])
theorem okX13_areTwo : am_Ok mX13_areTwo 2 := ⟨rfl, q2037, q136, ⟨by decide +kernel, by decide +kernel, by decide +kernel⟩, by decide, by decide +kernel⟩
def mX13_overOf : am_M := (yX13_overOf, cX13_overOf, 8, (some .int), [])
theorem okX13_overOf : am_Ok mX13_overOf 2 := ⟨rfl, q2041, q136, ⟨by decide +kernel, by decide +kernel, by decide +kernel⟩, by decide, by decide +kernel⟩
def mX13_waits : am_M := (yX13_waits, cX13_waits, 2, (some .int), [])
theorem okX13_waits : am_Ok mX13_waits 1 := ⟨rfl, q2045, q136, ⟨by decide +kernel, by decide +kernel, by decide +kernel⟩, by decide, by decide +kernel⟩
def mX13_fillsWaits : am_M := (yX13_fillsWaits, cX13_fillsWaits, 4, (some .int), [])
theorem okX13_fillsWaits : am_Ok mX13_fillsWaits 0 := ⟨rfl, q2049, q136, ⟨by decide +kernel, by decide +kernel, by decide +kernel⟩, by decide, by decide +kernel⟩
def mX13_orders : am_M := (yX13_orders, cX13_orders, 2, (some .int), [])
theorem okX13_orders : am_Ok mX13_orders 0 := ⟨rfl, q2053, q136, ⟨by decide +kernel, by decide +kernel, by decide +kernel⟩, by decide, by decide +kernel⟩
def mX13_fillsOrders : am_M := (yX13_fillsOrders, cX13_fillsOrders, 3, none, [])
theorem okX13_fillsOrders : am_Ok mX13_fillsOrders 0 := ⟨rfl, q2057, q136, ⟨by decide +kernel, by decide +kernel, by decide +kernel⟩, by decide, by decide +kernel⟩
def mX13_orderAt : am_M := (yX13_orderAt, cX13_orderAt, 5, (some .int), [])
theorem okX13_orderAt : am_Ok mX13_orderAt 1 := ⟨rfl, q2061, q136, ⟨by decide +kernel, by decide +kernel, by decide +kernel⟩, by decide, by decide +kernel⟩
def mX13_cuts : am_M := (yX13_cuts, cX13_cuts, 6, (some .int), [])
theorem okX13_cuts : am_Ok mX13_cuts 1 := ⟨rfl, q2065, q136, ⟨by decide +kernel, by decide +kernel, by decide +kernel⟩, by decide, by decide +kernel⟩
def mX13_bits : am_M := (yX13_bits, cX13_bits, 3, (some .int), [])
theorem okX13_bits : am_Ok mX13_bits 1 := ⟨rfl, q2068, q136, ⟨by decide +kernel, by decide +kernel, by decide +kernel⟩, by decide, by decide +kernel⟩
def mX13_piecesOf : am_M := (yX13_piecesOf, cX13_piecesOf, 4, (some .int), [])
theorem okX13_piecesOf : am_Ok mX13_piecesOf 1 := ⟨rfl, q2072, q136, ⟨by decide +kernel, by decide +kernel, by decide +kernel⟩, by decide, by decide +kernel⟩
def mX13_way : am_M := (yX13_way, cX13_way, 2, (some .int), [])
theorem okX13_way : am_Ok mX13_way 1 := ⟨rfl, q2076, q136, ⟨by decide +kernel, by decide +kernel, by decide +kernel⟩, by decide, by decide +kernel⟩
def mX13_wayOf : am_M := (yX13_wayOf, cX13_wayOf, 2, (some .int), [])
theorem okX13_wayOf : am_Ok mX13_wayOf 1 := ⟨rfl, q2080, q136, ⟨by decide +kernel, by decide +kernel, by decide +kernel⟩, by decide, by decide +kernel⟩
def mX13_wayFrom : am_M := (yX13_wayFrom, cX13_wayFrom, 12, (some .int), [])
theorem okX13_wayFrom : am_Ok mX13_wayFrom 3 := ⟨rfl, q2084, q136, ⟨by decide +kernel, by decide +kernel, by decide +kernel⟩, by decide, by decide +kernel⟩
def mX13_nextOrder : am_M := (yX13_nextOrder, cX13_nextOrder, 7, (some .boolean), [])
theorem okX13_nextOrder : am_Ok mX13_nextOrder 1 := ⟨rfl, q2088, q136, ⟨by decide +kernel, by decide +kernel, by decide +kernel⟩, by decide, by decide +kernel⟩
def mX13_wayAt : am_M := (yX13_wayAt, cX13_wayAt, 3, (some .int), [])
theorem okX13_wayAt : am_Ok mX13_wayAt 2 := ⟨rfl, q2092, q136, ⟨by decide +kernel, by decide +kernel, by decide +kernel⟩, by decide, by decide +kernel⟩
def mX13_lives : am_M := (yX13_lives, cX13_lives, 6, (some .int), [])
theorem okX13_lives : am_Ok mX13_lives 1 := ⟨rfl, q2096, q136, ⟨by decide +kernel, by decide +kernel, by decide +kernel⟩, by decide, by decide +kernel⟩
def mX13_turns : am_M := (yX13_turns, cX13_turns, 3, (some .int), [])
theorem okX13_turns : am_Ok mX13_turns 2 := ⟨rfl, q2100, q136, ⟨by decide +kernel, by decide +kernel, by decide +kernel⟩, by decide, by decide +kernel⟩
def mX13_turnsOf : am_M := (yX13_turnsOf, cX13_turnsOf, 7, (some .int), [])
theorem okX13_turnsOf : am_Ok mX13_turnsOf 2 := ⟨rfl, q2104, q136, ⟨by decide +kernel, by decide +kernel, by decide +kernel⟩, by decide, by decide +kernel⟩
def mX13_thieves : am_M := (yX13_thieves, cX13_thieves, 4, (some .int), [])
theorem okX13_thieves : am_Ok mX13_thieves 0 := ⟨rfl, q2108, q136, ⟨by decide +kernel, by decide +kernel, by decide +kernel⟩, by decide, by decide +kernel⟩
def mX13_meet : am_M := (yX13_meet, cX13_meet, 4, (some .int), [])
theorem okX13_meet : am_Ok mX13_meet 2 := ⟨rfl, q2112, q136, ⟨by decide +kernel, by decide +kernel, by decide +kernel⟩, by decide, by decide +kernel⟩
def mX13_most : am_M := (yX13_most, cX13_most, 4, (some .int), [])
theorem okX13_most : am_Ok mX13_most 1 := ⟨rfl, q2116, q136, ⟨by decide +kernel, by decide +kernel, by decide +kernel⟩, by decide, by decide +kernel⟩
def mX13_overAll : am_M := (yX13_overAll, cX13_overAll, 4, (some .int), [])
theorem okX13_overAll : am_Ok mX13_overAll 1 := ⟨rfl, q2120, q136, ⟨by decide +kernel, by decide +kernel, by decide +kernel⟩, by decide, by decide +kernel⟩
def mX13_unfair : am_M := (yX13_unfair, cX13_unfair, 4, (some .int), [])
theorem okX13_unfair : am_Ok mX13_unfair 0 := ⟨rfl, q2124, q136, ⟨by decide +kernel, by decide +kernel, by decide +kernel⟩, by decide, by decide +kernel⟩
def mX13_nearest : am_M := (yX13_nearest, cX13_nearest, 7, (some .int), [])
theorem okX13_nearest : am_Ok mX13_nearest 2 := ⟨rfl, q2128, q136, ⟨by decide +kernel, by decide +kernel, by decide +kernel⟩, by decide, by decide +kernel⟩
def mX13_street : am_M := (yX13_street, cX13_street, 6, (some .int), [])
theorem okX13_street : am_Ok mX13_street 4 := ⟨rfl, q2132, q136, ⟨by decide +kernel, by decide +kernel, by decide +kernel⟩, by decide, by decide +kernel⟩
def mX13_isStreet : am_M := (yX13_isStreet, cX13_isStreet, 4, (some .boolean), [])
theorem okX13_isStreet : am_Ok mX13_isStreet 3 := ⟨rfl, q2136, q136, ⟨by decide +kernel, by decide +kernel, by decide +kernel⟩, by decide, by decide +kernel⟩
def mX13_manyOn : am_M := (yX13_manyOn, cX13_manyOn, 2, (some .int), [])
theorem okX13_manyOn : am_Ok mX13_manyOn 1 := ⟨rfl, q2140, q136, ⟨by decide +kernel, by decide +kernel, by decide +kernel⟩, by decide, by decide +kernel⟩
def mX13_whoseAt : am_M := (yX13_whoseAt, cX13_whoseAt, 6, (some .int), [])
theorem okX13_whoseAt : am_Ok mX13_whoseAt 2 := ⟨rfl, q2144, q136, ⟨by decide +kernel, by decide +kernel, by decide +kernel⟩, by decide, by decide +kernel⟩
def mX13_shows : am_M := (yX13_shows, cX13_shows, 5, (some .int), [])
theorem okX13_shows : am_Ok mX13_shows 3 := ⟨rfl, q2148, q136, ⟨by decide +kernel, by decide +kernel, by decide +kernel⟩, by decide, by decide +kernel⟩
def mX13_topOf : am_M := (yX13_topOf, cX13_topOf, 2, (some .int), [])
theorem okX13_topOf : am_Ok mX13_topOf 1 := ⟨rfl, q2152, q136, ⟨by decide +kernel, by decide +kernel, by decide +kernel⟩, by decide, by decide +kernel⟩
def mX13_shown : am_M := (yX13_shown, cX13_shown, 5, (some .int), [])
theorem okX13_shown : am_Ok mX13_shown 1 := ⟨rfl, q2156, q136, ⟨by decide +kernel, by decide +kernel, by decide +kernel⟩, by decide, by decide +kernel⟩
def mX13_uppermost : am_M := (yX13_uppermost, cX13_uppermost, 4, (some .int), [])
theorem okX13_uppermost : am_Ok mX13_uppermost 1 := ⟨rfl, q2160, q136, ⟨by decide +kernel, by decide +kernel, by decide +kernel⟩, by decide, by decide +kernel⟩
def mX13_dusk : am_M := (yX13_dusk, cX13_dusk, 6, (some .int), [])
theorem okX13_dusk : am_Ok mX13_dusk 2 := ⟨rfl, q2164, q136, ⟨by decide +kernel, by decide +kernel, by decide +kernel⟩, by decide, by decide +kernel⟩
def mX13_duskBy : am_M := (yX13_duskBy, cX13_duskBy, 7, none, [])
theorem okX13_duskBy : am_Ok mX13_duskBy 1 := ⟨rfl, q2168, q136, ⟨by decide +kernel, by decide +kernel, by decide +kernel⟩, by decide, by decide +kernel⟩
def mX13_bestDusk : am_M := (yX13_bestDusk, cX13_bestDusk, 5, (some .int), [])
theorem okX13_bestDusk : am_Ok mX13_bestDusk 0 := ⟨rfl, q2172, q136, ⟨by decide +kernel, by decide +kernel, by decide +kernel⟩, by decide, by decide +kernel⟩
def mX13_knows : am_M := (yX13_knows, cX13_knows, 2, (some .int), [])
theorem okX13_knows : am_Ok mX13_knows 1 := ⟨rfl, q2176, q136, ⟨by decide +kernel, by decide +kernel, by decide +kernel⟩, by decide, by decide +kernel⟩
def mX13_knowsNow : am_M := (yX13_knowsNow, cX13_knowsNow, 4, (some .int), [])
theorem okX13_knowsNow : am_Ok mX13_knowsNow 1 := ⟨rfl, q2180, q136, ⟨by decide +kernel, by decide +kernel, by decide +kernel⟩, by decide, by decide +kernel⟩
def mX13_links : am_M := (yX13_links, cX13_links, 5, (some .int), [])
theorem okX13_links : am_Ok mX13_links 2 := ⟨rfl, q2184, q136, ⟨by decide +kernel, by decide +kernel, by decide +kernel⟩, by decide, by decide +kernel⟩
def mX13_linkedTo : am_M := (yX13_linkedTo, cX13_linkedTo, 4, (some .int), [])
theorem okX13_linkedTo : am_Ok mX13_linkedTo 1 := ⟨rfl, q2188, q136, ⟨by decide +kernel, by decide +kernel, by decide +kernel⟩, by decide, by decide +kernel⟩
def mX13_rounds : am_M := (yX13_rounds, cX13_rounds, 5, (some .int), [])
theorem okX13_rounds : am_Ok mX13_rounds 0 := ⟨rfl, q2192, q136, ⟨by decide +kernel, by decide +kernel, by decide +kernel⟩, by decide, by decide +kernel⟩
def mX13_crowd : am_M := (yX13_crowd, cX13_crowd, 8, (some .int), [])
theorem okX13_crowd : am_Ok mX13_crowd 1 := ⟨rfl, q2196, q136, ⟨by decide +kernel, by decide +kernel, by decide +kernel⟩, by decide, by decide +kernel⟩
def mX13_comesTo : am_M := (yX13_comesTo, cX13_comesTo, 7, (some .boolean), [])
theorem okX13_comesTo : am_Ok mX13_comesTo 3 := ⟨rfl, q2200, q136, ⟨by decide +kernel, by decide +kernel, by decide +kernel⟩, by decide, by decide +kernel⟩
def mX13_plain : am_M := (yX13_plain, cX13_plain, 8, (some .int), [])
theorem okX13_plain : am_Ok mX13_plain 1 := ⟨rfl, q2204, q136, ⟨by decide +kernel, by decide +kernel, by decide +kernel⟩, by decide, by decide +kernel⟩
def mX13_walks : am_M := (yX13_walks, cX13_walks, 11, none, [])
theorem okX13_walks : am_Ok mX13_walks 2 := ⟨rfl, q2208, q136, ⟨by decide +kernel, by decide +kernel, by decide +kernel⟩, by decide, by decide +kernel⟩
def mX13_tell : am_M := (yX13_tell, cX13_tell, 4, (some .int), [])
theorem okX13_tell : am_Ok mX13_tell 3 := ⟨rfl, q2212, q136, ⟨by decide +kernel, by decide +kernel, by decide +kernel⟩, by decide, by decide +kernel⟩
def mX13_forget : am_M := (yX13_forget, cX13_forget, 2, (some .int), [])
theorem okX13_forget : am_Ok mX13_forget 0 := ⟨rfl, q2216, q136, ⟨by decide +kernel, by decide +kernel, by decide +kernel⟩, by decide, by decide +kernel⟩
def mX13_starts : am_M := (yX13_starts, cX13_starts, 7, (some .int), [])
theorem okX13_starts : am_Ok mX13_starts 3 := ⟨rfl, q2220, q136, ⟨by decide +kernel, by decide +kernel, by decide +kernel⟩, by decide, by decide +kernel⟩
def mX13_isSo : am_M := (yX13_isSo, cX13_isSo, 7, (some .boolean), [])
theorem okX13_isSo : am_Ok mX13_isSo 4 := ⟨rfl, q2224, q136, ⟨by decide +kernel, by decide +kernel, by decide +kernel⟩, by decide, by decide +kernel⟩
def mX13_hold : am_M := (yX13_hold, cX13_hold, 3, (some .boolean), [])
theorem okX13_hold : am_Ok mX13_hold 1 := ⟨rfl, q2228, q136, ⟨by decide +kernel, by decide +kernel, by decide +kernel⟩, by decide, by decide +kernel⟩
def mX13_restore : am_M := (yX13_restore, cX13_restore, 3, (some .boolean), [])
theorem okX13_restore : am_Ok mX13_restore 1 := ⟨rfl, q2232, q136, ⟨by decide +kernel, by decide +kernel, by decide +kernel⟩, by decide, by decide +kernel⟩
def mX13_count : am_M := (yX13_count, cX13_count, 4, (some .int), [])
theorem okX13_count : am_Ok mX13_count 1 := ⟨rfl, q2236, q136, ⟨by decide +kernel, by decide +kernel, by decide +kernel⟩, by decide, by decide +kernel⟩
