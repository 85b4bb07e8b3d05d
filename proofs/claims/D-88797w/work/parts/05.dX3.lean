set_option maxRecDepth 100000
abbrev cX3_init : ByteArray := prog_15_method_1_code
def yX3_init : MethodName := ⟨RX3, "<init>", "()V"⟩
def dkwX3_init_28 : List UInt8 := [183, 0, 30, 181, 0, 31, 177]
abbrev dktX3_init_28 : List UInt8 := dkwX3_init_28 ++ []
def dkwX3_init_27 : List UInt8 := [16, 105, 85, 89, 7, 16, 107, 85, 89, 8, 16, 101, 85, 83, 181, 0, 24, 42, 187, 0, 28, 89]
abbrev dktX3_init_27 : List UInt8 := dkwX3_init_27 ++ dktX3_init_28
def dkwX3_init_26 : List UInt8 := [16, 22, 16, 6, 188, 5, 89, 3, 16, 115, 85, 89, 4, 16, 116, 85, 89, 5, 16, 114, 85, 89, 6]
abbrev dktX3_init_26 : List UInt8 := dkwX3_init_26 ++ dktX3_init_27
def dkwX3_init_25 : List UInt8 := [89, 16, 21, 6, 188, 5, 89, 3, 16, 110, 85, 89, 4, 16, 111, 85, 89, 5, 16, 116, 85, 83, 89]
abbrev dktX3_init_25 : List UInt8 := dkwX3_init_25 ++ dktX3_init_26
def dkwX3_init_24 : List UInt8 := [85, 83, 89, 16, 20, 6, 188, 5, 89, 3, 16, 97, 85, 89, 4, 16, 110, 85, 89, 5, 16, 100, 85, 83]
abbrev dktX3_init_24 : List UInt8 := dkwX3_init_24 ++ dktX3_init_25
def dkwX3_init_23 : List UInt8 := [16, 105, 85, 89, 4, 16, 102, 85, 83, 89, 16, 19, 5, 188, 5, 89, 3, 16, 111, 85, 89, 4, 16, 114]
abbrev dktX3_init_23 : List UInt8 := dkwX3_init_23 ++ dktX3_init_24
def dkwX3_init_22 : List UInt8 := [89, 5, 16, 97, 85, 89, 6, 16, 100, 85, 89, 7, 16, 115, 85, 83, 89, 16, 18, 5, 188, 5, 89, 3]
abbrev dktX3_init_22 : List UInt8 := dkwX3_init_22 ++ dktX3_init_23
def dkwX3_init_21 : List UInt8 := [85, 89, 16, 6, 16, 115, 85, 83, 89, 16, 17, 8, 188, 5, 89, 3, 16, 104, 85, 89, 4, 16, 101, 85]
abbrev dktX3_init_21 : List UInt8 := dkwX3_init_21 ++ dktX3_init_22
def dkwX3_init_20 : List UInt8 := [89, 4, 16, 101, 85, 89, 5, 16, 97, 85, 89, 6, 16, 114, 85, 89, 7, 16, 116, 85, 89, 8, 16, 104]
abbrev dktX3_init_20 : List UInt8 := dkwX3_init_20 ++ dktX3_init_21
def dkwX3_init_19 : List UInt8 := [85, 89, 5, 16, 97, 85, 89, 6, 16, 114, 85, 83, 89, 16, 16, 16, 7, 188, 5, 89, 3, 16, 104, 85]
abbrev dktX3_init_19 : List UInt8 := dkwX3_init_19 ++ dktX3_init_20
def dkwX3_init_18 : List UInt8 := [16, 99, 85, 89, 7, 16, 107, 85, 83, 89, 16, 15, 7, 188, 5, 89, 3, 16, 121, 85, 89, 4, 16, 101]
abbrev dktX3_init_18 : List UInt8 := dkwX3_init_18 ++ dktX3_init_19
def dkwX3_init_17 : List UInt8 := [83, 89, 16, 14, 8, 188, 5, 89, 3, 16, 98, 85, 89, 4, 16, 108, 85, 89, 5, 16, 111, 85, 89, 6]
abbrev dktX3_init_17 : List UInt8 := dkwX3_init_17 ++ dktX3_init_18
def dkwX3_init_16 : List UInt8 := [3, 16, 97, 85, 89, 4, 16, 99, 85, 89, 5, 16, 114, 85, 89, 6, 16, 101, 85, 89, 7, 16, 115, 85]
abbrev dktX3_init_16 : List UInt8 := dkwX3_init_16 ++ dktX3_init_17
def dkwX3_init_15 : List UInt8 := [85, 89, 4, 16, 117, 85, 89, 5, 16, 108, 85, 89, 6, 16, 108, 85, 83, 89, 16, 13, 8, 188, 5, 89]
abbrev dktX3_init_15 : List UInt8 := dkwX3_init_15 ++ dktX3_init_16
def dkwX3_init_14 : List UInt8 := [16, 111, 85, 89, 4, 16, 108, 85, 89, 5, 16, 100, 85, 83, 89, 16, 12, 7, 188, 5, 89, 3, 16, 102]
abbrev dktX3_init_14 : List UInt8 := dkwX3_init_14 ++ dktX3_init_15
def dkwX3_init_13 : List UInt8 := [5, 16, 101, 85, 89, 6, 16, 101, 85, 89, 7, 16, 112, 85, 83, 89, 16, 11, 6, 188, 5, 89, 3]
abbrev dktX3_init_13 : List UInt8 := dkwX3_init_13 ++ dktX3_init_14
def dkwX3_init_12 : List UInt8 := [85, 89, 6, 16, 101, 85, 83, 89, 16, 10, 8, 188, 5, 89, 3, 16, 115, 85, 89, 4, 16, 116, 85, 89]
abbrev dktX3_init_12 : List UInt8 := dkwX3_init_12 ++ dktX3_init_13
def dkwX3_init_11 : List UInt8 := [16, 100, 85, 83, 89, 16, 9, 7, 188, 5, 89, 3, 16, 115, 85, 89, 4, 16, 105, 85, 89, 5, 16, 116]
abbrev dktX3_init_11 : List UInt8 := dkwX3_init_11 ++ dktX3_init_12
def dkwX3_init_10 : List UInt8 := [83, 89, 16, 8, 7, 188, 5, 89, 3, 16, 107, 85, 89, 4, 16, 105, 85, 89, 5, 16, 110, 85, 89, 6]
abbrev dktX3_init_10 : List UInt8 := dkwX3_init_10 ++ dktX3_init_11
def dkwX3_init_9 : List UInt8 := [3, 16, 112, 85, 89, 4, 16, 108, 85, 89, 5, 16, 97, 85, 89, 6, 16, 110, 85, 89, 7, 16, 116, 85]
abbrev dktX3_init_9 : List UInt8 := dkwX3_init_9 ++ dktX3_init_10
def dkwX3_init_8 : List UInt8 := [85, 89, 4, 16, 105, 85, 89, 5, 16, 110, 85, 89, 6, 16, 101, 85, 83, 89, 16, 7, 8, 188, 5, 89]
abbrev dktX3_init_8 : List UInt8 := dkwX3_init_8 ++ dktX3_init_9
def dkwX3_init_7 : List UInt8 := [16, 105, 85, 89, 5, 16, 103, 85, 89, 6, 16, 115, 85, 83, 89, 16, 6, 7, 188, 5, 89, 3, 16, 102]
abbrev dktX3_init_7 : List UInt8 := dkwX3_init_7 ++ dktX3_init_8
def dkwX3_init_6 : List UInt8 := [89, 5, 16, 111, 85, 89, 6, 16, 100, 85, 83, 89, 8, 7, 188, 5, 89, 3, 16, 112, 85, 89, 4]
abbrev dktX3_init_6 : List UInt8 := dkwX3_init_6 ++ dktX3_init_7
def dkwX3_init_5 : List UInt8 := [16, 101, 85, 89, 6, 16, 112, 85, 83, 89, 7, 7, 188, 5, 89, 3, 16, 119, 85, 89, 4, 16, 111, 85]
abbrev dktX3_init_5 : List UInt8 := dkwX3_init_5 ++ dktX3_init_6
def dkwX3_init_4 : List UInt8 := [89, 6, 16, 114, 85, 83, 89, 6, 7, 188, 5, 89, 3, 16, 107, 85, 89, 4, 16, 101, 85, 89, 5]
abbrev dktX3_init_4 : List UInt8 := dkwX3_init_4 ++ dktX3_init_5
def dkwX3_init_3 : List UInt8 := [16, 97, 85, 83, 89, 5, 7, 188, 5, 89, 3, 16, 110, 85, 89, 4, 16, 101, 85, 89, 5, 16, 97, 85]
abbrev dktX3_init_3 : List UInt8 := dkwX3_init_3 ++ dktX3_init_4
def dkwX3_init_2 : List UInt8 := [85, 83, 89, 4, 7, 188, 5, 89, 3, 16, 97, 85, 89, 4, 16, 114, 85, 89, 5, 16, 101, 85, 89, 6]
abbrev dktX3_init_2 : List UInt8 := dkwX3_init_2 ++ dktX3_init_3
def dkwX3_init_1 : List UInt8 := [16, 23, 189, 0, 22, 89, 3, 6, 188, 5, 89, 3, 16, 97, 85, 89, 4, 16, 103, 85, 89, 5, 16, 101]
abbrev dktX3_init_1 : List UInt8 := dkwX3_init_1 ++ dktX3_init_2
def dkwX3_init_0 : List UInt8 := [42, 183, 0, 3, 42, 16, 120, 188, 8, 181, 0, 9, 42, 187, 0, 15, 89, 183, 0, 17, 181, 0, 18, 42]
abbrev dktX3_init_0 : List UInt8 := dkwX3_init_0 ++ dktX3_init_1
theorem dksX3_init_0 : cX3_init.data.toList.drop 0 = dktX3_init_0 := by decide +kernel
theorem dksX3_init_1 : cX3_init.data.toList.drop 24 = dktX3_init_1 := dk_seg dksX3_init_0 24 rfl rfl
theorem dksX3_init_2 : cX3_init.data.toList.drop 48 = dktX3_init_2 := dk_seg dksX3_init_1 24 rfl rfl
theorem dksX3_init_3 : cX3_init.data.toList.drop 72 = dktX3_init_3 := dk_seg dksX3_init_2 24 rfl rfl
theorem dksX3_init_4 : cX3_init.data.toList.drop 96 = dktX3_init_4 := dk_seg dksX3_init_3 24 rfl rfl
theorem dksX3_init_5 : cX3_init.data.toList.drop 119 = dktX3_init_5 := dk_seg dksX3_init_4 23 rfl rfl
theorem dksX3_init_6 : cX3_init.data.toList.drop 143 = dktX3_init_6 := dk_seg dksX3_init_5 24 rfl rfl
theorem dksX3_init_7 : cX3_init.data.toList.drop 166 = dktX3_init_7 := dk_seg dksX3_init_6 23 rfl rfl
theorem dksX3_init_8 : cX3_init.data.toList.drop 190 = dktX3_init_8 := dk_seg dksX3_init_7 24 rfl rfl
theorem dksX3_init_9 : cX3_init.data.toList.drop 214 = dktX3_init_9 := dk_seg dksX3_init_8 24 rfl rfl
theorem dksX3_init_10 : cX3_init.data.toList.drop 238 = dktX3_init_10 := dk_seg dksX3_init_9 24 rfl rfl
theorem dksX3_init_11 : cX3_init.data.toList.drop 262 = dktX3_init_11 := dk_seg dksX3_init_10 24 rfl rfl
theorem dksX3_init_12 : cX3_init.data.toList.drop 286 = dktX3_init_12 := dk_seg dksX3_init_11 24 rfl rfl
theorem dksX3_init_13 : cX3_init.data.toList.drop 310 = dktX3_init_13 := dk_seg dksX3_init_12 24 rfl rfl
theorem dksX3_init_14 : cX3_init.data.toList.drop 333 = dktX3_init_14 := dk_seg dksX3_init_13 23 rfl rfl
theorem dksX3_init_15 : cX3_init.data.toList.drop 357 = dktX3_init_15 := dk_seg dksX3_init_14 24 rfl rfl
theorem dksX3_init_16 : cX3_init.data.toList.drop 381 = dktX3_init_16 := dk_seg dksX3_init_15 24 rfl rfl
theorem dksX3_init_17 : cX3_init.data.toList.drop 405 = dktX3_init_17 := dk_seg dksX3_init_16 24 rfl rfl
theorem dksX3_init_18 : cX3_init.data.toList.drop 429 = dktX3_init_18 := dk_seg dksX3_init_17 24 rfl rfl
theorem dksX3_init_19 : cX3_init.data.toList.drop 453 = dktX3_init_19 := dk_seg dksX3_init_18 24 rfl rfl
theorem dksX3_init_20 : cX3_init.data.toList.drop 477 = dktX3_init_20 := dk_seg dksX3_init_19 24 rfl rfl
theorem dksX3_init_21 : cX3_init.data.toList.drop 501 = dktX3_init_21 := dk_seg dksX3_init_20 24 rfl rfl
theorem dksX3_init_22 : cX3_init.data.toList.drop 525 = dktX3_init_22 := dk_seg dksX3_init_21 24 rfl rfl
theorem dksX3_init_23 : cX3_init.data.toList.drop 549 = dktX3_init_23 := dk_seg dksX3_init_22 24 rfl rfl
theorem dksX3_init_24 : cX3_init.data.toList.drop 573 = dktX3_init_24 := dk_seg dksX3_init_23 24 rfl rfl
theorem dksX3_init_25 : cX3_init.data.toList.drop 597 = dktX3_init_25 := dk_seg dksX3_init_24 24 rfl rfl
theorem dksX3_init_26 : cX3_init.data.toList.drop 620 = dktX3_init_26 := dk_seg dksX3_init_25 23 rfl rfl
theorem dksX3_init_27 : cX3_init.data.toList.drop 643 = dktX3_init_27 := dk_seg dksX3_init_26 23 rfl rfl
theorem dksX3_init_28 : cX3_init.data.toList.drop 665 = dktX3_init_28 := dk_seg dksX3_init_27 22 rfl rfl
theorem dX3_init_0 : decode cX3_init 0 = .ok (.aload_n 0, 1) := dk_42 (dk_at dksX3_init_0 0 rfl rfl)
theorem dX3_init_1 : decode cX3_init 1 = .ok (.invokespecial 3, 3) := dk_183 0 3 (dk_at dksX3_init_0 1 rfl rfl)
theorem dX3_init_4 : decode cX3_init 4 = .ok (.aload_n 0, 1) := dk_42 (dk_at dksX3_init_0 4 rfl rfl)
theorem dX3_init_5 : decode cX3_init 5 = .ok (.bipush 120, 2) := dk_16 120 (dk_at dksX3_init_0 5 rfl rfl)
theorem dX3_init_7 : decode cX3_init 7 = .ok (.newarray .byte, 2) := dk_188_8 (dk_at dksX3_init_0 7 rfl rfl)
theorem dX3_init_9 : decode cX3_init 9 = .ok (.putfield 9, 3) := dk_181 0 9 (dk_at dksX3_init_0 9 rfl rfl)
theorem dX3_init_12 : decode cX3_init 12 = .ok (.aload_n 0, 1) := dk_42 (dk_at dksX3_init_0 12 rfl rfl)
theorem dX3_init_13 : decode cX3_init 13 = .ok (.new 15, 3) := dk_187 0 15 (dk_at dksX3_init_0 13 rfl rfl)
theorem dX3_init_16 : decode cX3_init 16 = .ok (.dup, 1) := dk_89 (dk_at dksX3_init_0 16 rfl rfl)
theorem dX3_init_17 : decode cX3_init 17 = .ok (.invokespecial 17, 3) := dk_183 0 17 (dk_at dksX3_init_0 17 rfl rfl)
theorem dX3_init_20 : decode cX3_init 20 = .ok (.putfield 18, 3) := dk_181 0 18 (dk_at dksX3_init_0 20 rfl rfl)
theorem dX3_init_23 : decode cX3_init 23 = .ok (.aload_n 0, 1) := dk_42 (dk_at dksX3_init_0 23 rfl rfl)
theorem dX3_init_24 : decode cX3_init 24 = .ok (.bipush 23, 2) := dk_16 23 (dk_at dksX3_init_1 0 rfl rfl)
theorem dX3_init_26 : decode cX3_init 26 = .ok (.anewarray 22, 3) := dk_189 0 22 (dk_at dksX3_init_1 2 rfl rfl)
theorem dX3_init_29 : decode cX3_init 29 = .ok (.dup, 1) := dk_89 (dk_at dksX3_init_1 5 rfl rfl)
theorem dX3_init_30 : decode cX3_init 30 = .ok (.iconst 0, 1) := dk_3 (dk_at dksX3_init_1 6 rfl rfl)
theorem dX3_init_31 : decode cX3_init 31 = .ok (.iconst 3, 1) := dk_6 (dk_at dksX3_init_1 7 rfl rfl)
theorem dX3_init_32 : decode cX3_init 32 = .ok (.newarray .char, 2) := dk_188_5 (dk_at dksX3_init_1 8 rfl rfl)
theorem dX3_init_34 : decode cX3_init 34 = .ok (.dup, 1) := dk_89 (dk_at dksX3_init_1 10 rfl rfl)
theorem dX3_init_35 : decode cX3_init 35 = .ok (.iconst 0, 1) := dk_3 (dk_at dksX3_init_1 11 rfl rfl)
theorem dX3_init_36 : decode cX3_init 36 = .ok (.bipush 97, 2) := dk_16 97 (dk_at dksX3_init_1 12 rfl rfl)
theorem dX3_init_38 : decode cX3_init 38 = .ok (.castore, 1) := dk_85 (dk_at dksX3_init_1 14 rfl rfl)
theorem dX3_init_39 : decode cX3_init 39 = .ok (.dup, 1) := dk_89 (dk_at dksX3_init_1 15 rfl rfl)
theorem dX3_init_40 : decode cX3_init 40 = .ok (.iconst 1, 1) := dk_4 (dk_at dksX3_init_1 16 rfl rfl)
theorem dX3_init_41 : decode cX3_init 41 = .ok (.bipush 103, 2) := dk_16 103 (dk_at dksX3_init_1 17 rfl rfl)
theorem dX3_init_43 : decode cX3_init 43 = .ok (.castore, 1) := dk_85 (dk_at dksX3_init_1 19 rfl rfl)
theorem dX3_init_44 : decode cX3_init 44 = .ok (.dup, 1) := dk_89 (dk_at dksX3_init_1 20 rfl rfl)
theorem dX3_init_45 : decode cX3_init 45 = .ok (.iconst 2, 1) := dk_5 (dk_at dksX3_init_1 21 rfl rfl)
theorem dX3_init_46 : decode cX3_init 46 = .ok (.bipush 101, 2) := dk_16 101 (dk_at dksX3_init_1 22 rfl rfl)
theorem dX3_init_48 : decode cX3_init 48 = .ok (.castore, 1) := dk_85 (dk_at dksX3_init_2 0 rfl rfl)
theorem dX3_init_49 : decode cX3_init 49 = .ok (.aastore, 1) := dk_83 (dk_at dksX3_init_2 1 rfl rfl)
theorem dX3_init_50 : decode cX3_init 50 = .ok (.dup, 1) := dk_89 (dk_at dksX3_init_2 2 rfl rfl)
theorem dX3_init_51 : decode cX3_init 51 = .ok (.iconst 1, 1) := dk_4 (dk_at dksX3_init_2 3 rfl rfl)
theorem dX3_init_52 : decode cX3_init 52 = .ok (.iconst 4, 1) := dk_7 (dk_at dksX3_init_2 4 rfl rfl)
theorem dX3_init_53 : decode cX3_init 53 = .ok (.newarray .char, 2) := dk_188_5 (dk_at dksX3_init_2 5 rfl rfl)
theorem dX3_init_55 : decode cX3_init 55 = .ok (.dup, 1) := dk_89 (dk_at dksX3_init_2 7 rfl rfl)
theorem dX3_init_56 : decode cX3_init 56 = .ok (.iconst 0, 1) := dk_3 (dk_at dksX3_init_2 8 rfl rfl)
theorem dX3_init_57 : decode cX3_init 57 = .ok (.bipush 97, 2) := dk_16 97 (dk_at dksX3_init_2 9 rfl rfl)
theorem dX3_init_59 : decode cX3_init 59 = .ok (.castore, 1) := dk_85 (dk_at dksX3_init_2 11 rfl rfl)
theorem dX3_init_60 : decode cX3_init 60 = .ok (.dup, 1) := dk_89 (dk_at dksX3_init_2 12 rfl rfl)
theorem dX3_init_61 : decode cX3_init 61 = .ok (.iconst 1, 1) := dk_4 (dk_at dksX3_init_2 13 rfl rfl)
theorem dX3_init_62 : decode cX3_init 62 = .ok (.bipush 114, 2) := dk_16 114 (dk_at dksX3_init_2 14 rfl rfl)
theorem dX3_init_64 : decode cX3_init 64 = .ok (.castore, 1) := dk_85 (dk_at dksX3_init_2 16 rfl rfl)
theorem dX3_init_65 : decode cX3_init 65 = .ok (.dup, 1) := dk_89 (dk_at dksX3_init_2 17 rfl rfl)
theorem dX3_init_66 : decode cX3_init 66 = .ok (.iconst 2, 1) := dk_5 (dk_at dksX3_init_2 18 rfl rfl)
theorem dX3_init_67 : decode cX3_init 67 = .ok (.bipush 101, 2) := dk_16 101 (dk_at dksX3_init_2 19 rfl rfl)
theorem dX3_init_69 : decode cX3_init 69 = .ok (.castore, 1) := dk_85 (dk_at dksX3_init_2 21 rfl rfl)
theorem dX3_init_70 : decode cX3_init 70 = .ok (.dup, 1) := dk_89 (dk_at dksX3_init_2 22 rfl rfl)
theorem dX3_init_71 : decode cX3_init 71 = .ok (.iconst 3, 1) := dk_6 (dk_at dksX3_init_2 23 rfl rfl)
theorem dX3_init_72 : decode cX3_init 72 = .ok (.bipush 97, 2) := dk_16 97 (dk_at dksX3_init_3 0 rfl rfl)
theorem dX3_init_74 : decode cX3_init 74 = .ok (.castore, 1) := dk_85 (dk_at dksX3_init_3 2 rfl rfl)
theorem dX3_init_75 : decode cX3_init 75 = .ok (.aastore, 1) := dk_83 (dk_at dksX3_init_3 3 rfl rfl)
theorem dX3_init_76 : decode cX3_init 76 = .ok (.dup, 1) := dk_89 (dk_at dksX3_init_3 4 rfl rfl)
theorem dX3_init_77 : decode cX3_init 77 = .ok (.iconst 2, 1) := dk_5 (dk_at dksX3_init_3 5 rfl rfl)
theorem dX3_init_78 : decode cX3_init 78 = .ok (.iconst 4, 1) := dk_7 (dk_at dksX3_init_3 6 rfl rfl)
theorem dX3_init_79 : decode cX3_init 79 = .ok (.newarray .char, 2) := dk_188_5 (dk_at dksX3_init_3 7 rfl rfl)
theorem dX3_init_81 : decode cX3_init 81 = .ok (.dup, 1) := dk_89 (dk_at dksX3_init_3 9 rfl rfl)
theorem dX3_init_82 : decode cX3_init 82 = .ok (.iconst 0, 1) := dk_3 (dk_at dksX3_init_3 10 rfl rfl)
theorem dX3_init_83 : decode cX3_init 83 = .ok (.bipush 110, 2) := dk_16 110 (dk_at dksX3_init_3 11 rfl rfl)
theorem dX3_init_85 : decode cX3_init 85 = .ok (.castore, 1) := dk_85 (dk_at dksX3_init_3 13 rfl rfl)
theorem dX3_init_86 : decode cX3_init 86 = .ok (.dup, 1) := dk_89 (dk_at dksX3_init_3 14 rfl rfl)
theorem dX3_init_87 : decode cX3_init 87 = .ok (.iconst 1, 1) := dk_4 (dk_at dksX3_init_3 15 rfl rfl)
theorem dX3_init_88 : decode cX3_init 88 = .ok (.bipush 101, 2) := dk_16 101 (dk_at dksX3_init_3 16 rfl rfl)
theorem dX3_init_90 : decode cX3_init 90 = .ok (.castore, 1) := dk_85 (dk_at dksX3_init_3 18 rfl rfl)
theorem dX3_init_91 : decode cX3_init 91 = .ok (.dup, 1) := dk_89 (dk_at dksX3_init_3 19 rfl rfl)
theorem dX3_init_92 : decode cX3_init 92 = .ok (.iconst 2, 1) := dk_5 (dk_at dksX3_init_3 20 rfl rfl)
theorem dX3_init_93 : decode cX3_init 93 = .ok (.bipush 97, 2) := dk_16 97 (dk_at dksX3_init_3 21 rfl rfl)
theorem dX3_init_95 : decode cX3_init 95 = .ok (.castore, 1) := dk_85 (dk_at dksX3_init_3 23 rfl rfl)
theorem dX3_init_96 : decode cX3_init 96 = .ok (.dup, 1) := dk_89 (dk_at dksX3_init_4 0 rfl rfl)
theorem dX3_init_97 : decode cX3_init 97 = .ok (.iconst 3, 1) := dk_6 (dk_at dksX3_init_4 1 rfl rfl)
theorem dX3_init_98 : decode cX3_init 98 = .ok (.bipush 114, 2) := dk_16 114 (dk_at dksX3_init_4 2 rfl rfl)
theorem dX3_init_100 : decode cX3_init 100 = .ok (.castore, 1) := dk_85 (dk_at dksX3_init_4 4 rfl rfl)
theorem dX3_init_101 : decode cX3_init 101 = .ok (.aastore, 1) := dk_83 (dk_at dksX3_init_4 5 rfl rfl)
theorem dX3_init_102 : decode cX3_init 102 = .ok (.dup, 1) := dk_89 (dk_at dksX3_init_4 6 rfl rfl)
theorem dX3_init_103 : decode cX3_init 103 = .ok (.iconst 3, 1) := dk_6 (dk_at dksX3_init_4 7 rfl rfl)
theorem dX3_init_104 : decode cX3_init 104 = .ok (.iconst 4, 1) := dk_7 (dk_at dksX3_init_4 8 rfl rfl)
theorem dX3_init_105 : decode cX3_init 105 = .ok (.newarray .char, 2) := dk_188_5 (dk_at dksX3_init_4 9 rfl rfl)
theorem dX3_init_107 : decode cX3_init 107 = .ok (.dup, 1) := dk_89 (dk_at dksX3_init_4 11 rfl rfl)
theorem dX3_init_108 : decode cX3_init 108 = .ok (.iconst 0, 1) := dk_3 (dk_at dksX3_init_4 12 rfl rfl)
theorem dX3_init_109 : decode cX3_init 109 = .ok (.bipush 107, 2) := dk_16 107 (dk_at dksX3_init_4 13 rfl rfl)
theorem dX3_init_111 : decode cX3_init 111 = .ok (.castore, 1) := dk_85 (dk_at dksX3_init_4 15 rfl rfl)
theorem dX3_init_112 : decode cX3_init 112 = .ok (.dup, 1) := dk_89 (dk_at dksX3_init_4 16 rfl rfl)
theorem dX3_init_113 : decode cX3_init 113 = .ok (.iconst 1, 1) := dk_4 (dk_at dksX3_init_4 17 rfl rfl)
theorem dX3_init_114 : decode cX3_init 114 = .ok (.bipush 101, 2) := dk_16 101 (dk_at dksX3_init_4 18 rfl rfl)
theorem dX3_init_116 : decode cX3_init 116 = .ok (.castore, 1) := dk_85 (dk_at dksX3_init_4 20 rfl rfl)
theorem dX3_init_117 : decode cX3_init 117 = .ok (.dup, 1) := dk_89 (dk_at dksX3_init_4 21 rfl rfl)
theorem dX3_init_118 : decode cX3_init 118 = .ok (.iconst 2, 1) := dk_5 (dk_at dksX3_init_4 22 rfl rfl)
theorem dX3_init_119 : decode cX3_init 119 = .ok (.bipush 101, 2) := dk_16 101 (dk_at dksX3_init_5 0 rfl rfl)
theorem dX3_init_121 : decode cX3_init 121 = .ok (.castore, 1) := dk_85 (dk_at dksX3_init_5 2 rfl rfl)
theorem dX3_init_122 : decode cX3_init 122 = .ok (.dup, 1) := dk_89 (dk_at dksX3_init_5 3 rfl rfl)
theorem dX3_init_123 : decode cX3_init 123 = .ok (.iconst 3, 1) := dk_6 (dk_at dksX3_init_5 4 rfl rfl)
theorem dX3_init_124 : decode cX3_init 124 = .ok (.bipush 112, 2) := dk_16 112 (dk_at dksX3_init_5 5 rfl rfl)
theorem dX3_init_126 : decode cX3_init 126 = .ok (.castore, 1) := dk_85 (dk_at dksX3_init_5 7 rfl rfl)
theorem dX3_init_127 : decode cX3_init 127 = .ok (.aastore, 1) := dk_83 (dk_at dksX3_init_5 8 rfl rfl)
theorem dX3_init_128 : decode cX3_init 128 = .ok (.dup, 1) := dk_89 (dk_at dksX3_init_5 9 rfl rfl)
theorem dX3_init_129 : decode cX3_init 129 = .ok (.iconst 4, 1) := dk_7 (dk_at dksX3_init_5 10 rfl rfl)
theorem dX3_init_130 : decode cX3_init 130 = .ok (.iconst 4, 1) := dk_7 (dk_at dksX3_init_5 11 rfl rfl)
theorem dX3_init_131 : decode cX3_init 131 = .ok (.newarray .char, 2) := dk_188_5 (dk_at dksX3_init_5 12 rfl rfl)
theorem dX3_init_133 : decode cX3_init 133 = .ok (.dup, 1) := dk_89 (dk_at dksX3_init_5 14 rfl rfl)
theorem dX3_init_134 : decode cX3_init 134 = .ok (.iconst 0, 1) := dk_3 (dk_at dksX3_init_5 15 rfl rfl)
theorem dX3_init_135 : decode cX3_init 135 = .ok (.bipush 119, 2) := dk_16 119 (dk_at dksX3_init_5 16 rfl rfl)
theorem dX3_init_137 : decode cX3_init 137 = .ok (.castore, 1) := dk_85 (dk_at dksX3_init_5 18 rfl rfl)
theorem dX3_init_138 : decode cX3_init 138 = .ok (.dup, 1) := dk_89 (dk_at dksX3_init_5 19 rfl rfl)
theorem dX3_init_139 : decode cX3_init 139 = .ok (.iconst 1, 1) := dk_4 (dk_at dksX3_init_5 20 rfl rfl)
theorem dX3_init_140 : decode cX3_init 140 = .ok (.bipush 111, 2) := dk_16 111 (dk_at dksX3_init_5 21 rfl rfl)
theorem dX3_init_142 : decode cX3_init 142 = .ok (.castore, 1) := dk_85 (dk_at dksX3_init_5 23 rfl rfl)
theorem dX3_init_143 : decode cX3_init 143 = .ok (.dup, 1) := dk_89 (dk_at dksX3_init_6 0 rfl rfl)
theorem dX3_init_144 : decode cX3_init 144 = .ok (.iconst 2, 1) := dk_5 (dk_at dksX3_init_6 1 rfl rfl)
theorem dX3_init_145 : decode cX3_init 145 = .ok (.bipush 111, 2) := dk_16 111 (dk_at dksX3_init_6 2 rfl rfl)
theorem dX3_init_147 : decode cX3_init 147 = .ok (.castore, 1) := dk_85 (dk_at dksX3_init_6 4 rfl rfl)
theorem dX3_init_148 : decode cX3_init 148 = .ok (.dup, 1) := dk_89 (dk_at dksX3_init_6 5 rfl rfl)
theorem dX3_init_149 : decode cX3_init 149 = .ok (.iconst 3, 1) := dk_6 (dk_at dksX3_init_6 6 rfl rfl)
theorem dX3_init_150 : decode cX3_init 150 = .ok (.bipush 100, 2) := dk_16 100 (dk_at dksX3_init_6 7 rfl rfl)
theorem dX3_init_152 : decode cX3_init 152 = .ok (.castore, 1) := dk_85 (dk_at dksX3_init_6 9 rfl rfl)
theorem dX3_init_153 : decode cX3_init 153 = .ok (.aastore, 1) := dk_83 (dk_at dksX3_init_6 10 rfl rfl)
theorem dX3_init_154 : decode cX3_init 154 = .ok (.dup, 1) := dk_89 (dk_at dksX3_init_6 11 rfl rfl)
theorem dX3_init_155 : decode cX3_init 155 = .ok (.iconst 5, 1) := dk_8 (dk_at dksX3_init_6 12 rfl rfl)
theorem dX3_init_156 : decode cX3_init 156 = .ok (.iconst 4, 1) := dk_7 (dk_at dksX3_init_6 13 rfl rfl)
theorem dX3_init_157 : decode cX3_init 157 = .ok (.newarray .char, 2) := dk_188_5 (dk_at dksX3_init_6 14 rfl rfl)
theorem dX3_init_159 : decode cX3_init 159 = .ok (.dup, 1) := dk_89 (dk_at dksX3_init_6 16 rfl rfl)
theorem dX3_init_160 : decode cX3_init 160 = .ok (.iconst 0, 1) := dk_3 (dk_at dksX3_init_6 17 rfl rfl)
theorem dX3_init_161 : decode cX3_init 161 = .ok (.bipush 112, 2) := dk_16 112 (dk_at dksX3_init_6 18 rfl rfl)
theorem dX3_init_163 : decode cX3_init 163 = .ok (.castore, 1) := dk_85 (dk_at dksX3_init_6 20 rfl rfl)
theorem dX3_init_164 : decode cX3_init 164 = .ok (.dup, 1) := dk_89 (dk_at dksX3_init_6 21 rfl rfl)
theorem dX3_init_165 : decode cX3_init 165 = .ok (.iconst 1, 1) := dk_4 (dk_at dksX3_init_6 22 rfl rfl)
theorem dX3_init_166 : decode cX3_init 166 = .ok (.bipush 105, 2) := dk_16 105 (dk_at dksX3_init_7 0 rfl rfl)
theorem dX3_init_168 : decode cX3_init 168 = .ok (.castore, 1) := dk_85 (dk_at dksX3_init_7 2 rfl rfl)
theorem dX3_init_169 : decode cX3_init 169 = .ok (.dup, 1) := dk_89 (dk_at dksX3_init_7 3 rfl rfl)
theorem dX3_init_170 : decode cX3_init 170 = .ok (.iconst 2, 1) := dk_5 (dk_at dksX3_init_7 4 rfl rfl)
theorem dX3_init_171 : decode cX3_init 171 = .ok (.bipush 103, 2) := dk_16 103 (dk_at dksX3_init_7 5 rfl rfl)
theorem dX3_init_173 : decode cX3_init 173 = .ok (.castore, 1) := dk_85 (dk_at dksX3_init_7 7 rfl rfl)
theorem dX3_init_174 : decode cX3_init 174 = .ok (.dup, 1) := dk_89 (dk_at dksX3_init_7 8 rfl rfl)
theorem dX3_init_175 : decode cX3_init 175 = .ok (.iconst 3, 1) := dk_6 (dk_at dksX3_init_7 9 rfl rfl)
theorem dX3_init_176 : decode cX3_init 176 = .ok (.bipush 115, 2) := dk_16 115 (dk_at dksX3_init_7 10 rfl rfl)
theorem dX3_init_178 : decode cX3_init 178 = .ok (.castore, 1) := dk_85 (dk_at dksX3_init_7 12 rfl rfl)
theorem dX3_init_179 : decode cX3_init 179 = .ok (.aastore, 1) := dk_83 (dk_at dksX3_init_7 13 rfl rfl)
theorem dX3_init_180 : decode cX3_init 180 = .ok (.dup, 1) := dk_89 (dk_at dksX3_init_7 14 rfl rfl)
theorem dX3_init_181 : decode cX3_init 181 = .ok (.bipush 6, 2) := dk_16 6 (dk_at dksX3_init_7 15 rfl rfl)
theorem dX3_init_183 : decode cX3_init 183 = .ok (.iconst 4, 1) := dk_7 (dk_at dksX3_init_7 17 rfl rfl)
theorem dX3_init_184 : decode cX3_init 184 = .ok (.newarray .char, 2) := dk_188_5 (dk_at dksX3_init_7 18 rfl rfl)
theorem dX3_init_186 : decode cX3_init 186 = .ok (.dup, 1) := dk_89 (dk_at dksX3_init_7 20 rfl rfl)
theorem dX3_init_187 : decode cX3_init 187 = .ok (.iconst 0, 1) := dk_3 (dk_at dksX3_init_7 21 rfl rfl)
theorem dX3_init_188 : decode cX3_init 188 = .ok (.bipush 102, 2) := dk_16 102 (dk_at dksX3_init_7 22 rfl rfl)
theorem dX3_init_190 : decode cX3_init 190 = .ok (.castore, 1) := dk_85 (dk_at dksX3_init_8 0 rfl rfl)
theorem dX3_init_191 : decode cX3_init 191 = .ok (.dup, 1) := dk_89 (dk_at dksX3_init_8 1 rfl rfl)
theorem dX3_init_192 : decode cX3_init 192 = .ok (.iconst 1, 1) := dk_4 (dk_at dksX3_init_8 2 rfl rfl)
theorem dX3_init_193 : decode cX3_init 193 = .ok (.bipush 105, 2) := dk_16 105 (dk_at dksX3_init_8 3 rfl rfl)
theorem dX3_init_195 : decode cX3_init 195 = .ok (.castore, 1) := dk_85 (dk_at dksX3_init_8 5 rfl rfl)
theorem dX3_init_196 : decode cX3_init 196 = .ok (.dup, 1) := dk_89 (dk_at dksX3_init_8 6 rfl rfl)
theorem dX3_init_197 : decode cX3_init 197 = .ok (.iconst 2, 1) := dk_5 (dk_at dksX3_init_8 7 rfl rfl)
theorem dX3_init_198 : decode cX3_init 198 = .ok (.bipush 110, 2) := dk_16 110 (dk_at dksX3_init_8 8 rfl rfl)
theorem dX3_init_200 : decode cX3_init 200 = .ok (.castore, 1) := dk_85 (dk_at dksX3_init_8 10 rfl rfl)
theorem dX3_init_201 : decode cX3_init 201 = .ok (.dup, 1) := dk_89 (dk_at dksX3_init_8 11 rfl rfl)
theorem dX3_init_202 : decode cX3_init 202 = .ok (.iconst 3, 1) := dk_6 (dk_at dksX3_init_8 12 rfl rfl)
theorem dX3_init_203 : decode cX3_init 203 = .ok (.bipush 101, 2) := dk_16 101 (dk_at dksX3_init_8 13 rfl rfl)
theorem dX3_init_205 : decode cX3_init 205 = .ok (.castore, 1) := dk_85 (dk_at dksX3_init_8 15 rfl rfl)
theorem dX3_init_206 : decode cX3_init 206 = .ok (.aastore, 1) := dk_83 (dk_at dksX3_init_8 16 rfl rfl)
theorem dX3_init_207 : decode cX3_init 207 = .ok (.dup, 1) := dk_89 (dk_at dksX3_init_8 17 rfl rfl)
theorem dX3_init_208 : decode cX3_init 208 = .ok (.bipush 7, 2) := dk_16 7 (dk_at dksX3_init_8 18 rfl rfl)
theorem dX3_init_210 : decode cX3_init 210 = .ok (.iconst 5, 1) := dk_8 (dk_at dksX3_init_8 20 rfl rfl)
theorem dX3_init_211 : decode cX3_init 211 = .ok (.newarray .char, 2) := dk_188_5 (dk_at dksX3_init_8 21 rfl rfl)
theorem dX3_init_213 : decode cX3_init 213 = .ok (.dup, 1) := dk_89 (dk_at dksX3_init_8 23 rfl rfl)
theorem dX3_init_214 : decode cX3_init 214 = .ok (.iconst 0, 1) := dk_3 (dk_at dksX3_init_9 0 rfl rfl)
theorem dX3_init_215 : decode cX3_init 215 = .ok (.bipush 112, 2) := dk_16 112 (dk_at dksX3_init_9 1 rfl rfl)
theorem dX3_init_217 : decode cX3_init 217 = .ok (.castore, 1) := dk_85 (dk_at dksX3_init_9 3 rfl rfl)
theorem dX3_init_218 : decode cX3_init 218 = .ok (.dup, 1) := dk_89 (dk_at dksX3_init_9 4 rfl rfl)
theorem dX3_init_219 : decode cX3_init 219 = .ok (.iconst 1, 1) := dk_4 (dk_at dksX3_init_9 5 rfl rfl)
theorem dX3_init_220 : decode cX3_init 220 = .ok (.bipush 108, 2) := dk_16 108 (dk_at dksX3_init_9 6 rfl rfl)
theorem dX3_init_222 : decode cX3_init 222 = .ok (.castore, 1) := dk_85 (dk_at dksX3_init_9 8 rfl rfl)
theorem dX3_init_223 : decode cX3_init 223 = .ok (.dup, 1) := dk_89 (dk_at dksX3_init_9 9 rfl rfl)
theorem dX3_init_224 : decode cX3_init 224 = .ok (.iconst 2, 1) := dk_5 (dk_at dksX3_init_9 10 rfl rfl)
theorem dX3_init_225 : decode cX3_init 225 = .ok (.bipush 97, 2) := dk_16 97 (dk_at dksX3_init_9 11 rfl rfl)
theorem dX3_init_227 : decode cX3_init 227 = .ok (.castore, 1) := dk_85 (dk_at dksX3_init_9 13 rfl rfl)
theorem dX3_init_228 : decode cX3_init 228 = .ok (.dup, 1) := dk_89 (dk_at dksX3_init_9 14 rfl rfl)
theorem dX3_init_229 : decode cX3_init 229 = .ok (.iconst 3, 1) := dk_6 (dk_at dksX3_init_9 15 rfl rfl)
theorem dX3_init_230 : decode cX3_init 230 = .ok (.bipush 110, 2) := dk_16 110 (dk_at dksX3_init_9 16 rfl rfl)
theorem dX3_init_232 : decode cX3_init 232 = .ok (.castore, 1) := dk_85 (dk_at dksX3_init_9 18 rfl rfl)
theorem dX3_init_233 : decode cX3_init 233 = .ok (.dup, 1) := dk_89 (dk_at dksX3_init_9 19 rfl rfl)
theorem dX3_init_234 : decode cX3_init 234 = .ok (.iconst 4, 1) := dk_7 (dk_at dksX3_init_9 20 rfl rfl)
theorem dX3_init_235 : decode cX3_init 235 = .ok (.bipush 116, 2) := dk_16 116 (dk_at dksX3_init_9 21 rfl rfl)
theorem dX3_init_237 : decode cX3_init 237 = .ok (.castore, 1) := dk_85 (dk_at dksX3_init_9 23 rfl rfl)
theorem dX3_init_238 : decode cX3_init 238 = .ok (.aastore, 1) := dk_83 (dk_at dksX3_init_10 0 rfl rfl)
theorem dX3_init_239 : decode cX3_init 239 = .ok (.dup, 1) := dk_89 (dk_at dksX3_init_10 1 rfl rfl)
theorem dX3_init_240 : decode cX3_init 240 = .ok (.bipush 8, 2) := dk_16 8 (dk_at dksX3_init_10 2 rfl rfl)
theorem dX3_init_242 : decode cX3_init 242 = .ok (.iconst 4, 1) := dk_7 (dk_at dksX3_init_10 4 rfl rfl)
theorem dX3_init_243 : decode cX3_init 243 = .ok (.newarray .char, 2) := dk_188_5 (dk_at dksX3_init_10 5 rfl rfl)
theorem dX3_init_245 : decode cX3_init 245 = .ok (.dup, 1) := dk_89 (dk_at dksX3_init_10 7 rfl rfl)
theorem dX3_init_246 : decode cX3_init 246 = .ok (.iconst 0, 1) := dk_3 (dk_at dksX3_init_10 8 rfl rfl)
theorem dX3_init_247 : decode cX3_init 247 = .ok (.bipush 107, 2) := dk_16 107 (dk_at dksX3_init_10 9 rfl rfl)
theorem dX3_init_249 : decode cX3_init 249 = .ok (.castore, 1) := dk_85 (dk_at dksX3_init_10 11 rfl rfl)
theorem dX3_init_250 : decode cX3_init 250 = .ok (.dup, 1) := dk_89 (dk_at dksX3_init_10 12 rfl rfl)
theorem dX3_init_251 : decode cX3_init 251 = .ok (.iconst 1, 1) := dk_4 (dk_at dksX3_init_10 13 rfl rfl)
theorem dX3_init_252 : decode cX3_init 252 = .ok (.bipush 105, 2) := dk_16 105 (dk_at dksX3_init_10 14 rfl rfl)
theorem dX3_init_254 : decode cX3_init 254 = .ok (.castore, 1) := dk_85 (dk_at dksX3_init_10 16 rfl rfl)
theorem dX3_init_255 : decode cX3_init 255 = .ok (.dup, 1) := dk_89 (dk_at dksX3_init_10 17 rfl rfl)
theorem dX3_init_256 : decode cX3_init 256 = .ok (.iconst 2, 1) := dk_5 (dk_at dksX3_init_10 18 rfl rfl)
theorem dX3_init_257 : decode cX3_init 257 = .ok (.bipush 110, 2) := dk_16 110 (dk_at dksX3_init_10 19 rfl rfl)
theorem dX3_init_259 : decode cX3_init 259 = .ok (.castore, 1) := dk_85 (dk_at dksX3_init_10 21 rfl rfl)
theorem dX3_init_260 : decode cX3_init 260 = .ok (.dup, 1) := dk_89 (dk_at dksX3_init_10 22 rfl rfl)
theorem dX3_init_261 : decode cX3_init 261 = .ok (.iconst 3, 1) := dk_6 (dk_at dksX3_init_10 23 rfl rfl)
theorem dX3_init_262 : decode cX3_init 262 = .ok (.bipush 100, 2) := dk_16 100 (dk_at dksX3_init_11 0 rfl rfl)
theorem dX3_init_264 : decode cX3_init 264 = .ok (.castore, 1) := dk_85 (dk_at dksX3_init_11 2 rfl rfl)
theorem dX3_init_265 : decode cX3_init 265 = .ok (.aastore, 1) := dk_83 (dk_at dksX3_init_11 3 rfl rfl)
theorem dX3_init_266 : decode cX3_init 266 = .ok (.dup, 1) := dk_89 (dk_at dksX3_init_11 4 rfl rfl)
theorem dX3_init_267 : decode cX3_init 267 = .ok (.bipush 9, 2) := dk_16 9 (dk_at dksX3_init_11 5 rfl rfl)
theorem dX3_init_269 : decode cX3_init 269 = .ok (.iconst 4, 1) := dk_7 (dk_at dksX3_init_11 7 rfl rfl)
theorem dX3_init_270 : decode cX3_init 270 = .ok (.newarray .char, 2) := dk_188_5 (dk_at dksX3_init_11 8 rfl rfl)
theorem dX3_init_272 : decode cX3_init 272 = .ok (.dup, 1) := dk_89 (dk_at dksX3_init_11 10 rfl rfl)
theorem dX3_init_273 : decode cX3_init 273 = .ok (.iconst 0, 1) := dk_3 (dk_at dksX3_init_11 11 rfl rfl)
theorem dX3_init_274 : decode cX3_init 274 = .ok (.bipush 115, 2) := dk_16 115 (dk_at dksX3_init_11 12 rfl rfl)
theorem dX3_init_276 : decode cX3_init 276 = .ok (.castore, 1) := dk_85 (dk_at dksX3_init_11 14 rfl rfl)
theorem dX3_init_277 : decode cX3_init 277 = .ok (.dup, 1) := dk_89 (dk_at dksX3_init_11 15 rfl rfl)
theorem dX3_init_278 : decode cX3_init 278 = .ok (.iconst 1, 1) := dk_4 (dk_at dksX3_init_11 16 rfl rfl)
theorem dX3_init_279 : decode cX3_init 279 = .ok (.bipush 105, 2) := dk_16 105 (dk_at dksX3_init_11 17 rfl rfl)
theorem dX3_init_281 : decode cX3_init 281 = .ok (.castore, 1) := dk_85 (dk_at dksX3_init_11 19 rfl rfl)
theorem dX3_init_282 : decode cX3_init 282 = .ok (.dup, 1) := dk_89 (dk_at dksX3_init_11 20 rfl rfl)
theorem dX3_init_283 : decode cX3_init 283 = .ok (.iconst 2, 1) := dk_5 (dk_at dksX3_init_11 21 rfl rfl)
theorem dX3_init_284 : decode cX3_init 284 = .ok (.bipush 116, 2) := dk_16 116 (dk_at dksX3_init_11 22 rfl rfl)
theorem dX3_init_286 : decode cX3_init 286 = .ok (.castore, 1) := dk_85 (dk_at dksX3_init_12 0 rfl rfl)
theorem dX3_init_287 : decode cX3_init 287 = .ok (.dup, 1) := dk_89 (dk_at dksX3_init_12 1 rfl rfl)
theorem dX3_init_288 : decode cX3_init 288 = .ok (.iconst 3, 1) := dk_6 (dk_at dksX3_init_12 2 rfl rfl)
theorem dX3_init_289 : decode cX3_init 289 = .ok (.bipush 101, 2) := dk_16 101 (dk_at dksX3_init_12 3 rfl rfl)
theorem dX3_init_291 : decode cX3_init 291 = .ok (.castore, 1) := dk_85 (dk_at dksX3_init_12 5 rfl rfl)
theorem dX3_init_292 : decode cX3_init 292 = .ok (.aastore, 1) := dk_83 (dk_at dksX3_init_12 6 rfl rfl)
theorem dX3_init_293 : decode cX3_init 293 = .ok (.dup, 1) := dk_89 (dk_at dksX3_init_12 7 rfl rfl)
theorem dX3_init_294 : decode cX3_init 294 = .ok (.bipush 10, 2) := dk_16 10 (dk_at dksX3_init_12 8 rfl rfl)
theorem dX3_init_296 : decode cX3_init 296 = .ok (.iconst 5, 1) := dk_8 (dk_at dksX3_init_12 10 rfl rfl)
theorem dX3_init_297 : decode cX3_init 297 = .ok (.newarray .char, 2) := dk_188_5 (dk_at dksX3_init_12 11 rfl rfl)
theorem dX3_init_299 : decode cX3_init 299 = .ok (.dup, 1) := dk_89 (dk_at dksX3_init_12 13 rfl rfl)
theorem dX3_init_300 : decode cX3_init 300 = .ok (.iconst 0, 1) := dk_3 (dk_at dksX3_init_12 14 rfl rfl)
theorem dX3_init_301 : decode cX3_init 301 = .ok (.bipush 115, 2) := dk_16 115 (dk_at dksX3_init_12 15 rfl rfl)
theorem dX3_init_303 : decode cX3_init 303 = .ok (.castore, 1) := dk_85 (dk_at dksX3_init_12 17 rfl rfl)
theorem dX3_init_304 : decode cX3_init 304 = .ok (.dup, 1) := dk_89 (dk_at dksX3_init_12 18 rfl rfl)
theorem dX3_init_305 : decode cX3_init 305 = .ok (.iconst 1, 1) := dk_4 (dk_at dksX3_init_12 19 rfl rfl)
theorem dX3_init_306 : decode cX3_init 306 = .ok (.bipush 116, 2) := dk_16 116 (dk_at dksX3_init_12 20 rfl rfl)
theorem dX3_init_308 : decode cX3_init 308 = .ok (.castore, 1) := dk_85 (dk_at dksX3_init_12 22 rfl rfl)
theorem dX3_init_309 : decode cX3_init 309 = .ok (.dup, 1) := dk_89 (dk_at dksX3_init_12 23 rfl rfl)
theorem dX3_init_310 : decode cX3_init 310 = .ok (.iconst 2, 1) := dk_5 (dk_at dksX3_init_13 0 rfl rfl)
theorem dX3_init_311 : decode cX3_init 311 = .ok (.bipush 101, 2) := dk_16 101 (dk_at dksX3_init_13 1 rfl rfl)
theorem dX3_init_313 : decode cX3_init 313 = .ok (.castore, 1) := dk_85 (dk_at dksX3_init_13 3 rfl rfl)
theorem dX3_init_314 : decode cX3_init 314 = .ok (.dup, 1) := dk_89 (dk_at dksX3_init_13 4 rfl rfl)
theorem dX3_init_315 : decode cX3_init 315 = .ok (.iconst 3, 1) := dk_6 (dk_at dksX3_init_13 5 rfl rfl)
theorem dX3_init_316 : decode cX3_init 316 = .ok (.bipush 101, 2) := dk_16 101 (dk_at dksX3_init_13 6 rfl rfl)
theorem dX3_init_318 : decode cX3_init 318 = .ok (.castore, 1) := dk_85 (dk_at dksX3_init_13 8 rfl rfl)
theorem dX3_init_319 : decode cX3_init 319 = .ok (.dup, 1) := dk_89 (dk_at dksX3_init_13 9 rfl rfl)
theorem dX3_init_320 : decode cX3_init 320 = .ok (.iconst 4, 1) := dk_7 (dk_at dksX3_init_13 10 rfl rfl)
theorem dX3_init_321 : decode cX3_init 321 = .ok (.bipush 112, 2) := dk_16 112 (dk_at dksX3_init_13 11 rfl rfl)
theorem dX3_init_323 : decode cX3_init 323 = .ok (.castore, 1) := dk_85 (dk_at dksX3_init_13 13 rfl rfl)
theorem dX3_init_324 : decode cX3_init 324 = .ok (.aastore, 1) := dk_83 (dk_at dksX3_init_13 14 rfl rfl)
theorem dX3_init_325 : decode cX3_init 325 = .ok (.dup, 1) := dk_89 (dk_at dksX3_init_13 15 rfl rfl)
theorem dX3_init_326 : decode cX3_init 326 = .ok (.bipush 11, 2) := dk_16 11 (dk_at dksX3_init_13 16 rfl rfl)
theorem dX3_init_328 : decode cX3_init 328 = .ok (.iconst 3, 1) := dk_6 (dk_at dksX3_init_13 18 rfl rfl)
theorem dX3_init_329 : decode cX3_init 329 = .ok (.newarray .char, 2) := dk_188_5 (dk_at dksX3_init_13 19 rfl rfl)
theorem dX3_init_331 : decode cX3_init 331 = .ok (.dup, 1) := dk_89 (dk_at dksX3_init_13 21 rfl rfl)
theorem dX3_init_332 : decode cX3_init 332 = .ok (.iconst 0, 1) := dk_3 (dk_at dksX3_init_13 22 rfl rfl)
theorem dX3_init_333 : decode cX3_init 333 = .ok (.bipush 111, 2) := dk_16 111 (dk_at dksX3_init_14 0 rfl rfl)
theorem dX3_init_335 : decode cX3_init 335 = .ok (.castore, 1) := dk_85 (dk_at dksX3_init_14 2 rfl rfl)
theorem dX3_init_336 : decode cX3_init 336 = .ok (.dup, 1) := dk_89 (dk_at dksX3_init_14 3 rfl rfl)
theorem dX3_init_337 : decode cX3_init 337 = .ok (.iconst 1, 1) := dk_4 (dk_at dksX3_init_14 4 rfl rfl)
theorem dX3_init_338 : decode cX3_init 338 = .ok (.bipush 108, 2) := dk_16 108 (dk_at dksX3_init_14 5 rfl rfl)
theorem dX3_init_340 : decode cX3_init 340 = .ok (.castore, 1) := dk_85 (dk_at dksX3_init_14 7 rfl rfl)
theorem dX3_init_341 : decode cX3_init 341 = .ok (.dup, 1) := dk_89 (dk_at dksX3_init_14 8 rfl rfl)
theorem dX3_init_342 : decode cX3_init 342 = .ok (.iconst 2, 1) := dk_5 (dk_at dksX3_init_14 9 rfl rfl)
theorem dX3_init_343 : decode cX3_init 343 = .ok (.bipush 100, 2) := dk_16 100 (dk_at dksX3_init_14 10 rfl rfl)
theorem dX3_init_345 : decode cX3_init 345 = .ok (.castore, 1) := dk_85 (dk_at dksX3_init_14 12 rfl rfl)
theorem dX3_init_346 : decode cX3_init 346 = .ok (.aastore, 1) := dk_83 (dk_at dksX3_init_14 13 rfl rfl)
theorem dX3_init_347 : decode cX3_init 347 = .ok (.dup, 1) := dk_89 (dk_at dksX3_init_14 14 rfl rfl)
theorem dX3_init_348 : decode cX3_init 348 = .ok (.bipush 12, 2) := dk_16 12 (dk_at dksX3_init_14 15 rfl rfl)
theorem dX3_init_350 : decode cX3_init 350 = .ok (.iconst 4, 1) := dk_7 (dk_at dksX3_init_14 17 rfl rfl)
theorem dX3_init_351 : decode cX3_init 351 = .ok (.newarray .char, 2) := dk_188_5 (dk_at dksX3_init_14 18 rfl rfl)
theorem dX3_init_353 : decode cX3_init 353 = .ok (.dup, 1) := dk_89 (dk_at dksX3_init_14 20 rfl rfl)
theorem dX3_init_354 : decode cX3_init 354 = .ok (.iconst 0, 1) := dk_3 (dk_at dksX3_init_14 21 rfl rfl)
theorem dX3_init_355 : decode cX3_init 355 = .ok (.bipush 102, 2) := dk_16 102 (dk_at dksX3_init_14 22 rfl rfl)
theorem dX3_init_357 : decode cX3_init 357 = .ok (.castore, 1) := dk_85 (dk_at dksX3_init_15 0 rfl rfl)
theorem dX3_init_358 : decode cX3_init 358 = .ok (.dup, 1) := dk_89 (dk_at dksX3_init_15 1 rfl rfl)
theorem dX3_init_359 : decode cX3_init 359 = .ok (.iconst 1, 1) := dk_4 (dk_at dksX3_init_15 2 rfl rfl)
theorem dX3_init_360 : decode cX3_init 360 = .ok (.bipush 117, 2) := dk_16 117 (dk_at dksX3_init_15 3 rfl rfl)
theorem dX3_init_362 : decode cX3_init 362 = .ok (.castore, 1) := dk_85 (dk_at dksX3_init_15 5 rfl rfl)
theorem dX3_init_363 : decode cX3_init 363 = .ok (.dup, 1) := dk_89 (dk_at dksX3_init_15 6 rfl rfl)
theorem dX3_init_364 : decode cX3_init 364 = .ok (.iconst 2, 1) := dk_5 (dk_at dksX3_init_15 7 rfl rfl)
theorem dX3_init_365 : decode cX3_init 365 = .ok (.bipush 108, 2) := dk_16 108 (dk_at dksX3_init_15 8 rfl rfl)
theorem dX3_init_367 : decode cX3_init 367 = .ok (.castore, 1) := dk_85 (dk_at dksX3_init_15 10 rfl rfl)
theorem dX3_init_368 : decode cX3_init 368 = .ok (.dup, 1) := dk_89 (dk_at dksX3_init_15 11 rfl rfl)
theorem dX3_init_369 : decode cX3_init 369 = .ok (.iconst 3, 1) := dk_6 (dk_at dksX3_init_15 12 rfl rfl)
theorem dX3_init_370 : decode cX3_init 370 = .ok (.bipush 108, 2) := dk_16 108 (dk_at dksX3_init_15 13 rfl rfl)
theorem dX3_init_372 : decode cX3_init 372 = .ok (.castore, 1) := dk_85 (dk_at dksX3_init_15 15 rfl rfl)
theorem dX3_init_373 : decode cX3_init 373 = .ok (.aastore, 1) := dk_83 (dk_at dksX3_init_15 16 rfl rfl)
theorem dX3_init_374 : decode cX3_init 374 = .ok (.dup, 1) := dk_89 (dk_at dksX3_init_15 17 rfl rfl)
theorem dX3_init_375 : decode cX3_init 375 = .ok (.bipush 13, 2) := dk_16 13 (dk_at dksX3_init_15 18 rfl rfl)
theorem dX3_init_377 : decode cX3_init 377 = .ok (.iconst 5, 1) := dk_8 (dk_at dksX3_init_15 20 rfl rfl)
theorem dX3_init_378 : decode cX3_init 378 = .ok (.newarray .char, 2) := dk_188_5 (dk_at dksX3_init_15 21 rfl rfl)
theorem dX3_init_380 : decode cX3_init 380 = .ok (.dup, 1) := dk_89 (dk_at dksX3_init_15 23 rfl rfl)
theorem dX3_init_381 : decode cX3_init 381 = .ok (.iconst 0, 1) := dk_3 (dk_at dksX3_init_16 0 rfl rfl)
theorem dX3_init_382 : decode cX3_init 382 = .ok (.bipush 97, 2) := dk_16 97 (dk_at dksX3_init_16 1 rfl rfl)
theorem dX3_init_384 : decode cX3_init 384 = .ok (.castore, 1) := dk_85 (dk_at dksX3_init_16 3 rfl rfl)
theorem dX3_init_385 : decode cX3_init 385 = .ok (.dup, 1) := dk_89 (dk_at dksX3_init_16 4 rfl rfl)
theorem dX3_init_386 : decode cX3_init 386 = .ok (.iconst 1, 1) := dk_4 (dk_at dksX3_init_16 5 rfl rfl)
theorem dX3_init_387 : decode cX3_init 387 = .ok (.bipush 99, 2) := dk_16 99 (dk_at dksX3_init_16 6 rfl rfl)
theorem dX3_init_389 : decode cX3_init 389 = .ok (.castore, 1) := dk_85 (dk_at dksX3_init_16 8 rfl rfl)
theorem dX3_init_390 : decode cX3_init 390 = .ok (.dup, 1) := dk_89 (dk_at dksX3_init_16 9 rfl rfl)
theorem dX3_init_391 : decode cX3_init 391 = .ok (.iconst 2, 1) := dk_5 (dk_at dksX3_init_16 10 rfl rfl)
theorem dX3_init_392 : decode cX3_init 392 = .ok (.bipush 114, 2) := dk_16 114 (dk_at dksX3_init_16 11 rfl rfl)
theorem dX3_init_394 : decode cX3_init 394 = .ok (.castore, 1) := dk_85 (dk_at dksX3_init_16 13 rfl rfl)
theorem dX3_init_395 : decode cX3_init 395 = .ok (.dup, 1) := dk_89 (dk_at dksX3_init_16 14 rfl rfl)
theorem dX3_init_396 : decode cX3_init 396 = .ok (.iconst 3, 1) := dk_6 (dk_at dksX3_init_16 15 rfl rfl)
theorem dX3_init_397 : decode cX3_init 397 = .ok (.bipush 101, 2) := dk_16 101 (dk_at dksX3_init_16 16 rfl rfl)
theorem dX3_init_399 : decode cX3_init 399 = .ok (.castore, 1) := dk_85 (dk_at dksX3_init_16 18 rfl rfl)
theorem dX3_init_400 : decode cX3_init 400 = .ok (.dup, 1) := dk_89 (dk_at dksX3_init_16 19 rfl rfl)
theorem dX3_init_401 : decode cX3_init 401 = .ok (.iconst 4, 1) := dk_7 (dk_at dksX3_init_16 20 rfl rfl)
theorem dX3_init_402 : decode cX3_init 402 = .ok (.bipush 115, 2) := dk_16 115 (dk_at dksX3_init_16 21 rfl rfl)
theorem dX3_init_404 : decode cX3_init 404 = .ok (.castore, 1) := dk_85 (dk_at dksX3_init_16 23 rfl rfl)
theorem dX3_init_405 : decode cX3_init 405 = .ok (.aastore, 1) := dk_83 (dk_at dksX3_init_17 0 rfl rfl)
theorem dX3_init_406 : decode cX3_init 406 = .ok (.dup, 1) := dk_89 (dk_at dksX3_init_17 1 rfl rfl)
theorem dX3_init_407 : decode cX3_init 407 = .ok (.bipush 14, 2) := dk_16 14 (dk_at dksX3_init_17 2 rfl rfl)
theorem dX3_init_409 : decode cX3_init 409 = .ok (.iconst 5, 1) := dk_8 (dk_at dksX3_init_17 4 rfl rfl)
theorem dX3_init_410 : decode cX3_init 410 = .ok (.newarray .char, 2) := dk_188_5 (dk_at dksX3_init_17 5 rfl rfl)
theorem dX3_init_412 : decode cX3_init 412 = .ok (.dup, 1) := dk_89 (dk_at dksX3_init_17 7 rfl rfl)
theorem dX3_init_413 : decode cX3_init 413 = .ok (.iconst 0, 1) := dk_3 (dk_at dksX3_init_17 8 rfl rfl)
theorem dX3_init_414 : decode cX3_init 414 = .ok (.bipush 98, 2) := dk_16 98 (dk_at dksX3_init_17 9 rfl rfl)
theorem dX3_init_416 : decode cX3_init 416 = .ok (.castore, 1) := dk_85 (dk_at dksX3_init_17 11 rfl rfl)
theorem dX3_init_417 : decode cX3_init 417 = .ok (.dup, 1) := dk_89 (dk_at dksX3_init_17 12 rfl rfl)
theorem dX3_init_418 : decode cX3_init 418 = .ok (.iconst 1, 1) := dk_4 (dk_at dksX3_init_17 13 rfl rfl)
theorem dX3_init_419 : decode cX3_init 419 = .ok (.bipush 108, 2) := dk_16 108 (dk_at dksX3_init_17 14 rfl rfl)
theorem dX3_init_421 : decode cX3_init 421 = .ok (.castore, 1) := dk_85 (dk_at dksX3_init_17 16 rfl rfl)
theorem dX3_init_422 : decode cX3_init 422 = .ok (.dup, 1) := dk_89 (dk_at dksX3_init_17 17 rfl rfl)
theorem dX3_init_423 : decode cX3_init 423 = .ok (.iconst 2, 1) := dk_5 (dk_at dksX3_init_17 18 rfl rfl)
theorem dX3_init_424 : decode cX3_init 424 = .ok (.bipush 111, 2) := dk_16 111 (dk_at dksX3_init_17 19 rfl rfl)
theorem dX3_init_426 : decode cX3_init 426 = .ok (.castore, 1) := dk_85 (dk_at dksX3_init_17 21 rfl rfl)
theorem dX3_init_427 : decode cX3_init 427 = .ok (.dup, 1) := dk_89 (dk_at dksX3_init_17 22 rfl rfl)
theorem dX3_init_428 : decode cX3_init 428 = .ok (.iconst 3, 1) := dk_6 (dk_at dksX3_init_17 23 rfl rfl)
theorem dX3_init_429 : decode cX3_init 429 = .ok (.bipush 99, 2) := dk_16 99 (dk_at dksX3_init_18 0 rfl rfl)
theorem dX3_init_431 : decode cX3_init 431 = .ok (.castore, 1) := dk_85 (dk_at dksX3_init_18 2 rfl rfl)
theorem dX3_init_432 : decode cX3_init 432 = .ok (.dup, 1) := dk_89 (dk_at dksX3_init_18 3 rfl rfl)
theorem dX3_init_433 : decode cX3_init 433 = .ok (.iconst 4, 1) := dk_7 (dk_at dksX3_init_18 4 rfl rfl)
theorem dX3_init_434 : decode cX3_init 434 = .ok (.bipush 107, 2) := dk_16 107 (dk_at dksX3_init_18 5 rfl rfl)
theorem dX3_init_436 : decode cX3_init 436 = .ok (.castore, 1) := dk_85 (dk_at dksX3_init_18 7 rfl rfl)
theorem dX3_init_437 : decode cX3_init 437 = .ok (.aastore, 1) := dk_83 (dk_at dksX3_init_18 8 rfl rfl)
theorem dX3_init_438 : decode cX3_init 438 = .ok (.dup, 1) := dk_89 (dk_at dksX3_init_18 9 rfl rfl)
theorem dX3_init_439 : decode cX3_init 439 = .ok (.bipush 15, 2) := dk_16 15 (dk_at dksX3_init_18 10 rfl rfl)
theorem dX3_init_441 : decode cX3_init 441 = .ok (.iconst 4, 1) := dk_7 (dk_at dksX3_init_18 12 rfl rfl)
theorem dX3_init_442 : decode cX3_init 442 = .ok (.newarray .char, 2) := dk_188_5 (dk_at dksX3_init_18 13 rfl rfl)
theorem dX3_init_444 : decode cX3_init 444 = .ok (.dup, 1) := dk_89 (dk_at dksX3_init_18 15 rfl rfl)
theorem dX3_init_445 : decode cX3_init 445 = .ok (.iconst 0, 1) := dk_3 (dk_at dksX3_init_18 16 rfl rfl)
theorem dX3_init_446 : decode cX3_init 446 = .ok (.bipush 121, 2) := dk_16 121 (dk_at dksX3_init_18 17 rfl rfl)
theorem dX3_init_448 : decode cX3_init 448 = .ok (.castore, 1) := dk_85 (dk_at dksX3_init_18 19 rfl rfl)
theorem dX3_init_449 : decode cX3_init 449 = .ok (.dup, 1) := dk_89 (dk_at dksX3_init_18 20 rfl rfl)
theorem dX3_init_450 : decode cX3_init 450 = .ok (.iconst 1, 1) := dk_4 (dk_at dksX3_init_18 21 rfl rfl)
theorem dX3_init_451 : decode cX3_init 451 = .ok (.bipush 101, 2) := dk_16 101 (dk_at dksX3_init_18 22 rfl rfl)
theorem dX3_init_453 : decode cX3_init 453 = .ok (.castore, 1) := dk_85 (dk_at dksX3_init_19 0 rfl rfl)
theorem dX3_init_454 : decode cX3_init 454 = .ok (.dup, 1) := dk_89 (dk_at dksX3_init_19 1 rfl rfl)
theorem dX3_init_455 : decode cX3_init 455 = .ok (.iconst 2, 1) := dk_5 (dk_at dksX3_init_19 2 rfl rfl)
theorem dX3_init_456 : decode cX3_init 456 = .ok (.bipush 97, 2) := dk_16 97 (dk_at dksX3_init_19 3 rfl rfl)
theorem dX3_init_458 : decode cX3_init 458 = .ok (.castore, 1) := dk_85 (dk_at dksX3_init_19 5 rfl rfl)
theorem dX3_init_459 : decode cX3_init 459 = .ok (.dup, 1) := dk_89 (dk_at dksX3_init_19 6 rfl rfl)
theorem dX3_init_460 : decode cX3_init 460 = .ok (.iconst 3, 1) := dk_6 (dk_at dksX3_init_19 7 rfl rfl)
theorem dX3_init_461 : decode cX3_init 461 = .ok (.bipush 114, 2) := dk_16 114 (dk_at dksX3_init_19 8 rfl rfl)
theorem dX3_init_463 : decode cX3_init 463 = .ok (.castore, 1) := dk_85 (dk_at dksX3_init_19 10 rfl rfl)
theorem dX3_init_464 : decode cX3_init 464 = .ok (.aastore, 1) := dk_83 (dk_at dksX3_init_19 11 rfl rfl)
theorem dX3_init_465 : decode cX3_init 465 = .ok (.dup, 1) := dk_89 (dk_at dksX3_init_19 12 rfl rfl)
theorem dX3_init_466 : decode cX3_init 466 = .ok (.bipush 16, 2) := dk_16 16 (dk_at dksX3_init_19 13 rfl rfl)
theorem dX3_init_468 : decode cX3_init 468 = .ok (.bipush 7, 2) := dk_16 7 (dk_at dksX3_init_19 15 rfl rfl)
theorem dX3_init_470 : decode cX3_init 470 = .ok (.newarray .char, 2) := dk_188_5 (dk_at dksX3_init_19 17 rfl rfl)
theorem dX3_init_472 : decode cX3_init 472 = .ok (.dup, 1) := dk_89 (dk_at dksX3_init_19 19 rfl rfl)
theorem dX3_init_473 : decode cX3_init 473 = .ok (.iconst 0, 1) := dk_3 (dk_at dksX3_init_19 20 rfl rfl)
theorem dX3_init_474 : decode cX3_init 474 = .ok (.bipush 104, 2) := dk_16 104 (dk_at dksX3_init_19 21 rfl rfl)
theorem dX3_init_476 : decode cX3_init 476 = .ok (.castore, 1) := dk_85 (dk_at dksX3_init_19 23 rfl rfl)
theorem dX3_init_477 : decode cX3_init 477 = .ok (.dup, 1) := dk_89 (dk_at dksX3_init_20 0 rfl rfl)
theorem dX3_init_478 : decode cX3_init 478 = .ok (.iconst 1, 1) := dk_4 (dk_at dksX3_init_20 1 rfl rfl)
theorem dX3_init_479 : decode cX3_init 479 = .ok (.bipush 101, 2) := dk_16 101 (dk_at dksX3_init_20 2 rfl rfl)
theorem dX3_init_481 : decode cX3_init 481 = .ok (.castore, 1) := dk_85 (dk_at dksX3_init_20 4 rfl rfl)
theorem dX3_init_482 : decode cX3_init 482 = .ok (.dup, 1) := dk_89 (dk_at dksX3_init_20 5 rfl rfl)
theorem dX3_init_483 : decode cX3_init 483 = .ok (.iconst 2, 1) := dk_5 (dk_at dksX3_init_20 6 rfl rfl)
theorem dX3_init_484 : decode cX3_init 484 = .ok (.bipush 97, 2) := dk_16 97 (dk_at dksX3_init_20 7 rfl rfl)
theorem dX3_init_486 : decode cX3_init 486 = .ok (.castore, 1) := dk_85 (dk_at dksX3_init_20 9 rfl rfl)
theorem dX3_init_487 : decode cX3_init 487 = .ok (.dup, 1) := dk_89 (dk_at dksX3_init_20 10 rfl rfl)
theorem dX3_init_488 : decode cX3_init 488 = .ok (.iconst 3, 1) := dk_6 (dk_at dksX3_init_20 11 rfl rfl)
theorem dX3_init_489 : decode cX3_init 489 = .ok (.bipush 114, 2) := dk_16 114 (dk_at dksX3_init_20 12 rfl rfl)
theorem dX3_init_491 : decode cX3_init 491 = .ok (.castore, 1) := dk_85 (dk_at dksX3_init_20 14 rfl rfl)
theorem dX3_init_492 : decode cX3_init 492 = .ok (.dup, 1) := dk_89 (dk_at dksX3_init_20 15 rfl rfl)
theorem dX3_init_493 : decode cX3_init 493 = .ok (.iconst 4, 1) := dk_7 (dk_at dksX3_init_20 16 rfl rfl)
theorem dX3_init_494 : decode cX3_init 494 = .ok (.bipush 116, 2) := dk_16 116 (dk_at dksX3_init_20 17 rfl rfl)
theorem dX3_init_496 : decode cX3_init 496 = .ok (.castore, 1) := dk_85 (dk_at dksX3_init_20 19 rfl rfl)
theorem dX3_init_497 : decode cX3_init 497 = .ok (.dup, 1) := dk_89 (dk_at dksX3_init_20 20 rfl rfl)
theorem dX3_init_498 : decode cX3_init 498 = .ok (.iconst 5, 1) := dk_8 (dk_at dksX3_init_20 21 rfl rfl)
theorem dX3_init_499 : decode cX3_init 499 = .ok (.bipush 104, 2) := dk_16 104 (dk_at dksX3_init_20 22 rfl rfl)
theorem dX3_init_501 : decode cX3_init 501 = .ok (.castore, 1) := dk_85 (dk_at dksX3_init_21 0 rfl rfl)
theorem dX3_init_502 : decode cX3_init 502 = .ok (.dup, 1) := dk_89 (dk_at dksX3_init_21 1 rfl rfl)
theorem dX3_init_503 : decode cX3_init 503 = .ok (.bipush 6, 2) := dk_16 6 (dk_at dksX3_init_21 2 rfl rfl)
theorem dX3_init_505 : decode cX3_init 505 = .ok (.bipush 115, 2) := dk_16 115 (dk_at dksX3_init_21 4 rfl rfl)
theorem dX3_init_507 : decode cX3_init 507 = .ok (.castore, 1) := dk_85 (dk_at dksX3_init_21 6 rfl rfl)
theorem dX3_init_508 : decode cX3_init 508 = .ok (.aastore, 1) := dk_83 (dk_at dksX3_init_21 7 rfl rfl)
theorem dX3_init_509 : decode cX3_init 509 = .ok (.dup, 1) := dk_89 (dk_at dksX3_init_21 8 rfl rfl)
theorem dX3_init_510 : decode cX3_init 510 = .ok (.bipush 17, 2) := dk_16 17 (dk_at dksX3_init_21 9 rfl rfl)
theorem dX3_init_512 : decode cX3_init 512 = .ok (.iconst 5, 1) := dk_8 (dk_at dksX3_init_21 11 rfl rfl)
theorem dX3_init_513 : decode cX3_init 513 = .ok (.newarray .char, 2) := dk_188_5 (dk_at dksX3_init_21 12 rfl rfl)
theorem dX3_init_515 : decode cX3_init 515 = .ok (.dup, 1) := dk_89 (dk_at dksX3_init_21 14 rfl rfl)
theorem dX3_init_516 : decode cX3_init 516 = .ok (.iconst 0, 1) := dk_3 (dk_at dksX3_init_21 15 rfl rfl)
theorem dX3_init_517 : decode cX3_init 517 = .ok (.bipush 104, 2) := dk_16 104 (dk_at dksX3_init_21 16 rfl rfl)
theorem dX3_init_519 : decode cX3_init 519 = .ok (.castore, 1) := dk_85 (dk_at dksX3_init_21 18 rfl rfl)
theorem dX3_init_520 : decode cX3_init 520 = .ok (.dup, 1) := dk_89 (dk_at dksX3_init_21 19 rfl rfl)
theorem dX3_init_521 : decode cX3_init 521 = .ok (.iconst 1, 1) := dk_4 (dk_at dksX3_init_21 20 rfl rfl)
theorem dX3_init_522 : decode cX3_init 522 = .ok (.bipush 101, 2) := dk_16 101 (dk_at dksX3_init_21 21 rfl rfl)
theorem dX3_init_524 : decode cX3_init 524 = .ok (.castore, 1) := dk_85 (dk_at dksX3_init_21 23 rfl rfl)
theorem dX3_init_525 : decode cX3_init 525 = .ok (.dup, 1) := dk_89 (dk_at dksX3_init_22 0 rfl rfl)
theorem dX3_init_526 : decode cX3_init 526 = .ok (.iconst 2, 1) := dk_5 (dk_at dksX3_init_22 1 rfl rfl)
theorem dX3_init_527 : decode cX3_init 527 = .ok (.bipush 97, 2) := dk_16 97 (dk_at dksX3_init_22 2 rfl rfl)
theorem dX3_init_529 : decode cX3_init 529 = .ok (.castore, 1) := dk_85 (dk_at dksX3_init_22 4 rfl rfl)
theorem dX3_init_530 : decode cX3_init 530 = .ok (.dup, 1) := dk_89 (dk_at dksX3_init_22 5 rfl rfl)
theorem dX3_init_531 : decode cX3_init 531 = .ok (.iconst 3, 1) := dk_6 (dk_at dksX3_init_22 6 rfl rfl)
theorem dX3_init_532 : decode cX3_init 532 = .ok (.bipush 100, 2) := dk_16 100 (dk_at dksX3_init_22 7 rfl rfl)
theorem dX3_init_534 : decode cX3_init 534 = .ok (.castore, 1) := dk_85 (dk_at dksX3_init_22 9 rfl rfl)
theorem dX3_init_535 : decode cX3_init 535 = .ok (.dup, 1) := dk_89 (dk_at dksX3_init_22 10 rfl rfl)
theorem dX3_init_536 : decode cX3_init 536 = .ok (.iconst 4, 1) := dk_7 (dk_at dksX3_init_22 11 rfl rfl)
theorem dX3_init_537 : decode cX3_init 537 = .ok (.bipush 115, 2) := dk_16 115 (dk_at dksX3_init_22 12 rfl rfl)
theorem dX3_init_539 : decode cX3_init 539 = .ok (.castore, 1) := dk_85 (dk_at dksX3_init_22 14 rfl rfl)
theorem dX3_init_540 : decode cX3_init 540 = .ok (.aastore, 1) := dk_83 (dk_at dksX3_init_22 15 rfl rfl)
theorem dX3_init_541 : decode cX3_init 541 = .ok (.dup, 1) := dk_89 (dk_at dksX3_init_22 16 rfl rfl)
theorem dX3_init_542 : decode cX3_init 542 = .ok (.bipush 18, 2) := dk_16 18 (dk_at dksX3_init_22 17 rfl rfl)
theorem dX3_init_544 : decode cX3_init 544 = .ok (.iconst 2, 1) := dk_5 (dk_at dksX3_init_22 19 rfl rfl)
theorem dX3_init_545 : decode cX3_init 545 = .ok (.newarray .char, 2) := dk_188_5 (dk_at dksX3_init_22 20 rfl rfl)
theorem dX3_init_547 : decode cX3_init 547 = .ok (.dup, 1) := dk_89 (dk_at dksX3_init_22 22 rfl rfl)
theorem dX3_init_548 : decode cX3_init 548 = .ok (.iconst 0, 1) := dk_3 (dk_at dksX3_init_22 23 rfl rfl)
theorem dX3_init_549 : decode cX3_init 549 = .ok (.bipush 105, 2) := dk_16 105 (dk_at dksX3_init_23 0 rfl rfl)
theorem dX3_init_551 : decode cX3_init 551 = .ok (.castore, 1) := dk_85 (dk_at dksX3_init_23 2 rfl rfl)
theorem dX3_init_552 : decode cX3_init 552 = .ok (.dup, 1) := dk_89 (dk_at dksX3_init_23 3 rfl rfl)
theorem dX3_init_553 : decode cX3_init 553 = .ok (.iconst 1, 1) := dk_4 (dk_at dksX3_init_23 4 rfl rfl)
theorem dX3_init_554 : decode cX3_init 554 = .ok (.bipush 102, 2) := dk_16 102 (dk_at dksX3_init_23 5 rfl rfl)
theorem dX3_init_556 : decode cX3_init 556 = .ok (.castore, 1) := dk_85 (dk_at dksX3_init_23 7 rfl rfl)
theorem dX3_init_557 : decode cX3_init 557 = .ok (.aastore, 1) := dk_83 (dk_at dksX3_init_23 8 rfl rfl)
theorem dX3_init_558 : decode cX3_init 558 = .ok (.dup, 1) := dk_89 (dk_at dksX3_init_23 9 rfl rfl)
theorem dX3_init_559 : decode cX3_init 559 = .ok (.bipush 19, 2) := dk_16 19 (dk_at dksX3_init_23 10 rfl rfl)
theorem dX3_init_561 : decode cX3_init 561 = .ok (.iconst 2, 1) := dk_5 (dk_at dksX3_init_23 12 rfl rfl)
theorem dX3_init_562 : decode cX3_init 562 = .ok (.newarray .char, 2) := dk_188_5 (dk_at dksX3_init_23 13 rfl rfl)
theorem dX3_init_564 : decode cX3_init 564 = .ok (.dup, 1) := dk_89 (dk_at dksX3_init_23 15 rfl rfl)
theorem dX3_init_565 : decode cX3_init 565 = .ok (.iconst 0, 1) := dk_3 (dk_at dksX3_init_23 16 rfl rfl)
theorem dX3_init_566 : decode cX3_init 566 = .ok (.bipush 111, 2) := dk_16 111 (dk_at dksX3_init_23 17 rfl rfl)
theorem dX3_init_568 : decode cX3_init 568 = .ok (.castore, 1) := dk_85 (dk_at dksX3_init_23 19 rfl rfl)
theorem dX3_init_569 : decode cX3_init 569 = .ok (.dup, 1) := dk_89 (dk_at dksX3_init_23 20 rfl rfl)
theorem dX3_init_570 : decode cX3_init 570 = .ok (.iconst 1, 1) := dk_4 (dk_at dksX3_init_23 21 rfl rfl)
theorem dX3_init_571 : decode cX3_init 571 = .ok (.bipush 114, 2) := dk_16 114 (dk_at dksX3_init_23 22 rfl rfl)
theorem dX3_init_573 : decode cX3_init 573 = .ok (.castore, 1) := dk_85 (dk_at dksX3_init_24 0 rfl rfl)
theorem dX3_init_574 : decode cX3_init 574 = .ok (.aastore, 1) := dk_83 (dk_at dksX3_init_24 1 rfl rfl)
theorem dX3_init_575 : decode cX3_init 575 = .ok (.dup, 1) := dk_89 (dk_at dksX3_init_24 2 rfl rfl)
theorem dX3_init_576 : decode cX3_init 576 = .ok (.bipush 20, 2) := dk_16 20 (dk_at dksX3_init_24 3 rfl rfl)
theorem dX3_init_578 : decode cX3_init 578 = .ok (.iconst 3, 1) := dk_6 (dk_at dksX3_init_24 5 rfl rfl)
theorem dX3_init_579 : decode cX3_init 579 = .ok (.newarray .char, 2) := dk_188_5 (dk_at dksX3_init_24 6 rfl rfl)
theorem dX3_init_581 : decode cX3_init 581 = .ok (.dup, 1) := dk_89 (dk_at dksX3_init_24 8 rfl rfl)
theorem dX3_init_582 : decode cX3_init 582 = .ok (.iconst 0, 1) := dk_3 (dk_at dksX3_init_24 9 rfl rfl)
theorem dX3_init_583 : decode cX3_init 583 = .ok (.bipush 97, 2) := dk_16 97 (dk_at dksX3_init_24 10 rfl rfl)
theorem dX3_init_585 : decode cX3_init 585 = .ok (.castore, 1) := dk_85 (dk_at dksX3_init_24 12 rfl rfl)
theorem dX3_init_586 : decode cX3_init 586 = .ok (.dup, 1) := dk_89 (dk_at dksX3_init_24 13 rfl rfl)
theorem dX3_init_587 : decode cX3_init 587 = .ok (.iconst 1, 1) := dk_4 (dk_at dksX3_init_24 14 rfl rfl)
theorem dX3_init_588 : decode cX3_init 588 = .ok (.bipush 110, 2) := dk_16 110 (dk_at dksX3_init_24 15 rfl rfl)
theorem dX3_init_590 : decode cX3_init 590 = .ok (.castore, 1) := dk_85 (dk_at dksX3_init_24 17 rfl rfl)
theorem dX3_init_591 : decode cX3_init 591 = .ok (.dup, 1) := dk_89 (dk_at dksX3_init_24 18 rfl rfl)
theorem dX3_init_592 : decode cX3_init 592 = .ok (.iconst 2, 1) := dk_5 (dk_at dksX3_init_24 19 rfl rfl)
theorem dX3_init_593 : decode cX3_init 593 = .ok (.bipush 100, 2) := dk_16 100 (dk_at dksX3_init_24 20 rfl rfl)
theorem dX3_init_595 : decode cX3_init 595 = .ok (.castore, 1) := dk_85 (dk_at dksX3_init_24 22 rfl rfl)
theorem dX3_init_596 : decode cX3_init 596 = .ok (.aastore, 1) := dk_83 (dk_at dksX3_init_24 23 rfl rfl)
theorem dX3_init_597 : decode cX3_init 597 = .ok (.dup, 1) := dk_89 (dk_at dksX3_init_25 0 rfl rfl)
theorem dX3_init_598 : decode cX3_init 598 = .ok (.bipush 21, 2) := dk_16 21 (dk_at dksX3_init_25 1 rfl rfl)
theorem dX3_init_600 : decode cX3_init 600 = .ok (.iconst 3, 1) := dk_6 (dk_at dksX3_init_25 3 rfl rfl)
theorem dX3_init_601 : decode cX3_init 601 = .ok (.newarray .char, 2) := dk_188_5 (dk_at dksX3_init_25 4 rfl rfl)
theorem dX3_init_603 : decode cX3_init 603 = .ok (.dup, 1) := dk_89 (dk_at dksX3_init_25 6 rfl rfl)
theorem dX3_init_604 : decode cX3_init 604 = .ok (.iconst 0, 1) := dk_3 (dk_at dksX3_init_25 7 rfl rfl)
theorem dX3_init_605 : decode cX3_init 605 = .ok (.bipush 110, 2) := dk_16 110 (dk_at dksX3_init_25 8 rfl rfl)
theorem dX3_init_607 : decode cX3_init 607 = .ok (.castore, 1) := dk_85 (dk_at dksX3_init_25 10 rfl rfl)
theorem dX3_init_608 : decode cX3_init 608 = .ok (.dup, 1) := dk_89 (dk_at dksX3_init_25 11 rfl rfl)
theorem dX3_init_609 : decode cX3_init 609 = .ok (.iconst 1, 1) := dk_4 (dk_at dksX3_init_25 12 rfl rfl)
theorem dX3_init_610 : decode cX3_init 610 = .ok (.bipush 111, 2) := dk_16 111 (dk_at dksX3_init_25 13 rfl rfl)
theorem dX3_init_612 : decode cX3_init 612 = .ok (.castore, 1) := dk_85 (dk_at dksX3_init_25 15 rfl rfl)
theorem dX3_init_613 : decode cX3_init 613 = .ok (.dup, 1) := dk_89 (dk_at dksX3_init_25 16 rfl rfl)
theorem dX3_init_614 : decode cX3_init 614 = .ok (.iconst 2, 1) := dk_5 (dk_at dksX3_init_25 17 rfl rfl)
theorem dX3_init_615 : decode cX3_init 615 = .ok (.bipush 116, 2) := dk_16 116 (dk_at dksX3_init_25 18 rfl rfl)
theorem dX3_init_617 : decode cX3_init 617 = .ok (.castore, 1) := dk_85 (dk_at dksX3_init_25 20 rfl rfl)
theorem dX3_init_618 : decode cX3_init 618 = .ok (.aastore, 1) := dk_83 (dk_at dksX3_init_25 21 rfl rfl)
theorem dX3_init_619 : decode cX3_init 619 = .ok (.dup, 1) := dk_89 (dk_at dksX3_init_25 22 rfl rfl)
theorem dX3_init_620 : decode cX3_init 620 = .ok (.bipush 22, 2) := dk_16 22 (dk_at dksX3_init_26 0 rfl rfl)
theorem dX3_init_622 : decode cX3_init 622 = .ok (.bipush 6, 2) := dk_16 6 (dk_at dksX3_init_26 2 rfl rfl)
theorem dX3_init_624 : decode cX3_init 624 = .ok (.newarray .char, 2) := dk_188_5 (dk_at dksX3_init_26 4 rfl rfl)
theorem dX3_init_626 : decode cX3_init 626 = .ok (.dup, 1) := dk_89 (dk_at dksX3_init_26 6 rfl rfl)
theorem dX3_init_627 : decode cX3_init 627 = .ok (.iconst 0, 1) := dk_3 (dk_at dksX3_init_26 7 rfl rfl)
theorem dX3_init_628 : decode cX3_init 628 = .ok (.bipush 115, 2) := dk_16 115 (dk_at dksX3_init_26 8 rfl rfl)
theorem dX3_init_630 : decode cX3_init 630 = .ok (.castore, 1) := dk_85 (dk_at dksX3_init_26 10 rfl rfl)
theorem dX3_init_631 : decode cX3_init 631 = .ok (.dup, 1) := dk_89 (dk_at dksX3_init_26 11 rfl rfl)
theorem dX3_init_632 : decode cX3_init 632 = .ok (.iconst 1, 1) := dk_4 (dk_at dksX3_init_26 12 rfl rfl)
theorem dX3_init_633 : decode cX3_init 633 = .ok (.bipush 116, 2) := dk_16 116 (dk_at dksX3_init_26 13 rfl rfl)
theorem dX3_init_635 : decode cX3_init 635 = .ok (.castore, 1) := dk_85 (dk_at dksX3_init_26 15 rfl rfl)
theorem dX3_init_636 : decode cX3_init 636 = .ok (.dup, 1) := dk_89 (dk_at dksX3_init_26 16 rfl rfl)
theorem dX3_init_637 : decode cX3_init 637 = .ok (.iconst 2, 1) := dk_5 (dk_at dksX3_init_26 17 rfl rfl)
theorem dX3_init_638 : decode cX3_init 638 = .ok (.bipush 114, 2) := dk_16 114 (dk_at dksX3_init_26 18 rfl rfl)
theorem dX3_init_640 : decode cX3_init 640 = .ok (.castore, 1) := dk_85 (dk_at dksX3_init_26 20 rfl rfl)
theorem dX3_init_641 : decode cX3_init 641 = .ok (.dup, 1) := dk_89 (dk_at dksX3_init_26 21 rfl rfl)
theorem dX3_init_642 : decode cX3_init 642 = .ok (.iconst 3, 1) := dk_6 (dk_at dksX3_init_26 22 rfl rfl)
theorem dX3_init_643 : decode cX3_init 643 = .ok (.bipush 105, 2) := dk_16 105 (dk_at dksX3_init_27 0 rfl rfl)
theorem dX3_init_645 : decode cX3_init 645 = .ok (.castore, 1) := dk_85 (dk_at dksX3_init_27 2 rfl rfl)
theorem dX3_init_646 : decode cX3_init 646 = .ok (.dup, 1) := dk_89 (dk_at dksX3_init_27 3 rfl rfl)
theorem dX3_init_647 : decode cX3_init 647 = .ok (.iconst 4, 1) := dk_7 (dk_at dksX3_init_27 4 rfl rfl)
theorem dX3_init_648 : decode cX3_init 648 = .ok (.bipush 107, 2) := dk_16 107 (dk_at dksX3_init_27 5 rfl rfl)
theorem dX3_init_650 : decode cX3_init 650 = .ok (.castore, 1) := dk_85 (dk_at dksX3_init_27 7 rfl rfl)
theorem dX3_init_651 : decode cX3_init 651 = .ok (.dup, 1) := dk_89 (dk_at dksX3_init_27 8 rfl rfl)
theorem dX3_init_652 : decode cX3_init 652 = .ok (.iconst 5, 1) := dk_8 (dk_at dksX3_init_27 9 rfl rfl)
theorem dX3_init_653 : decode cX3_init 653 = .ok (.bipush 101, 2) := dk_16 101 (dk_at dksX3_init_27 10 rfl rfl)
theorem dX3_init_655 : decode cX3_init 655 = .ok (.castore, 1) := dk_85 (dk_at dksX3_init_27 12 rfl rfl)
theorem dX3_init_656 : decode cX3_init 656 = .ok (.aastore, 1) := dk_83 (dk_at dksX3_init_27 13 rfl rfl)
theorem dX3_init_657 : decode cX3_init 657 = .ok (.putfield 24, 3) := dk_181 0 24 (dk_at dksX3_init_27 14 rfl rfl)
theorem dX3_init_660 : decode cX3_init 660 = .ok (.aload_n 0, 1) := dk_42 (dk_at dksX3_init_27 17 rfl rfl)
theorem dX3_init_661 : decode cX3_init 661 = .ok (.new 28, 3) := dk_187 0 28 (dk_at dksX3_init_27 18 rfl rfl)
theorem dX3_init_664 : decode cX3_init 664 = .ok (.dup, 1) := dk_89 (dk_at dksX3_init_27 21 rfl rfl)
theorem dX3_init_665 : decode cX3_init 665 = .ok (.invokespecial 30, 3) := dk_183 0 30 (dk_at dksX3_init_28 0 rfl rfl)
theorem dX3_init_668 : decode cX3_init 668 = .ok (.putfield 31, 3) := dk_181 0 31 (dk_at dksX3_init_28 3 rfl rfl)
theorem dX3_init_671 : decode cX3_init 671 = .ok (.return_, 1) := dk_177 (dk_at dksX3_init_28 6 rfl rfl)
abbrev cX3_read : ByteArray := prog_15_method_21_code
def yX3_read : MethodName := ⟨RX3, "read", "()LWoodState$Line;"⟩
def dkwX3_read_1 : List UInt8 := [183, 0, 30, 76, 42, 43, 182, 0, 161, 43, 176]
abbrev dktX3_read_1 : List UInt8 := dkwX3_read_1 ++ []
def dkwX3_read_0 : List UInt8 := [42, 4, 181, 0, 86, 42, 42, 180, 0, 31, 182, 0, 161, 42, 3, 181, 0, 86, 187, 0, 28, 89]
abbrev dktX3_read_0 : List UInt8 := dkwX3_read_0 ++ dktX3_read_1
theorem dksX3_read_0 : cX3_read.data.toList.drop 0 = dktX3_read_0 := by decide +kernel
theorem dksX3_read_1 : cX3_read.data.toList.drop 22 = dktX3_read_1 := dk_seg dksX3_read_0 22 rfl rfl
theorem dX3_read_0 : decode cX3_read 0 = .ok (.aload_n 0, 1) := dk_42 (dk_at dksX3_read_0 0 rfl rfl)
theorem dX3_read_1 : decode cX3_read 1 = .ok (.iconst 1, 1) := dk_4 (dk_at dksX3_read_0 1 rfl rfl)
theorem dX3_read_2 : decode cX3_read 2 = .ok (.putfield 86, 3) := dk_181 0 86 (dk_at dksX3_read_0 2 rfl rfl)
theorem dX3_read_5 : decode cX3_read 5 = .ok (.aload_n 0, 1) := dk_42 (dk_at dksX3_read_0 5 rfl rfl)
theorem dX3_read_6 : decode cX3_read 6 = .ok (.aload_n 0, 1) := dk_42 (dk_at dksX3_read_0 6 rfl rfl)
theorem dX3_read_7 : decode cX3_read 7 = .ok (.getfield 31, 3) := dk_180 0 31 (dk_at dksX3_read_0 7 rfl rfl)
theorem dX3_read_10 : decode cX3_read 10 = .ok (.invokevirtual 161, 3) := dk_182 0 161 (dk_at dksX3_read_0 10 rfl rfl)
theorem dX3_read_13 : decode cX3_read 13 = .ok (.aload_n 0, 1) := dk_42 (dk_at dksX3_read_0 13 rfl rfl)
theorem dX3_read_14 : decode cX3_read 14 = .ok (.iconst 0, 1) := dk_3 (dk_at dksX3_read_0 14 rfl rfl)
theorem dX3_read_15 : decode cX3_read 15 = .ok (.putfield 86, 3) := dk_181 0 86 (dk_at dksX3_read_0 15 rfl rfl)
theorem dX3_read_18 : decode cX3_read 18 = .ok (.new 28, 3) := dk_187 0 28 (dk_at dksX3_read_0 18 rfl rfl)
theorem dX3_read_21 : decode cX3_read 21 = .ok (.dup, 1) := dk_89 (dk_at dksX3_read_0 21 rfl rfl)
theorem dX3_read_22 : decode cX3_read 22 = .ok (.invokespecial 30, 3) := dk_183 0 30 (dk_at dksX3_read_1 0 rfl rfl)
theorem dX3_read_25 : decode cX3_read 25 = .ok (.astore_n 1, 1) := dk_76 (dk_at dksX3_read_1 3 rfl rfl)
theorem dX3_read_26 : decode cX3_read 26 = .ok (.aload_n 0, 1) := dk_42 (dk_at dksX3_read_1 4 rfl rfl)
theorem dX3_read_27 : decode cX3_read 27 = .ok (.aload_n 1, 1) := dk_43 (dk_at dksX3_read_1 5 rfl rfl)
theorem dX3_read_28 : decode cX3_read 28 = .ok (.invokevirtual 161, 3) := dk_182 0 161 (dk_at dksX3_read_1 6 rfl rfl)
theorem dX3_read_31 : decode cX3_read 31 = .ok (.aload_n 1, 1) := dk_43 (dk_at dksX3_read_1 9 rfl rfl)
theorem dX3_read_32 : decode cX3_read 32 = .ok (.areturn, 1) := dk_176 (dk_at dksX3_read_1 10 rfl rfl)
abbrev cX3_readInto : ByteArray := prog_15_method_20_code
def yX3_readInto : MethodName := ⟨RX3, "readInto", "(LWoodState$Line;)V"⟩
def dkwX3_readInto_2 : List UInt8 := [180, 0, 55, 153, 0, 8, 42, 182, 0, 49, 191, 177]
abbrev dktX3_readInto_2 : List UInt8 := dkwX3_readInto_2 ++ []
def dkwX3_readInto_1 : List UInt8 := [16, 8, 181, 0, 135, 43, 42, 182, 0, 150, 181, 0, 154, 167, 0, 8, 42, 43, 182, 0, 157, 42]
abbrev dktX3_readInto_1 : List UInt8 := dkwX3_readInto_1 ++ dktX3_readInto_2
def dkwX3_readInto_0 : List UInt8 := [42, 3, 181, 0, 52, 42, 3, 181, 0, 80, 42, 182, 0, 83, 42, 16, 22, 182, 0, 120, 153, 0, 20, 43]
abbrev dktX3_readInto_0 : List UInt8 := dkwX3_readInto_0 ++ dktX3_readInto_1
theorem dksX3_readInto_0 : cX3_readInto.data.toList.drop 0 = dktX3_readInto_0 := by decide +kernel
theorem dksX3_readInto_1 : cX3_readInto.data.toList.drop 24 = dktX3_readInto_1 := dk_seg dksX3_readInto_0 24 rfl rfl
theorem dksX3_readInto_2 : cX3_readInto.data.toList.drop 46 = dktX3_readInto_2 := dk_seg dksX3_readInto_1 22 rfl rfl
theorem dX3_readInto_0 : decode cX3_readInto 0 = .ok (.aload_n 0, 1) := dk_42 (dk_at dksX3_readInto_0 0 rfl rfl)
theorem dX3_readInto_1 : decode cX3_readInto 1 = .ok (.iconst 0, 1) := dk_3 (dk_at dksX3_readInto_0 1 rfl rfl)
theorem dX3_readInto_2 : decode cX3_readInto 2 = .ok (.putfield 52, 3) := dk_181 0 52 (dk_at dksX3_readInto_0 2 rfl rfl)
theorem dX3_readInto_5 : decode cX3_readInto 5 = .ok (.aload_n 0, 1) := dk_42 (dk_at dksX3_readInto_0 5 rfl rfl)
theorem dX3_readInto_6 : decode cX3_readInto 6 = .ok (.iconst 0, 1) := dk_3 (dk_at dksX3_readInto_0 6 rfl rfl)
theorem dX3_readInto_7 : decode cX3_readInto 7 = .ok (.putfield 80, 3) := dk_181 0 80 (dk_at dksX3_readInto_0 7 rfl rfl)
theorem dX3_readInto_10 : decode cX3_readInto 10 = .ok (.aload_n 0, 1) := dk_42 (dk_at dksX3_readInto_0 10 rfl rfl)
theorem dX3_readInto_11 : decode cX3_readInto 11 = .ok (.invokevirtual 83, 3) := dk_182 0 83 (dk_at dksX3_readInto_0 11 rfl rfl)
theorem dX3_readInto_14 : decode cX3_readInto 14 = .ok (.aload_n 0, 1) := dk_42 (dk_at dksX3_readInto_0 14 rfl rfl)
theorem dX3_readInto_15 : decode cX3_readInto 15 = .ok (.bipush 22, 2) := dk_16 22 (dk_at dksX3_readInto_0 15 rfl rfl)
theorem dX3_readInto_17 : decode cX3_readInto 17 = .ok (.invokevirtual 120, 3) := dk_182 0 120 (dk_at dksX3_readInto_0 17 rfl rfl)
theorem dX3_readInto_20 : decode cX3_readInto 20 = .ok (.ifCond .eq 20, 3) := dk_153 0 20 (dk_at dksX3_readInto_0 20 rfl rfl)
theorem dX3_readInto_23 : decode cX3_readInto 23 = .ok (.aload_n 1, 1) := dk_43 (dk_at dksX3_readInto_0 23 rfl rfl)
theorem dX3_readInto_24 : decode cX3_readInto 24 = .ok (.bipush 8, 2) := dk_16 8 (dk_at dksX3_readInto_1 0 rfl rfl)
theorem dX3_readInto_26 : decode cX3_readInto 26 = .ok (.putfield 135, 3) := dk_181 0 135 (dk_at dksX3_readInto_1 2 rfl rfl)
theorem dX3_readInto_29 : decode cX3_readInto 29 = .ok (.aload_n 1, 1) := dk_43 (dk_at dksX3_readInto_1 5 rfl rfl)
theorem dX3_readInto_30 : decode cX3_readInto 30 = .ok (.aload_n 0, 1) := dk_42 (dk_at dksX3_readInto_1 6 rfl rfl)
theorem dX3_readInto_31 : decode cX3_readInto 31 = .ok (.invokevirtual 150, 3) := dk_182 0 150 (dk_at dksX3_readInto_1 7 rfl rfl)
theorem dX3_readInto_34 : decode cX3_readInto 34 = .ok (.putfield 154, 3) := dk_181 0 154 (dk_at dksX3_readInto_1 10 rfl rfl)
theorem dX3_readInto_37 : decode cX3_readInto 37 = .ok (.goto 8, 3) := dk_167 0 8 (dk_at dksX3_readInto_1 13 rfl rfl)
theorem dX3_readInto_40 : decode cX3_readInto 40 = .ok (.aload_n 0, 1) := dk_42 (dk_at dksX3_readInto_1 16 rfl rfl)
theorem dX3_readInto_41 : decode cX3_readInto 41 = .ok (.aload_n 1, 1) := dk_43 (dk_at dksX3_readInto_1 17 rfl rfl)
theorem dX3_readInto_42 : decode cX3_readInto 42 = .ok (.invokevirtual 157, 3) := dk_182 0 157 (dk_at dksX3_readInto_1 18 rfl rfl)
theorem dX3_readInto_45 : decode cX3_readInto 45 = .ok (.aload_n 0, 1) := dk_42 (dk_at dksX3_readInto_1 21 rfl rfl)
theorem dX3_readInto_46 : decode cX3_readInto 46 = .ok (.getfield 55, 3) := dk_180 0 55 (dk_at dksX3_readInto_2 0 rfl rfl)
theorem dX3_readInto_49 : decode cX3_readInto 49 = .ok (.ifCond .eq 8, 3) := dk_153 0 8 (dk_at dksX3_readInto_2 3 rfl rfl)
theorem dX3_readInto_52 : decode cX3_readInto 52 = .ok (.aload_n 0, 1) := dk_42 (dk_at dksX3_readInto_2 6 rfl rfl)
theorem dX3_readInto_53 : decode cX3_readInto 53 = .ok (.invokevirtual 49, 3) := dk_182 0 49 (dk_at dksX3_readInto_2 7 rfl rfl)
theorem dX3_readInto_56 : decode cX3_readInto 56 = .ok (.athrow, 1) := dk_191 (dk_at dksX3_readInto_2 10 rfl rfl)
theorem dX3_readInto_57 : decode cX3_readInto 57 = .ok (.return_, 1) := dk_177 (dk_at dksX3_readInto_2 11 rfl rfl)
abbrev cX3_next : ByteArray := prog_15_method_8_code
def yX3_next : MethodName := ⟨RX3, "next", "()V"⟩
def dkwX3_next_10 : List UInt8 := [191, 42, 42, 182, 0, 76, 181, 0, 55, 42, 89, 180, 0, 52, 4, 96, 181, 0, 52, 177]
abbrev dktX3_next_10 : List UInt8 := dkwX3_next_10 ++ []
def dkwX3_next_9 : List UInt8 := [42, 16, 110, 181, 0, 55, 42, 180, 0, 52, 42, 180, 0, 35, 100, 16, 6, 164, 0, 26, 42, 182, 0, 49]
abbrev dktX3_next_9 : List UInt8 := dkwX3_next_9 ++ dktX3_next_10
def dkwX3_next_8 : List UInt8 := [100, 167, 0, 7, 42, 180, 0, 73, 181, 0, 73, 42, 89, 180, 0, 52, 4, 96, 181, 0, 52, 167, 255, 190]
abbrev dktX3_next_8 : List UInt8 := dkwX3_next_8 ++ dktX3_next_9
def dkwX3_next_7 : List UInt8 := [16, 6, 162, 0, 26, 16, 10, 42, 180, 0, 73, 104, 42, 180, 0, 9, 42, 180, 0, 52, 51, 96, 16, 48]
abbrev dktX3_next_7 : List UInt8 := dkwX3_next_7 ++ dktX3_next_8
def dkwX3_next_6 : List UInt8 := [181, 0, 73, 42, 42, 180, 0, 52, 182, 0, 70, 153, 0, 61, 42, 42, 180, 0, 52, 42, 180, 0, 35, 100]
abbrev dktX3_next_6 : List UInt8 := dkwX3_next_6 ++ dktX3_next_7
def dkwX3_next_5 : List UInt8 := [182, 0, 63, 181, 0, 67, 167, 0, 131, 42, 42, 180, 0, 52, 182, 0, 70, 153, 0, 102, 42, 3]
abbrev dktX3_next_5 : List UInt8 := dkwX3_next_5 ++ dktX3_next_6
def dkwX3_next_4 : List UInt8 := [181, 0, 52, 167, 255, 235, 42, 16, 119, 181, 0, 55, 42, 42, 42, 180, 0, 52, 42, 180, 0, 35, 100]
abbrev dktX3_next_4 : List UInt8 := dkwX3_next_4 ++ dktX3_next_5
def dkwX3_next_3 : List UInt8 := [182, 0, 59, 153, 0, 53, 42, 42, 180, 0, 52, 182, 0, 59, 153, 0, 16, 42, 89, 180, 0, 52, 4, 96]
abbrev dktX3_next_3 : List UInt8 := dkwX3_next_3 ++ dktX3_next_4
def dkwX3_next_2 : List UInt8 := [42, 180, 0, 52, 42, 180, 0, 42, 160, 0, 11, 42, 3, 181, 0, 55, 167, 0, 192, 42, 42, 180, 0, 52]
abbrev dktX3_next_2 : List UInt8 := dkwX3_next_2 ++ dktX3_next_3
def dkwX3_next_1 : List UInt8 := [160, 0, 16, 42, 89, 180, 0, 52, 4, 96, 181, 0, 52, 167, 255, 221, 42, 42, 180, 0, 52, 181, 0, 35]
abbrev dktX3_next_1 : List UInt8 := dkwX3_next_1 ++ dktX3_next_2
def dkwX3_next_0 : List UInt8 := [42, 180, 0, 52, 42, 180, 0, 42, 162, 0, 30, 42, 180, 0, 9, 42, 180, 0, 52, 51, 16, 32]
abbrev dktX3_next_0 : List UInt8 := dkwX3_next_0 ++ dktX3_next_1
theorem dksX3_next_0 : cX3_next.data.toList.drop 0 = dktX3_next_0 := by decide +kernel
theorem dksX3_next_1 : cX3_next.data.toList.drop 22 = dktX3_next_1 := dk_seg dksX3_next_0 22 rfl rfl
theorem dksX3_next_2 : cX3_next.data.toList.drop 46 = dktX3_next_2 := dk_seg dksX3_next_1 24 rfl rfl
theorem dksX3_next_3 : cX3_next.data.toList.drop 70 = dktX3_next_3 := dk_seg dksX3_next_2 24 rfl rfl
theorem dksX3_next_4 : cX3_next.data.toList.drop 94 = dktX3_next_4 := dk_seg dksX3_next_3 24 rfl rfl
theorem dksX3_next_5 : cX3_next.data.toList.drop 117 = dktX3_next_5 := dk_seg dksX3_next_4 23 rfl rfl
theorem dksX3_next_6 : cX3_next.data.toList.drop 139 = dktX3_next_6 := dk_seg dksX3_next_5 22 rfl rfl
theorem dksX3_next_7 : cX3_next.data.toList.drop 163 = dktX3_next_7 := dk_seg dksX3_next_6 24 rfl rfl
theorem dksX3_next_8 : cX3_next.data.toList.drop 187 = dktX3_next_8 := dk_seg dksX3_next_7 24 rfl rfl
theorem dksX3_next_9 : cX3_next.data.toList.drop 211 = dktX3_next_9 := dk_seg dksX3_next_8 24 rfl rfl
theorem dksX3_next_10 : cX3_next.data.toList.drop 235 = dktX3_next_10 := dk_seg dksX3_next_9 24 rfl rfl
theorem dX3_next_0 : decode cX3_next 0 = .ok (.aload_n 0, 1) := dk_42 (dk_at dksX3_next_0 0 rfl rfl)
theorem dX3_next_1 : decode cX3_next 1 = .ok (.getfield 52, 3) := dk_180 0 52 (dk_at dksX3_next_0 1 rfl rfl)
theorem dX3_next_4 : decode cX3_next 4 = .ok (.aload_n 0, 1) := dk_42 (dk_at dksX3_next_0 4 rfl rfl)
theorem dX3_next_5 : decode cX3_next 5 = .ok (.getfield 42, 3) := dk_180 0 42 (dk_at dksX3_next_0 5 rfl rfl)
theorem dX3_next_8 : decode cX3_next 8 = .ok (.if_icmp .ge 30, 3) := dk_162 0 30 (dk_at dksX3_next_0 8 rfl rfl)
theorem dX3_next_11 : decode cX3_next 11 = .ok (.aload_n 0, 1) := dk_42 (dk_at dksX3_next_0 11 rfl rfl)
theorem dX3_next_12 : decode cX3_next 12 = .ok (.getfield 9, 3) := dk_180 0 9 (dk_at dksX3_next_0 12 rfl rfl)
theorem dX3_next_15 : decode cX3_next 15 = .ok (.aload_n 0, 1) := dk_42 (dk_at dksX3_next_0 15 rfl rfl)
theorem dX3_next_16 : decode cX3_next 16 = .ok (.getfield 52, 3) := dk_180 0 52 (dk_at dksX3_next_0 16 rfl rfl)
theorem dX3_next_19 : decode cX3_next 19 = .ok (.baload, 1) := dk_51 (dk_at dksX3_next_0 19 rfl rfl)
theorem dX3_next_20 : decode cX3_next 20 = .ok (.bipush 32, 2) := dk_16 32 (dk_at dksX3_next_0 20 rfl rfl)
theorem dX3_next_22 : decode cX3_next 22 = .ok (.if_icmp .ne 16, 3) := dk_160 0 16 (dk_at dksX3_next_1 0 rfl rfl)
theorem dX3_next_25 : decode cX3_next 25 = .ok (.aload_n 0, 1) := dk_42 (dk_at dksX3_next_1 3 rfl rfl)
theorem dX3_next_26 : decode cX3_next 26 = .ok (.dup, 1) := dk_89 (dk_at dksX3_next_1 4 rfl rfl)
theorem dX3_next_27 : decode cX3_next 27 = .ok (.getfield 52, 3) := dk_180 0 52 (dk_at dksX3_next_1 5 rfl rfl)
theorem dX3_next_30 : decode cX3_next 30 = .ok (.iconst 1, 1) := dk_4 (dk_at dksX3_next_1 8 rfl rfl)
theorem dX3_next_31 : decode cX3_next 31 = .ok (.iadd, 1) := dk_96 (dk_at dksX3_next_1 9 rfl rfl)
theorem dX3_next_32 : decode cX3_next 32 = .ok (.putfield 52, 3) := dk_181 0 52 (dk_at dksX3_next_1 10 rfl rfl)
theorem dX3_next_35 : decode cX3_next 35 = .ok (.goto (-35), 3) := dk_167 255 221 (dk_at dksX3_next_1 13 rfl rfl)
theorem dX3_next_38 : decode cX3_next 38 = .ok (.aload_n 0, 1) := dk_42 (dk_at dksX3_next_1 16 rfl rfl)
theorem dX3_next_39 : decode cX3_next 39 = .ok (.aload_n 0, 1) := dk_42 (dk_at dksX3_next_1 17 rfl rfl)
theorem dX3_next_40 : decode cX3_next 40 = .ok (.getfield 52, 3) := dk_180 0 52 (dk_at dksX3_next_1 18 rfl rfl)
theorem dX3_next_43 : decode cX3_next 43 = .ok (.putfield 35, 3) := dk_181 0 35 (dk_at dksX3_next_1 21 rfl rfl)
theorem dX3_next_46 : decode cX3_next 46 = .ok (.aload_n 0, 1) := dk_42 (dk_at dksX3_next_2 0 rfl rfl)
theorem dX3_next_47 : decode cX3_next 47 = .ok (.getfield 52, 3) := dk_180 0 52 (dk_at dksX3_next_2 1 rfl rfl)
theorem dX3_next_50 : decode cX3_next 50 = .ok (.aload_n 0, 1) := dk_42 (dk_at dksX3_next_2 4 rfl rfl)
theorem dX3_next_51 : decode cX3_next 51 = .ok (.getfield 42, 3) := dk_180 0 42 (dk_at dksX3_next_2 5 rfl rfl)
theorem dX3_next_54 : decode cX3_next 54 = .ok (.if_icmp .ne 11, 3) := dk_160 0 11 (dk_at dksX3_next_2 8 rfl rfl)
theorem dX3_next_57 : decode cX3_next 57 = .ok (.aload_n 0, 1) := dk_42 (dk_at dksX3_next_2 11 rfl rfl)
theorem dX3_next_58 : decode cX3_next 58 = .ok (.iconst 0, 1) := dk_3 (dk_at dksX3_next_2 12 rfl rfl)
theorem dX3_next_59 : decode cX3_next 59 = .ok (.putfield 55, 3) := dk_181 0 55 (dk_at dksX3_next_2 13 rfl rfl)
theorem dX3_next_62 : decode cX3_next 62 = .ok (.goto 192, 3) := dk_167 0 192 (dk_at dksX3_next_2 16 rfl rfl)
theorem dX3_next_65 : decode cX3_next 65 = .ok (.aload_n 0, 1) := dk_42 (dk_at dksX3_next_2 19 rfl rfl)
theorem dX3_next_66 : decode cX3_next 66 = .ok (.aload_n 0, 1) := dk_42 (dk_at dksX3_next_2 20 rfl rfl)
theorem dX3_next_67 : decode cX3_next 67 = .ok (.getfield 52, 3) := dk_180 0 52 (dk_at dksX3_next_2 21 rfl rfl)
theorem dX3_next_70 : decode cX3_next 70 = .ok (.invokevirtual 59, 3) := dk_182 0 59 (dk_at dksX3_next_3 0 rfl rfl)
theorem dX3_next_73 : decode cX3_next 73 = .ok (.ifCond .eq 53, 3) := dk_153 0 53 (dk_at dksX3_next_3 3 rfl rfl)
theorem dX3_next_76 : decode cX3_next 76 = .ok (.aload_n 0, 1) := dk_42 (dk_at dksX3_next_3 6 rfl rfl)
theorem dX3_next_77 : decode cX3_next 77 = .ok (.aload_n 0, 1) := dk_42 (dk_at dksX3_next_3 7 rfl rfl)
theorem dX3_next_78 : decode cX3_next 78 = .ok (.getfield 52, 3) := dk_180 0 52 (dk_at dksX3_next_3 8 rfl rfl)
theorem dX3_next_81 : decode cX3_next 81 = .ok (.invokevirtual 59, 3) := dk_182 0 59 (dk_at dksX3_next_3 11 rfl rfl)
theorem dX3_next_84 : decode cX3_next 84 = .ok (.ifCond .eq 16, 3) := dk_153 0 16 (dk_at dksX3_next_3 14 rfl rfl)
theorem dX3_next_87 : decode cX3_next 87 = .ok (.aload_n 0, 1) := dk_42 (dk_at dksX3_next_3 17 rfl rfl)
theorem dX3_next_88 : decode cX3_next 88 = .ok (.dup, 1) := dk_89 (dk_at dksX3_next_3 18 rfl rfl)
theorem dX3_next_89 : decode cX3_next 89 = .ok (.getfield 52, 3) := dk_180 0 52 (dk_at dksX3_next_3 19 rfl rfl)
theorem dX3_next_92 : decode cX3_next 92 = .ok (.iconst 1, 1) := dk_4 (dk_at dksX3_next_3 22 rfl rfl)
theorem dX3_next_93 : decode cX3_next 93 = .ok (.iadd, 1) := dk_96 (dk_at dksX3_next_3 23 rfl rfl)
theorem dX3_next_94 : decode cX3_next 94 = .ok (.putfield 52, 3) := dk_181 0 52 (dk_at dksX3_next_4 0 rfl rfl)
theorem dX3_next_97 : decode cX3_next 97 = .ok (.goto (-21), 3) := dk_167 255 235 (dk_at dksX3_next_4 3 rfl rfl)
theorem dX3_next_100 : decode cX3_next 100 = .ok (.aload_n 0, 1) := dk_42 (dk_at dksX3_next_4 6 rfl rfl)
theorem dX3_next_101 : decode cX3_next 101 = .ok (.bipush 119, 2) := dk_16 119 (dk_at dksX3_next_4 7 rfl rfl)
theorem dX3_next_103 : decode cX3_next 103 = .ok (.putfield 55, 3) := dk_181 0 55 (dk_at dksX3_next_4 9 rfl rfl)
theorem dX3_next_106 : decode cX3_next 106 = .ok (.aload_n 0, 1) := dk_42 (dk_at dksX3_next_4 12 rfl rfl)
theorem dX3_next_107 : decode cX3_next 107 = .ok (.aload_n 0, 1) := dk_42 (dk_at dksX3_next_4 13 rfl rfl)
theorem dX3_next_108 : decode cX3_next 108 = .ok (.aload_n 0, 1) := dk_42 (dk_at dksX3_next_4 14 rfl rfl)
theorem dX3_next_109 : decode cX3_next 109 = .ok (.getfield 52, 3) := dk_180 0 52 (dk_at dksX3_next_4 15 rfl rfl)
theorem dX3_next_112 : decode cX3_next 112 = .ok (.aload_n 0, 1) := dk_42 (dk_at dksX3_next_4 18 rfl rfl)
theorem dX3_next_113 : decode cX3_next 113 = .ok (.getfield 35, 3) := dk_180 0 35 (dk_at dksX3_next_4 19 rfl rfl)
theorem dX3_next_116 : decode cX3_next 116 = .ok (.isub, 1) := dk_100 (dk_at dksX3_next_4 22 rfl rfl)
theorem dX3_next_117 : decode cX3_next 117 = .ok (.invokevirtual 63, 3) := dk_182 0 63 (dk_at dksX3_next_5 0 rfl rfl)
theorem dX3_next_120 : decode cX3_next 120 = .ok (.putfield 67, 3) := dk_181 0 67 (dk_at dksX3_next_5 3 rfl rfl)
theorem dX3_next_123 : decode cX3_next 123 = .ok (.goto 131, 3) := dk_167 0 131 (dk_at dksX3_next_5 6 rfl rfl)
theorem dX3_next_126 : decode cX3_next 126 = .ok (.aload_n 0, 1) := dk_42 (dk_at dksX3_next_5 9 rfl rfl)
theorem dX3_next_127 : decode cX3_next 127 = .ok (.aload_n 0, 1) := dk_42 (dk_at dksX3_next_5 10 rfl rfl)
theorem dX3_next_128 : decode cX3_next 128 = .ok (.getfield 52, 3) := dk_180 0 52 (dk_at dksX3_next_5 11 rfl rfl)
theorem dX3_next_131 : decode cX3_next 131 = .ok (.invokevirtual 70, 3) := dk_182 0 70 (dk_at dksX3_next_5 14 rfl rfl)
theorem dX3_next_134 : decode cX3_next 134 = .ok (.ifCond .eq 102, 3) := dk_153 0 102 (dk_at dksX3_next_5 17 rfl rfl)
theorem dX3_next_137 : decode cX3_next 137 = .ok (.aload_n 0, 1) := dk_42 (dk_at dksX3_next_5 20 rfl rfl)
theorem dX3_next_138 : decode cX3_next 138 = .ok (.iconst 0, 1) := dk_3 (dk_at dksX3_next_5 21 rfl rfl)
theorem dX3_next_139 : decode cX3_next 139 = .ok (.putfield 73, 3) := dk_181 0 73 (dk_at dksX3_next_6 0 rfl rfl)
theorem dX3_next_142 : decode cX3_next 142 = .ok (.aload_n 0, 1) := dk_42 (dk_at dksX3_next_6 3 rfl rfl)
theorem dX3_next_143 : decode cX3_next 143 = .ok (.aload_n 0, 1) := dk_42 (dk_at dksX3_next_6 4 rfl rfl)
theorem dX3_next_144 : decode cX3_next 144 = .ok (.getfield 52, 3) := dk_180 0 52 (dk_at dksX3_next_6 5 rfl rfl)
theorem dX3_next_147 : decode cX3_next 147 = .ok (.invokevirtual 70, 3) := dk_182 0 70 (dk_at dksX3_next_6 8 rfl rfl)
theorem dX3_next_150 : decode cX3_next 150 = .ok (.ifCond .eq 61, 3) := dk_153 0 61 (dk_at dksX3_next_6 11 rfl rfl)
theorem dX3_next_153 : decode cX3_next 153 = .ok (.aload_n 0, 1) := dk_42 (dk_at dksX3_next_6 14 rfl rfl)
theorem dX3_next_154 : decode cX3_next 154 = .ok (.aload_n 0, 1) := dk_42 (dk_at dksX3_next_6 15 rfl rfl)
theorem dX3_next_155 : decode cX3_next 155 = .ok (.getfield 52, 3) := dk_180 0 52 (dk_at dksX3_next_6 16 rfl rfl)
theorem dX3_next_158 : decode cX3_next 158 = .ok (.aload_n 0, 1) := dk_42 (dk_at dksX3_next_6 19 rfl rfl)
theorem dX3_next_159 : decode cX3_next 159 = .ok (.getfield 35, 3) := dk_180 0 35 (dk_at dksX3_next_6 20 rfl rfl)
theorem dX3_next_162 : decode cX3_next 162 = .ok (.isub, 1) := dk_100 (dk_at dksX3_next_6 23 rfl rfl)
theorem dX3_next_163 : decode cX3_next 163 = .ok (.bipush 6, 2) := dk_16 6 (dk_at dksX3_next_7 0 rfl rfl)
theorem dX3_next_165 : decode cX3_next 165 = .ok (.if_icmp .ge 26, 3) := dk_162 0 26 (dk_at dksX3_next_7 2 rfl rfl)
theorem dX3_next_168 : decode cX3_next 168 = .ok (.bipush 10, 2) := dk_16 10 (dk_at dksX3_next_7 5 rfl rfl)
theorem dX3_next_170 : decode cX3_next 170 = .ok (.aload_n 0, 1) := dk_42 (dk_at dksX3_next_7 7 rfl rfl)
theorem dX3_next_171 : decode cX3_next 171 = .ok (.getfield 73, 3) := dk_180 0 73 (dk_at dksX3_next_7 8 rfl rfl)
theorem dX3_next_174 : decode cX3_next 174 = .ok (.imul, 1) := dk_104 (dk_at dksX3_next_7 11 rfl rfl)
theorem dX3_next_175 : decode cX3_next 175 = .ok (.aload_n 0, 1) := dk_42 (dk_at dksX3_next_7 12 rfl rfl)
theorem dX3_next_176 : decode cX3_next 176 = .ok (.getfield 9, 3) := dk_180 0 9 (dk_at dksX3_next_7 13 rfl rfl)
theorem dX3_next_179 : decode cX3_next 179 = .ok (.aload_n 0, 1) := dk_42 (dk_at dksX3_next_7 16 rfl rfl)
theorem dX3_next_180 : decode cX3_next 180 = .ok (.getfield 52, 3) := dk_180 0 52 (dk_at dksX3_next_7 17 rfl rfl)
theorem dX3_next_183 : decode cX3_next 183 = .ok (.baload, 1) := dk_51 (dk_at dksX3_next_7 20 rfl rfl)
theorem dX3_next_184 : decode cX3_next 184 = .ok (.iadd, 1) := dk_96 (dk_at dksX3_next_7 21 rfl rfl)
theorem dX3_next_185 : decode cX3_next 185 = .ok (.bipush 48, 2) := dk_16 48 (dk_at dksX3_next_7 22 rfl rfl)
theorem dX3_next_187 : decode cX3_next 187 = .ok (.isub, 1) := dk_100 (dk_at dksX3_next_8 0 rfl rfl)
theorem dX3_next_188 : decode cX3_next 188 = .ok (.goto 7, 3) := dk_167 0 7 (dk_at dksX3_next_8 1 rfl rfl)
theorem dX3_next_191 : decode cX3_next 191 = .ok (.aload_n 0, 1) := dk_42 (dk_at dksX3_next_8 4 rfl rfl)
theorem dX3_next_192 : decode cX3_next 192 = .ok (.getfield 73, 3) := dk_180 0 73 (dk_at dksX3_next_8 5 rfl rfl)
theorem dX3_next_195 : decode cX3_next 195 = .ok (.putfield 73, 3) := dk_181 0 73 (dk_at dksX3_next_8 8 rfl rfl)
theorem dX3_next_198 : decode cX3_next 198 = .ok (.aload_n 0, 1) := dk_42 (dk_at dksX3_next_8 11 rfl rfl)
theorem dX3_next_199 : decode cX3_next 199 = .ok (.dup, 1) := dk_89 (dk_at dksX3_next_8 12 rfl rfl)
theorem dX3_next_200 : decode cX3_next 200 = .ok (.getfield 52, 3) := dk_180 0 52 (dk_at dksX3_next_8 13 rfl rfl)
theorem dX3_next_203 : decode cX3_next 203 = .ok (.iconst 1, 1) := dk_4 (dk_at dksX3_next_8 16 rfl rfl)
theorem dX3_next_204 : decode cX3_next 204 = .ok (.iadd, 1) := dk_96 (dk_at dksX3_next_8 17 rfl rfl)
theorem dX3_next_205 : decode cX3_next 205 = .ok (.putfield 52, 3) := dk_181 0 52 (dk_at dksX3_next_8 18 rfl rfl)
theorem dX3_next_208 : decode cX3_next 208 = .ok (.goto (-66), 3) := dk_167 255 190 (dk_at dksX3_next_8 21 rfl rfl)
theorem dX3_next_211 : decode cX3_next 211 = .ok (.aload_n 0, 1) := dk_42 (dk_at dksX3_next_9 0 rfl rfl)
theorem dX3_next_212 : decode cX3_next 212 = .ok (.bipush 110, 2) := dk_16 110 (dk_at dksX3_next_9 1 rfl rfl)
theorem dX3_next_214 : decode cX3_next 214 = .ok (.putfield 55, 3) := dk_181 0 55 (dk_at dksX3_next_9 3 rfl rfl)
theorem dX3_next_217 : decode cX3_next 217 = .ok (.aload_n 0, 1) := dk_42 (dk_at dksX3_next_9 6 rfl rfl)
theorem dX3_next_218 : decode cX3_next 218 = .ok (.getfield 52, 3) := dk_180 0 52 (dk_at dksX3_next_9 7 rfl rfl)
theorem dX3_next_221 : decode cX3_next 221 = .ok (.aload_n 0, 1) := dk_42 (dk_at dksX3_next_9 10 rfl rfl)
theorem dX3_next_222 : decode cX3_next 222 = .ok (.getfield 35, 3) := dk_180 0 35 (dk_at dksX3_next_9 11 rfl rfl)
theorem dX3_next_225 : decode cX3_next 225 = .ok (.isub, 1) := dk_100 (dk_at dksX3_next_9 14 rfl rfl)
theorem dX3_next_226 : decode cX3_next 226 = .ok (.bipush 6, 2) := dk_16 6 (dk_at dksX3_next_9 15 rfl rfl)
theorem dX3_next_228 : decode cX3_next 228 = .ok (.if_icmp .le 26, 3) := dk_164 0 26 (dk_at dksX3_next_9 17 rfl rfl)
theorem dX3_next_231 : decode cX3_next 231 = .ok (.aload_n 0, 1) := dk_42 (dk_at dksX3_next_9 20 rfl rfl)
theorem dX3_next_232 : decode cX3_next 232 = .ok (.invokevirtual 49, 3) := dk_182 0 49 (dk_at dksX3_next_9 21 rfl rfl)
theorem dX3_next_235 : decode cX3_next 235 = .ok (.athrow, 1) := dk_191 (dk_at dksX3_next_10 0 rfl rfl)
theorem dX3_next_236 : decode cX3_next 236 = .ok (.aload_n 0, 1) := dk_42 (dk_at dksX3_next_10 1 rfl rfl)
theorem dX3_next_237 : decode cX3_next 237 = .ok (.aload_n 0, 1) := dk_42 (dk_at dksX3_next_10 2 rfl rfl)
theorem dX3_next_238 : decode cX3_next 238 = .ok (.invokevirtual 76, 3) := dk_182 0 76 (dk_at dksX3_next_10 3 rfl rfl)
theorem dX3_next_241 : decode cX3_next 241 = .ok (.putfield 55, 3) := dk_181 0 55 (dk_at dksX3_next_10 6 rfl rfl)
theorem dX3_next_244 : decode cX3_next 244 = .ok (.aload_n 0, 1) := dk_42 (dk_at dksX3_next_10 9 rfl rfl)
theorem dX3_next_245 : decode cX3_next 245 = .ok (.dup, 1) := dk_89 (dk_at dksX3_next_10 10 rfl rfl)
theorem dX3_next_246 : decode cX3_next 246 = .ok (.getfield 52, 3) := dk_180 0 52 (dk_at dksX3_next_10 11 rfl rfl)
theorem dX3_next_249 : decode cX3_next 249 = .ok (.iconst 1, 1) := dk_4 (dk_at dksX3_next_10 14 rfl rfl)
theorem dX3_next_250 : decode cX3_next 250 = .ok (.iadd, 1) := dk_96 (dk_at dksX3_next_10 15 rfl rfl)
theorem dX3_next_251 : decode cX3_next 251 = .ok (.putfield 52, 3) := dk_181 0 52 (dk_at dksX3_next_10 16 rfl rfl)
theorem dX3_next_254 : decode cX3_next 254 = .ok (.return_, 1) := dk_177 (dk_at dksX3_next_10 19 rfl rfl)
abbrev cX3_isLetter : ByteArray := prog_15_method_3_code
def yX3_isLetter : MethodName := ⟨RX3, "isLetter", "(I)Z"⟩
def dkwX3_isLetter_1 : List UInt8 := [51, 16, 122, 163, 0, 7, 4, 167, 0, 4, 3, 172]
abbrev dktX3_isLetter_1 : List UInt8 := dkwX3_isLetter_1 ++ []
def dkwX3_isLetter_0 : List UInt8 := [27, 42, 180, 0, 42, 162, 0, 29, 42, 180, 0, 9, 27, 51, 16, 97, 161, 0, 18, 42, 180, 0, 9, 27]
abbrev dktX3_isLetter_0 : List UInt8 := dkwX3_isLetter_0 ++ dktX3_isLetter_1
theorem dksX3_isLetter_0 : cX3_isLetter.data.toList.drop 0 = dktX3_isLetter_0 := by decide +kernel
theorem dksX3_isLetter_1 : cX3_isLetter.data.toList.drop 24 = dktX3_isLetter_1 := dk_seg dksX3_isLetter_0 24 rfl rfl
theorem dX3_isLetter_0 : decode cX3_isLetter 0 = .ok (.iload_n 1, 1) := dk_27 (dk_at dksX3_isLetter_0 0 rfl rfl)
theorem dX3_isLetter_1 : decode cX3_isLetter 1 = .ok (.aload_n 0, 1) := dk_42 (dk_at dksX3_isLetter_0 1 rfl rfl)
theorem dX3_isLetter_2 : decode cX3_isLetter 2 = .ok (.getfield 42, 3) := dk_180 0 42 (dk_at dksX3_isLetter_0 2 rfl rfl)
theorem dX3_isLetter_5 : decode cX3_isLetter 5 = .ok (.if_icmp .ge 29, 3) := dk_162 0 29 (dk_at dksX3_isLetter_0 5 rfl rfl)
theorem dX3_isLetter_8 : decode cX3_isLetter 8 = .ok (.aload_n 0, 1) := dk_42 (dk_at dksX3_isLetter_0 8 rfl rfl)
theorem dX3_isLetter_9 : decode cX3_isLetter 9 = .ok (.getfield 9, 3) := dk_180 0 9 (dk_at dksX3_isLetter_0 9 rfl rfl)
theorem dX3_isLetter_12 : decode cX3_isLetter 12 = .ok (.iload_n 1, 1) := dk_27 (dk_at dksX3_isLetter_0 12 rfl rfl)
theorem dX3_isLetter_13 : decode cX3_isLetter 13 = .ok (.baload, 1) := dk_51 (dk_at dksX3_isLetter_0 13 rfl rfl)
theorem dX3_isLetter_14 : decode cX3_isLetter 14 = .ok (.bipush 97, 2) := dk_16 97 (dk_at dksX3_isLetter_0 14 rfl rfl)
theorem dX3_isLetter_16 : decode cX3_isLetter 16 = .ok (.if_icmp .lt 18, 3) := dk_161 0 18 (dk_at dksX3_isLetter_0 16 rfl rfl)
theorem dX3_isLetter_19 : decode cX3_isLetter 19 = .ok (.aload_n 0, 1) := dk_42 (dk_at dksX3_isLetter_0 19 rfl rfl)
theorem dX3_isLetter_20 : decode cX3_isLetter 20 = .ok (.getfield 9, 3) := dk_180 0 9 (dk_at dksX3_isLetter_0 20 rfl rfl)
theorem dX3_isLetter_23 : decode cX3_isLetter 23 = .ok (.iload_n 1, 1) := dk_27 (dk_at dksX3_isLetter_0 23 rfl rfl)
theorem dX3_isLetter_24 : decode cX3_isLetter 24 = .ok (.baload, 1) := dk_51 (dk_at dksX3_isLetter_1 0 rfl rfl)
theorem dX3_isLetter_25 : decode cX3_isLetter 25 = .ok (.bipush 122, 2) := dk_16 122 (dk_at dksX3_isLetter_1 1 rfl rfl)
theorem dX3_isLetter_27 : decode cX3_isLetter 27 = .ok (.if_icmp .gt 7, 3) := dk_163 0 7 (dk_at dksX3_isLetter_1 3 rfl rfl)
theorem dX3_isLetter_30 : decode cX3_isLetter 30 = .ok (.iconst 1, 1) := dk_4 (dk_at dksX3_isLetter_1 6 rfl rfl)
theorem dX3_isLetter_31 : decode cX3_isLetter 31 = .ok (.goto 4, 3) := dk_167 0 4 (dk_at dksX3_isLetter_1 7 rfl rfl)
theorem dX3_isLetter_34 : decode cX3_isLetter 34 = .ok (.iconst 0, 1) := dk_3 (dk_at dksX3_isLetter_1 10 rfl rfl)
theorem dX3_isLetter_35 : decode cX3_isLetter 35 = .ok (.ireturn, 1) := dk_172 (dk_at dksX3_isLetter_1 11 rfl rfl)
abbrev cX3_wordOf : ByteArray := prog_15_method_6_code
def yX3_wordOf : MethodName := ⟨RX3, "wordOf", "(I)I"⟩
def dkwX3_wordOf_1 : List UInt8 := [153, 0, 5, 28, 172, 132, 2, 1, 167, 255, 228, 42, 182, 0, 49, 191]
abbrev dktX3_wordOf_1 : List UInt8 := dkwX3_wordOf_1 ++ []
def dkwX3_wordOf_0 : List UInt8 := [3, 61, 28, 42, 180, 0, 24, 190, 162, 0, 25, 42, 42, 180, 0, 24, 28, 50, 27, 182, 0, 45]
abbrev dktX3_wordOf_0 : List UInt8 := dkwX3_wordOf_0 ++ dktX3_wordOf_1
theorem dksX3_wordOf_0 : cX3_wordOf.data.toList.drop 0 = dktX3_wordOf_0 := by decide +kernel
theorem dksX3_wordOf_1 : cX3_wordOf.data.toList.drop 22 = dktX3_wordOf_1 := dk_seg dksX3_wordOf_0 22 rfl rfl
theorem dX3_wordOf_0 : decode cX3_wordOf 0 = .ok (.iconst 0, 1) := dk_3 (dk_at dksX3_wordOf_0 0 rfl rfl)
theorem dX3_wordOf_1 : decode cX3_wordOf 1 = .ok (.istore_n 2, 1) := dk_61 (dk_at dksX3_wordOf_0 1 rfl rfl)
theorem dX3_wordOf_2 : decode cX3_wordOf 2 = .ok (.iload_n 2, 1) := dk_28 (dk_at dksX3_wordOf_0 2 rfl rfl)
theorem dX3_wordOf_3 : decode cX3_wordOf 3 = .ok (.aload_n 0, 1) := dk_42 (dk_at dksX3_wordOf_0 3 rfl rfl)
theorem dX3_wordOf_4 : decode cX3_wordOf 4 = .ok (.getfield 24, 3) := dk_180 0 24 (dk_at dksX3_wordOf_0 4 rfl rfl)
theorem dX3_wordOf_7 : decode cX3_wordOf 7 = .ok (.arraylength, 1) := dk_190 (dk_at dksX3_wordOf_0 7 rfl rfl)
theorem dX3_wordOf_8 : decode cX3_wordOf 8 = .ok (.if_icmp .ge 25, 3) := dk_162 0 25 (dk_at dksX3_wordOf_0 8 rfl rfl)
theorem dX3_wordOf_11 : decode cX3_wordOf 11 = .ok (.aload_n 0, 1) := dk_42 (dk_at dksX3_wordOf_0 11 rfl rfl)
theorem dX3_wordOf_12 : decode cX3_wordOf 12 = .ok (.aload_n 0, 1) := dk_42 (dk_at dksX3_wordOf_0 12 rfl rfl)
theorem dX3_wordOf_13 : decode cX3_wordOf 13 = .ok (.getfield 24, 3) := dk_180 0 24 (dk_at dksX3_wordOf_0 13 rfl rfl)
theorem dX3_wordOf_16 : decode cX3_wordOf 16 = .ok (.iload_n 2, 1) := dk_28 (dk_at dksX3_wordOf_0 16 rfl rfl)
theorem dX3_wordOf_17 : decode cX3_wordOf 17 = .ok (.aaload, 1) := dk_50 (dk_at dksX3_wordOf_0 17 rfl rfl)
theorem dX3_wordOf_18 : decode cX3_wordOf 18 = .ok (.iload_n 1, 1) := dk_27 (dk_at dksX3_wordOf_0 18 rfl rfl)
theorem dX3_wordOf_19 : decode cX3_wordOf 19 = .ok (.invokevirtual 45, 3) := dk_182 0 45 (dk_at dksX3_wordOf_0 19 rfl rfl)
theorem dX3_wordOf_22 : decode cX3_wordOf 22 = .ok (.ifCond .eq 5, 3) := dk_153 0 5 (dk_at dksX3_wordOf_1 0 rfl rfl)
theorem dX3_wordOf_25 : decode cX3_wordOf 25 = .ok (.iload_n 2, 1) := dk_28 (dk_at dksX3_wordOf_1 3 rfl rfl)
theorem dX3_wordOf_26 : decode cX3_wordOf 26 = .ok (.ireturn, 1) := dk_172 (dk_at dksX3_wordOf_1 4 rfl rfl)
theorem dX3_wordOf_27 : decode cX3_wordOf 27 = .ok (.iinc 2 1, 3) := dk_132 2 1 (dk_at dksX3_wordOf_1 5 rfl rfl)
theorem dX3_wordOf_30 : decode cX3_wordOf 30 = .ok (.goto (-28), 3) := dk_167 255 228 (dk_at dksX3_wordOf_1 8 rfl rfl)
theorem dX3_wordOf_33 : decode cX3_wordOf 33 = .ok (.aload_n 0, 1) := dk_42 (dk_at dksX3_wordOf_1 11 rfl rfl)
theorem dX3_wordOf_34 : decode cX3_wordOf 34 = .ok (.invokevirtual 49, 3) := dk_182 0 49 (dk_at dksX3_wordOf_1 12 rfl rfl)
theorem dX3_wordOf_37 : decode cX3_wordOf 37 = .ok (.athrow, 1) := dk_191 (dk_at dksX3_wordOf_1 15 rfl rfl)
abbrev cX3_isWord : ByteArray := prog_15_method_5_code
def yX3_isWord : MethodName := ⟨RX3, "isWord", "([CI)Z"⟩
def dkwX3_isWord_2 : List UInt8 := [167, 0, 4, 3, 62, 132, 4, 1, 167, 255, 218, 29, 172]
abbrev dktX3_isWord_2 : List UInt8 := dkwX3_isWord_2 ++ []
def dkwX3_isWord_1 : List UInt8 := [153, 0, 34, 42, 180, 0, 9, 42, 180, 0, 35, 21, 4, 96, 51, 43, 21, 4, 52, 160, 0, 7, 4]
abbrev dktX3_isWord_1 : List UInt8 := dkwX3_isWord_1 ++ dktX3_isWord_2
def dkwX3_isWord_0 : List UInt8 := [43, 190, 28, 160, 0, 7, 4, 167, 0, 4, 3, 62, 3, 54, 4, 21, 4, 28, 162, 0, 38, 29]
abbrev dktX3_isWord_0 : List UInt8 := dkwX3_isWord_0 ++ dktX3_isWord_1
theorem dksX3_isWord_0 : cX3_isWord.data.toList.drop 0 = dktX3_isWord_0 := by decide +kernel
theorem dksX3_isWord_1 : cX3_isWord.data.toList.drop 22 = dktX3_isWord_1 := dk_seg dksX3_isWord_0 22 rfl rfl
theorem dksX3_isWord_2 : cX3_isWord.data.toList.drop 45 = dktX3_isWord_2 := dk_seg dksX3_isWord_1 23 rfl rfl
theorem dX3_isWord_0 : decode cX3_isWord 0 = .ok (.aload_n 1, 1) := dk_43 (dk_at dksX3_isWord_0 0 rfl rfl)
theorem dX3_isWord_1 : decode cX3_isWord 1 = .ok (.arraylength, 1) := dk_190 (dk_at dksX3_isWord_0 1 rfl rfl)
theorem dX3_isWord_2 : decode cX3_isWord 2 = .ok (.iload_n 2, 1) := dk_28 (dk_at dksX3_isWord_0 2 rfl rfl)
theorem dX3_isWord_3 : decode cX3_isWord 3 = .ok (.if_icmp .ne 7, 3) := dk_160 0 7 (dk_at dksX3_isWord_0 3 rfl rfl)
theorem dX3_isWord_6 : decode cX3_isWord 6 = .ok (.iconst 1, 1) := dk_4 (dk_at dksX3_isWord_0 6 rfl rfl)
theorem dX3_isWord_7 : decode cX3_isWord 7 = .ok (.goto 4, 3) := dk_167 0 4 (dk_at dksX3_isWord_0 7 rfl rfl)
theorem dX3_isWord_10 : decode cX3_isWord 10 = .ok (.iconst 0, 1) := dk_3 (dk_at dksX3_isWord_0 10 rfl rfl)
theorem dX3_isWord_11 : decode cX3_isWord 11 = .ok (.istore_n 3, 1) := dk_62 (dk_at dksX3_isWord_0 11 rfl rfl)
theorem dX3_isWord_12 : decode cX3_isWord 12 = .ok (.iconst 0, 1) := dk_3 (dk_at dksX3_isWord_0 12 rfl rfl)
theorem dX3_isWord_13 : decode cX3_isWord 13 = .ok (.istore 4, 2) := dk_54 4 (dk_at dksX3_isWord_0 13 rfl rfl)
theorem dX3_isWord_15 : decode cX3_isWord 15 = .ok (.iload 4, 2) := dk_21 4 (dk_at dksX3_isWord_0 15 rfl rfl)
theorem dX3_isWord_17 : decode cX3_isWord 17 = .ok (.iload_n 2, 1) := dk_28 (dk_at dksX3_isWord_0 17 rfl rfl)
theorem dX3_isWord_18 : decode cX3_isWord 18 = .ok (.if_icmp .ge 38, 3) := dk_162 0 38 (dk_at dksX3_isWord_0 18 rfl rfl)
theorem dX3_isWord_21 : decode cX3_isWord 21 = .ok (.iload_n 3, 1) := dk_29 (dk_at dksX3_isWord_0 21 rfl rfl)
theorem dX3_isWord_22 : decode cX3_isWord 22 = .ok (.ifCond .eq 34, 3) := dk_153 0 34 (dk_at dksX3_isWord_1 0 rfl rfl)
theorem dX3_isWord_25 : decode cX3_isWord 25 = .ok (.aload_n 0, 1) := dk_42 (dk_at dksX3_isWord_1 3 rfl rfl)
theorem dX3_isWord_26 : decode cX3_isWord 26 = .ok (.getfield 9, 3) := dk_180 0 9 (dk_at dksX3_isWord_1 4 rfl rfl)
theorem dX3_isWord_29 : decode cX3_isWord 29 = .ok (.aload_n 0, 1) := dk_42 (dk_at dksX3_isWord_1 7 rfl rfl)
theorem dX3_isWord_30 : decode cX3_isWord 30 = .ok (.getfield 35, 3) := dk_180 0 35 (dk_at dksX3_isWord_1 8 rfl rfl)
theorem dX3_isWord_33 : decode cX3_isWord 33 = .ok (.iload 4, 2) := dk_21 4 (dk_at dksX3_isWord_1 11 rfl rfl)
theorem dX3_isWord_35 : decode cX3_isWord 35 = .ok (.iadd, 1) := dk_96 (dk_at dksX3_isWord_1 13 rfl rfl)
theorem dX3_isWord_36 : decode cX3_isWord 36 = .ok (.baload, 1) := dk_51 (dk_at dksX3_isWord_1 14 rfl rfl)
theorem dX3_isWord_37 : decode cX3_isWord 37 = .ok (.aload_n 1, 1) := dk_43 (dk_at dksX3_isWord_1 15 rfl rfl)
theorem dX3_isWord_38 : decode cX3_isWord 38 = .ok (.iload 4, 2) := dk_21 4 (dk_at dksX3_isWord_1 16 rfl rfl)
theorem dX3_isWord_40 : decode cX3_isWord 40 = .ok (.caload, 1) := dk_52 (dk_at dksX3_isWord_1 18 rfl rfl)
theorem dX3_isWord_41 : decode cX3_isWord 41 = .ok (.if_icmp .ne 7, 3) := dk_160 0 7 (dk_at dksX3_isWord_1 19 rfl rfl)
theorem dX3_isWord_44 : decode cX3_isWord 44 = .ok (.iconst 1, 1) := dk_4 (dk_at dksX3_isWord_1 22 rfl rfl)
theorem dX3_isWord_45 : decode cX3_isWord 45 = .ok (.goto 4, 3) := dk_167 0 4 (dk_at dksX3_isWord_2 0 rfl rfl)
theorem dX3_isWord_48 : decode cX3_isWord 48 = .ok (.iconst 0, 1) := dk_3 (dk_at dksX3_isWord_2 3 rfl rfl)
theorem dX3_isWord_49 : decode cX3_isWord 49 = .ok (.istore_n 3, 1) := dk_62 (dk_at dksX3_isWord_2 4 rfl rfl)
theorem dX3_isWord_50 : decode cX3_isWord 50 = .ok (.iinc 4 1, 3) := dk_132 4 1 (dk_at dksX3_isWord_2 5 rfl rfl)
theorem dX3_isWord_53 : decode cX3_isWord 53 = .ok (.goto (-38), 3) := dk_167 255 218 (dk_at dksX3_isWord_2 8 rfl rfl)
theorem dX3_isWord_56 : decode cX3_isWord 56 = .ok (.iload_n 3, 1) := dk_29 (dk_at dksX3_isWord_2 11 rfl rfl)
theorem dX3_isWord_57 : decode cX3_isWord 57 = .ok (.ireturn, 1) := dk_172 (dk_at dksX3_isWord_2 12 rfl rfl)
abbrev cX3_fault : ByteArray := prog_15_method_2_code
def yX3_fault : MethodName := ⟨RX3, "fault", "()LWoodState$Fault;"⟩
def dkwX3_fault_0 : List UInt8 := [42, 180, 0, 18, 42, 180, 0, 35, 181, 0, 39, 42, 180, 0, 18, 176]
abbrev dktX3_fault_0 : List UInt8 := dkwX3_fault_0 ++ []
theorem dksX3_fault_0 : cX3_fault.data.toList.drop 0 = dktX3_fault_0 := by decide +kernel
theorem dX3_fault_0 : decode cX3_fault 0 = .ok (.aload_n 0, 1) := dk_42 (dk_at dksX3_fault_0 0 rfl rfl)
theorem dX3_fault_1 : decode cX3_fault 1 = .ok (.getfield 18, 3) := dk_180 0 18 (dk_at dksX3_fault_0 1 rfl rfl)
theorem dX3_fault_4 : decode cX3_fault 4 = .ok (.aload_n 0, 1) := dk_42 (dk_at dksX3_fault_0 4 rfl rfl)
theorem dX3_fault_5 : decode cX3_fault 5 = .ok (.getfield 35, 3) := dk_180 0 35 (dk_at dksX3_fault_0 5 rfl rfl)
theorem dX3_fault_8 : decode cX3_fault 8 = .ok (.putfield 39, 3) := dk_181 0 39 (dk_at dksX3_fault_0 8 rfl rfl)
theorem dX3_fault_11 : decode cX3_fault 11 = .ok (.aload_n 0, 1) := dk_42 (dk_at dksX3_fault_0 11 rfl rfl)
theorem dX3_fault_12 : decode cX3_fault 12 = .ok (.getfield 18, 3) := dk_180 0 18 (dk_at dksX3_fault_0 12 rfl rfl)
theorem dX3_fault_15 : decode cX3_fault 15 = .ok (.areturn, 1) := dk_176 (dk_at dksX3_fault_0 15 rfl rfl)
abbrev cX3_isDigit : ByteArray := prog_15_method_4_code
def yX3_isDigit : MethodName := ⟨RX3, "isDigit", "(I)Z"⟩
def dkwX3_isDigit_1 : List UInt8 := [51, 16, 57, 163, 0, 7, 4, 167, 0, 4, 3, 172]
abbrev dktX3_isDigit_1 : List UInt8 := dkwX3_isDigit_1 ++ []
def dkwX3_isDigit_0 : List UInt8 := [27, 42, 180, 0, 42, 162, 0, 29, 42, 180, 0, 9, 27, 51, 16, 48, 161, 0, 18, 42, 180, 0, 9, 27]
abbrev dktX3_isDigit_0 : List UInt8 := dkwX3_isDigit_0 ++ dktX3_isDigit_1
theorem dksX3_isDigit_0 : cX3_isDigit.data.toList.drop 0 = dktX3_isDigit_0 := by decide +kernel
theorem dksX3_isDigit_1 : cX3_isDigit.data.toList.drop 24 = dktX3_isDigit_1 := dk_seg dksX3_isDigit_0 24 rfl rfl
theorem dX3_isDigit_0 : decode cX3_isDigit 0 = .ok (.iload_n 1, 1) := dk_27 (dk_at dksX3_isDigit_0 0 rfl rfl)
theorem dX3_isDigit_1 : decode cX3_isDigit 1 = .ok (.aload_n 0, 1) := dk_42 (dk_at dksX3_isDigit_0 1 rfl rfl)
theorem dX3_isDigit_2 : decode cX3_isDigit 2 = .ok (.getfield 42, 3) := dk_180 0 42 (dk_at dksX3_isDigit_0 2 rfl rfl)
theorem dX3_isDigit_5 : decode cX3_isDigit 5 = .ok (.if_icmp .ge 29, 3) := dk_162 0 29 (dk_at dksX3_isDigit_0 5 rfl rfl)
theorem dX3_isDigit_8 : decode cX3_isDigit 8 = .ok (.aload_n 0, 1) := dk_42 (dk_at dksX3_isDigit_0 8 rfl rfl)
theorem dX3_isDigit_9 : decode cX3_isDigit 9 = .ok (.getfield 9, 3) := dk_180 0 9 (dk_at dksX3_isDigit_0 9 rfl rfl)
theorem dX3_isDigit_12 : decode cX3_isDigit 12 = .ok (.iload_n 1, 1) := dk_27 (dk_at dksX3_isDigit_0 12 rfl rfl)
theorem dX3_isDigit_13 : decode cX3_isDigit 13 = .ok (.baload, 1) := dk_51 (dk_at dksX3_isDigit_0 13 rfl rfl)
theorem dX3_isDigit_14 : decode cX3_isDigit 14 = .ok (.bipush 48, 2) := dk_16 48 (dk_at dksX3_isDigit_0 14 rfl rfl)
theorem dX3_isDigit_16 : decode cX3_isDigit 16 = .ok (.if_icmp .lt 18, 3) := dk_161 0 18 (dk_at dksX3_isDigit_0 16 rfl rfl)
theorem dX3_isDigit_19 : decode cX3_isDigit 19 = .ok (.aload_n 0, 1) := dk_42 (dk_at dksX3_isDigit_0 19 rfl rfl)
theorem dX3_isDigit_20 : decode cX3_isDigit 20 = .ok (.getfield 9, 3) := dk_180 0 9 (dk_at dksX3_isDigit_0 20 rfl rfl)
theorem dX3_isDigit_23 : decode cX3_isDigit 23 = .ok (.iload_n 1, 1) := dk_27 (dk_at dksX3_isDigit_0 23 rfl rfl)
theorem dX3_isDigit_24 : decode cX3_isDigit 24 = .ok (.baload, 1) := dk_51 (dk_at dksX3_isDigit_1 0 rfl rfl)
theorem dX3_isDigit_25 : decode cX3_isDigit 25 = .ok (.bipush 57, 2) := dk_16 57 (dk_at dksX3_isDigit_1 1 rfl rfl)
theorem dX3_isDigit_27 : decode cX3_isDigit 27 = .ok (.if_icmp .gt 7, 3) := dk_163 0 7 (dk_at dksX3_isDigit_1 3 rfl rfl)
theorem dX3_isDigit_30 : decode cX3_isDigit 30 = .ok (.iconst 1, 1) := dk_4 (dk_at dksX3_isDigit_1 6 rfl rfl)
theorem dX3_isDigit_31 : decode cX3_isDigit 31 = .ok (.goto 4, 3) := dk_167 0 4 (dk_at dksX3_isDigit_1 7 rfl rfl)
theorem dX3_isDigit_34 : decode cX3_isDigit 34 = .ok (.iconst 0, 1) := dk_3 (dk_at dksX3_isDigit_1 10 rfl rfl)
theorem dX3_isDigit_35 : decode cX3_isDigit 35 = .ok (.ireturn, 1) := dk_172 (dk_at dksX3_isDigit_1 11 rfl rfl)
abbrev cX3_signAt : ByteArray := prog_15_method_7_code
def yX3_signAt : MethodName := ⟨RX3, "signAt", "()C"⟩
def dkwX3_signAt_3 : List UInt8 := [160, 0, 7, 4, 167, 0, 4, 3, 61, 28, 154, 0, 8, 42, 182, 0, 49, 191, 27, 172]
abbrev dktX3_signAt_3 : List UInt8 := dkwX3_signAt_3 ++ []
def dkwX3_signAt_2 : List UInt8 := [159, 0, 27, 27, 16, 37, 159, 0, 21, 27, 16, 61, 159, 0, 15, 27, 16, 60, 159, 0, 9, 27, 16, 62]
abbrev dktX3_signAt_2 : List UInt8 := dkwX3_signAt_2 ++ dktX3_signAt_3
def dkwX3_signAt_1 : List UInt8 := [159, 0, 51, 27, 16, 43, 159, 0, 45, 27, 16, 45, 159, 0, 39, 27, 16, 42, 159, 0, 33, 27, 16, 47]
abbrev dktX3_signAt_1 : List UInt8 := dkwX3_signAt_1 ++ dktX3_signAt_2
def dkwX3_signAt_0 : List UInt8 := [42, 180, 0, 9, 42, 180, 0, 52, 51, 17, 0, 255, 126, 146, 60, 27, 16, 40, 159, 0, 57, 27, 16, 41]
abbrev dktX3_signAt_0 : List UInt8 := dkwX3_signAt_0 ++ dktX3_signAt_1
theorem dksX3_signAt_0 : cX3_signAt.data.toList.drop 0 = dktX3_signAt_0 := by decide +kernel
theorem dksX3_signAt_1 : cX3_signAt.data.toList.drop 24 = dktX3_signAt_1 := dk_seg dksX3_signAt_0 24 rfl rfl
theorem dksX3_signAt_2 : cX3_signAt.data.toList.drop 48 = dktX3_signAt_2 := dk_seg dksX3_signAt_1 24 rfl rfl
theorem dksX3_signAt_3 : cX3_signAt.data.toList.drop 72 = dktX3_signAt_3 := dk_seg dksX3_signAt_2 24 rfl rfl
theorem dX3_signAt_0 : decode cX3_signAt 0 = .ok (.aload_n 0, 1) := dk_42 (dk_at dksX3_signAt_0 0 rfl rfl)
theorem dX3_signAt_1 : decode cX3_signAt 1 = .ok (.getfield 9, 3) := dk_180 0 9 (dk_at dksX3_signAt_0 1 rfl rfl)
theorem dX3_signAt_4 : decode cX3_signAt 4 = .ok (.aload_n 0, 1) := dk_42 (dk_at dksX3_signAt_0 4 rfl rfl)
theorem dX3_signAt_5 : decode cX3_signAt 5 = .ok (.getfield 52, 3) := dk_180 0 52 (dk_at dksX3_signAt_0 5 rfl rfl)
theorem dX3_signAt_8 : decode cX3_signAt 8 = .ok (.baload, 1) := dk_51 (dk_at dksX3_signAt_0 8 rfl rfl)
theorem dX3_signAt_9 : decode cX3_signAt 9 = .ok (.sipush 255, 3) := dk_17 0 255 (dk_at dksX3_signAt_0 9 rfl rfl)
theorem dX3_signAt_12 : decode cX3_signAt 12 = .ok (.iand, 1) := dk_126 (dk_at dksX3_signAt_0 12 rfl rfl)
theorem dX3_signAt_13 : decode cX3_signAt 13 = .ok (.i2c, 1) := dk_146 (dk_at dksX3_signAt_0 13 rfl rfl)
theorem dX3_signAt_14 : decode cX3_signAt 14 = .ok (.istore_n 1, 1) := dk_60 (dk_at dksX3_signAt_0 14 rfl rfl)
theorem dX3_signAt_15 : decode cX3_signAt 15 = .ok (.iload_n 1, 1) := dk_27 (dk_at dksX3_signAt_0 15 rfl rfl)
theorem dX3_signAt_16 : decode cX3_signAt 16 = .ok (.bipush 40, 2) := dk_16 40 (dk_at dksX3_signAt_0 16 rfl rfl)
theorem dX3_signAt_18 : decode cX3_signAt 18 = .ok (.if_icmp .eq 57, 3) := dk_159 0 57 (dk_at dksX3_signAt_0 18 rfl rfl)
theorem dX3_signAt_21 : decode cX3_signAt 21 = .ok (.iload_n 1, 1) := dk_27 (dk_at dksX3_signAt_0 21 rfl rfl)
theorem dX3_signAt_22 : decode cX3_signAt 22 = .ok (.bipush 41, 2) := dk_16 41 (dk_at dksX3_signAt_0 22 rfl rfl)
theorem dX3_signAt_24 : decode cX3_signAt 24 = .ok (.if_icmp .eq 51, 3) := dk_159 0 51 (dk_at dksX3_signAt_1 0 rfl rfl)
theorem dX3_signAt_27 : decode cX3_signAt 27 = .ok (.iload_n 1, 1) := dk_27 (dk_at dksX3_signAt_1 3 rfl rfl)
theorem dX3_signAt_28 : decode cX3_signAt 28 = .ok (.bipush 43, 2) := dk_16 43 (dk_at dksX3_signAt_1 4 rfl rfl)
theorem dX3_signAt_30 : decode cX3_signAt 30 = .ok (.if_icmp .eq 45, 3) := dk_159 0 45 (dk_at dksX3_signAt_1 6 rfl rfl)
theorem dX3_signAt_33 : decode cX3_signAt 33 = .ok (.iload_n 1, 1) := dk_27 (dk_at dksX3_signAt_1 9 rfl rfl)
theorem dX3_signAt_34 : decode cX3_signAt 34 = .ok (.bipush 45, 2) := dk_16 45 (dk_at dksX3_signAt_1 10 rfl rfl)
theorem dX3_signAt_36 : decode cX3_signAt 36 = .ok (.if_icmp .eq 39, 3) := dk_159 0 39 (dk_at dksX3_signAt_1 12 rfl rfl)
theorem dX3_signAt_39 : decode cX3_signAt 39 = .ok (.iload_n 1, 1) := dk_27 (dk_at dksX3_signAt_1 15 rfl rfl)
theorem dX3_signAt_40 : decode cX3_signAt 40 = .ok (.bipush 42, 2) := dk_16 42 (dk_at dksX3_signAt_1 16 rfl rfl)
theorem dX3_signAt_42 : decode cX3_signAt 42 = .ok (.if_icmp .eq 33, 3) := dk_159 0 33 (dk_at dksX3_signAt_1 18 rfl rfl)
theorem dX3_signAt_45 : decode cX3_signAt 45 = .ok (.iload_n 1, 1) := dk_27 (dk_at dksX3_signAt_1 21 rfl rfl)
theorem dX3_signAt_46 : decode cX3_signAt 46 = .ok (.bipush 47, 2) := dk_16 47 (dk_at dksX3_signAt_1 22 rfl rfl)
theorem dX3_signAt_48 : decode cX3_signAt 48 = .ok (.if_icmp .eq 27, 3) := dk_159 0 27 (dk_at dksX3_signAt_2 0 rfl rfl)
theorem dX3_signAt_51 : decode cX3_signAt 51 = .ok (.iload_n 1, 1) := dk_27 (dk_at dksX3_signAt_2 3 rfl rfl)
theorem dX3_signAt_52 : decode cX3_signAt 52 = .ok (.bipush 37, 2) := dk_16 37 (dk_at dksX3_signAt_2 4 rfl rfl)
theorem dX3_signAt_54 : decode cX3_signAt 54 = .ok (.if_icmp .eq 21, 3) := dk_159 0 21 (dk_at dksX3_signAt_2 6 rfl rfl)
theorem dX3_signAt_57 : decode cX3_signAt 57 = .ok (.iload_n 1, 1) := dk_27 (dk_at dksX3_signAt_2 9 rfl rfl)
theorem dX3_signAt_58 : decode cX3_signAt 58 = .ok (.bipush 61, 2) := dk_16 61 (dk_at dksX3_signAt_2 10 rfl rfl)
theorem dX3_signAt_60 : decode cX3_signAt 60 = .ok (.if_icmp .eq 15, 3) := dk_159 0 15 (dk_at dksX3_signAt_2 12 rfl rfl)
theorem dX3_signAt_63 : decode cX3_signAt 63 = .ok (.iload_n 1, 1) := dk_27 (dk_at dksX3_signAt_2 15 rfl rfl)
theorem dX3_signAt_64 : decode cX3_signAt 64 = .ok (.bipush 60, 2) := dk_16 60 (dk_at dksX3_signAt_2 16 rfl rfl)
theorem dX3_signAt_66 : decode cX3_signAt 66 = .ok (.if_icmp .eq 9, 3) := dk_159 0 9 (dk_at dksX3_signAt_2 18 rfl rfl)
theorem dX3_signAt_69 : decode cX3_signAt 69 = .ok (.iload_n 1, 1) := dk_27 (dk_at dksX3_signAt_2 21 rfl rfl)
theorem dX3_signAt_70 : decode cX3_signAt 70 = .ok (.bipush 62, 2) := dk_16 62 (dk_at dksX3_signAt_2 22 rfl rfl)
theorem dX3_signAt_72 : decode cX3_signAt 72 = .ok (.if_icmp .ne 7, 3) := dk_160 0 7 (dk_at dksX3_signAt_3 0 rfl rfl)
theorem dX3_signAt_75 : decode cX3_signAt 75 = .ok (.iconst 1, 1) := dk_4 (dk_at dksX3_signAt_3 3 rfl rfl)
theorem dX3_signAt_76 : decode cX3_signAt 76 = .ok (.goto 4, 3) := dk_167 0 4 (dk_at dksX3_signAt_3 4 rfl rfl)
theorem dX3_signAt_79 : decode cX3_signAt 79 = .ok (.iconst 0, 1) := dk_3 (dk_at dksX3_signAt_3 7 rfl rfl)
theorem dX3_signAt_80 : decode cX3_signAt 80 = .ok (.istore_n 2, 1) := dk_61 (dk_at dksX3_signAt_3 8 rfl rfl)
theorem dX3_signAt_81 : decode cX3_signAt 81 = .ok (.iload_n 2, 1) := dk_28 (dk_at dksX3_signAt_3 9 rfl rfl)
theorem dX3_signAt_82 : decode cX3_signAt 82 = .ok (.ifCond .ne 8, 3) := dk_154 0 8 (dk_at dksX3_signAt_3 10 rfl rfl)
theorem dX3_signAt_85 : decode cX3_signAt 85 = .ok (.aload_n 0, 1) := dk_42 (dk_at dksX3_signAt_3 13 rfl rfl)
theorem dX3_signAt_86 : decode cX3_signAt 86 = .ok (.invokevirtual 49, 3) := dk_182 0 49 (dk_at dksX3_signAt_3 14 rfl rfl)
theorem dX3_signAt_89 : decode cX3_signAt 89 = .ok (.athrow, 1) := dk_191 (dk_at dksX3_signAt_3 17 rfl rfl)
theorem dX3_signAt_90 : decode cX3_signAt 90 = .ok (.iload_n 1, 1) := dk_27 (dk_at dksX3_signAt_3 18 rfl rfl)
theorem dX3_signAt_91 : decode cX3_signAt 91 = .ok (.ireturn, 1) := dk_172 (dk_at dksX3_signAt_3 19 rfl rfl)
abbrev cX3_isWordNext : ByteArray := prog_15_method_9_code
def yX3_isWordNext : MethodName := ⟨RX3, "isWordNext", "(I)Z"⟩
def dkwX3_isWordNext_0 : List UInt8 := [42, 180, 0, 55, 16, 119, 160, 0, 15, 42, 180, 0, 67, 27, 160, 0, 7, 4, 167, 0, 4, 3, 172]
abbrev dktX3_isWordNext_0 : List UInt8 := dkwX3_isWordNext_0 ++ []
theorem dksX3_isWordNext_0 : cX3_isWordNext.data.toList.drop 0 = dktX3_isWordNext_0 := by decide +kernel
theorem dX3_isWordNext_0 : decode cX3_isWordNext 0 = .ok (.aload_n 0, 1) := dk_42 (dk_at dksX3_isWordNext_0 0 rfl rfl)
theorem dX3_isWordNext_1 : decode cX3_isWordNext 1 = .ok (.getfield 55, 3) := dk_180 0 55 (dk_at dksX3_isWordNext_0 1 rfl rfl)
theorem dX3_isWordNext_4 : decode cX3_isWordNext 4 = .ok (.bipush 119, 2) := dk_16 119 (dk_at dksX3_isWordNext_0 4 rfl rfl)
theorem dX3_isWordNext_6 : decode cX3_isWordNext 6 = .ok (.if_icmp .ne 15, 3) := dk_160 0 15 (dk_at dksX3_isWordNext_0 6 rfl rfl)
theorem dX3_isWordNext_9 : decode cX3_isWordNext 9 = .ok (.aload_n 0, 1) := dk_42 (dk_at dksX3_isWordNext_0 9 rfl rfl)
theorem dX3_isWordNext_10 : decode cX3_isWordNext 10 = .ok (.getfield 67, 3) := dk_180 0 67 (dk_at dksX3_isWordNext_0 10 rfl rfl)
theorem dX3_isWordNext_13 : decode cX3_isWordNext 13 = .ok (.iload_n 1, 1) := dk_27 (dk_at dksX3_isWordNext_0 13 rfl rfl)
theorem dX3_isWordNext_14 : decode cX3_isWordNext 14 = .ok (.if_icmp .ne 7, 3) := dk_160 0 7 (dk_at dksX3_isWordNext_0 14 rfl rfl)
theorem dX3_isWordNext_17 : decode cX3_isWordNext 17 = .ok (.iconst 1, 1) := dk_4 (dk_at dksX3_isWordNext_0 17 rfl rfl)
theorem dX3_isWordNext_18 : decode cX3_isWordNext 18 = .ok (.goto 4, 3) := dk_167 0 4 (dk_at dksX3_isWordNext_0 18 rfl rfl)
theorem dX3_isWordNext_21 : decode cX3_isWordNext 21 = .ok (.iconst 0, 1) := dk_3 (dk_at dksX3_isWordNext_0 21 rfl rfl)
theorem dX3_isWordNext_22 : decode cX3_isWordNext 22 = .ok (.ireturn, 1) := dk_172 (dk_at dksX3_isWordNext_0 22 rfl rfl)
abbrev cX3_struck : ByteArray := prog_15_method_17_code
def yX3_struck : MethodName := ⟨RX3, "struck", "()I"⟩
def dkwX3_struck_1 : List UInt8 := [182, 0, 83, 27, 172]
abbrev dktX3_struck_1 : List UInt8 := dkwX3_struck_1 ++ []
def dkwX3_struck_0 : List UInt8 := [42, 182, 0, 83, 42, 180, 0, 55, 16, 110, 159, 0, 8, 42, 182, 0, 49, 191, 42, 180, 0, 73, 60, 42]
abbrev dktX3_struck_0 : List UInt8 := dkwX3_struck_0 ++ dktX3_struck_1
theorem dksX3_struck_0 : cX3_struck.data.toList.drop 0 = dktX3_struck_0 := by decide +kernel
theorem dksX3_struck_1 : cX3_struck.data.toList.drop 24 = dktX3_struck_1 := dk_seg dksX3_struck_0 24 rfl rfl
theorem dX3_struck_0 : decode cX3_struck 0 = .ok (.aload_n 0, 1) := dk_42 (dk_at dksX3_struck_0 0 rfl rfl)
theorem dX3_struck_1 : decode cX3_struck 1 = .ok (.invokevirtual 83, 3) := dk_182 0 83 (dk_at dksX3_struck_0 1 rfl rfl)
theorem dX3_struck_4 : decode cX3_struck 4 = .ok (.aload_n 0, 1) := dk_42 (dk_at dksX3_struck_0 4 rfl rfl)
theorem dX3_struck_5 : decode cX3_struck 5 = .ok (.getfield 55, 3) := dk_180 0 55 (dk_at dksX3_struck_0 5 rfl rfl)
theorem dX3_struck_8 : decode cX3_struck 8 = .ok (.bipush 110, 2) := dk_16 110 (dk_at dksX3_struck_0 8 rfl rfl)
theorem dX3_struck_10 : decode cX3_struck 10 = .ok (.if_icmp .eq 8, 3) := dk_159 0 8 (dk_at dksX3_struck_0 10 rfl rfl)
theorem dX3_struck_13 : decode cX3_struck 13 = .ok (.aload_n 0, 1) := dk_42 (dk_at dksX3_struck_0 13 rfl rfl)
theorem dX3_struck_14 : decode cX3_struck 14 = .ok (.invokevirtual 49, 3) := dk_182 0 49 (dk_at dksX3_struck_0 14 rfl rfl)
theorem dX3_struck_17 : decode cX3_struck 17 = .ok (.athrow, 1) := dk_191 (dk_at dksX3_struck_0 17 rfl rfl)
theorem dX3_struck_18 : decode cX3_struck 18 = .ok (.aload_n 0, 1) := dk_42 (dk_at dksX3_struck_0 18 rfl rfl)
theorem dX3_struck_19 : decode cX3_struck 19 = .ok (.getfield 73, 3) := dk_180 0 73 (dk_at dksX3_struck_0 19 rfl rfl)
theorem dX3_struck_22 : decode cX3_struck 22 = .ok (.istore_n 1, 1) := dk_60 (dk_at dksX3_struck_0 22 rfl rfl)
theorem dX3_struck_23 : decode cX3_struck 23 = .ok (.aload_n 0, 1) := dk_42 (dk_at dksX3_struck_0 23 rfl rfl)
theorem dX3_struck_24 : decode cX3_struck 24 = .ok (.invokevirtual 83, 3) := dk_182 0 83 (dk_at dksX3_struck_1 0 rfl rfl)
theorem dX3_struck_27 : decode cX3_struck 27 = .ok (.iload_n 1, 1) := dk_27 (dk_at dksX3_struck_1 3 rfl rfl)
theorem dX3_struck_28 : decode cX3_struck 28 = .ok (.ireturn, 1) := dk_172 (dk_at dksX3_struck_1 4 rfl rfl)
abbrev cX3_readKey : ByteArray := prog_15_method_18_code
def yX3_readKey : MethodName := ⟨RX3, "readKey", "(LWoodState$Line;)V"⟩
def dkwX3_readKey_2 : List UInt8 := [182, 0, 120, 153, 0, 15, 42, 182, 0, 83, 43, 42, 182, 0, 110, 181, 0, 142, 177]
abbrev dktX3_readKey_2 : List UInt8 := dkwX3_readKey_2 ++ []
def dkwX3_readKey_1 : List UInt8 := [42, 180, 0, 67, 181, 0, 135, 42, 182, 0, 83, 43, 42, 182, 0, 110, 181, 0, 138, 42, 16, 18]
abbrev dktX3_readKey_1 : List UInt8 := dkwX3_readKey_1 ++ dktX3_readKey_2
def dkwX3_readKey_0 : List UInt8 := [42, 180, 0, 55, 16, 119, 160, 0, 12, 42, 180, 0, 67, 16, 8, 161, 0, 8, 42, 182, 0, 49, 191, 43]
abbrev dktX3_readKey_0 : List UInt8 := dkwX3_readKey_0 ++ dktX3_readKey_1
theorem dksX3_readKey_0 : cX3_readKey.data.toList.drop 0 = dktX3_readKey_0 := by decide +kernel
theorem dksX3_readKey_1 : cX3_readKey.data.toList.drop 24 = dktX3_readKey_1 := dk_seg dksX3_readKey_0 24 rfl rfl
theorem dksX3_readKey_2 : cX3_readKey.data.toList.drop 46 = dktX3_readKey_2 := dk_seg dksX3_readKey_1 22 rfl rfl
theorem dX3_readKey_0 : decode cX3_readKey 0 = .ok (.aload_n 0, 1) := dk_42 (dk_at dksX3_readKey_0 0 rfl rfl)
theorem dX3_readKey_1 : decode cX3_readKey 1 = .ok (.getfield 55, 3) := dk_180 0 55 (dk_at dksX3_readKey_0 1 rfl rfl)
theorem dX3_readKey_4 : decode cX3_readKey 4 = .ok (.bipush 119, 2) := dk_16 119 (dk_at dksX3_readKey_0 4 rfl rfl)
theorem dX3_readKey_6 : decode cX3_readKey 6 = .ok (.if_icmp .ne 12, 3) := dk_160 0 12 (dk_at dksX3_readKey_0 6 rfl rfl)
theorem dX3_readKey_9 : decode cX3_readKey 9 = .ok (.aload_n 0, 1) := dk_42 (dk_at dksX3_readKey_0 9 rfl rfl)
theorem dX3_readKey_10 : decode cX3_readKey 10 = .ok (.getfield 67, 3) := dk_180 0 67 (dk_at dksX3_readKey_0 10 rfl rfl)
theorem dX3_readKey_13 : decode cX3_readKey 13 = .ok (.bipush 8, 2) := dk_16 8 (dk_at dksX3_readKey_0 13 rfl rfl)
theorem dX3_readKey_15 : decode cX3_readKey 15 = .ok (.if_icmp .lt 8, 3) := dk_161 0 8 (dk_at dksX3_readKey_0 15 rfl rfl)
theorem dX3_readKey_18 : decode cX3_readKey 18 = .ok (.aload_n 0, 1) := dk_42 (dk_at dksX3_readKey_0 18 rfl rfl)
theorem dX3_readKey_19 : decode cX3_readKey 19 = .ok (.invokevirtual 49, 3) := dk_182 0 49 (dk_at dksX3_readKey_0 19 rfl rfl)
theorem dX3_readKey_22 : decode cX3_readKey 22 = .ok (.athrow, 1) := dk_191 (dk_at dksX3_readKey_0 22 rfl rfl)
theorem dX3_readKey_23 : decode cX3_readKey 23 = .ok (.aload_n 1, 1) := dk_43 (dk_at dksX3_readKey_0 23 rfl rfl)
theorem dX3_readKey_24 : decode cX3_readKey 24 = .ok (.aload_n 0, 1) := dk_42 (dk_at dksX3_readKey_1 0 rfl rfl)
theorem dX3_readKey_25 : decode cX3_readKey 25 = .ok (.getfield 67, 3) := dk_180 0 67 (dk_at dksX3_readKey_1 1 rfl rfl)
theorem dX3_readKey_28 : decode cX3_readKey 28 = .ok (.putfield 135, 3) := dk_181 0 135 (dk_at dksX3_readKey_1 4 rfl rfl)
theorem dX3_readKey_31 : decode cX3_readKey 31 = .ok (.aload_n 0, 1) := dk_42 (dk_at dksX3_readKey_1 7 rfl rfl)
theorem dX3_readKey_32 : decode cX3_readKey 32 = .ok (.invokevirtual 83, 3) := dk_182 0 83 (dk_at dksX3_readKey_1 8 rfl rfl)
theorem dX3_readKey_35 : decode cX3_readKey 35 = .ok (.aload_n 1, 1) := dk_43 (dk_at dksX3_readKey_1 11 rfl rfl)
theorem dX3_readKey_36 : decode cX3_readKey 36 = .ok (.aload_n 0, 1) := dk_42 (dk_at dksX3_readKey_1 12 rfl rfl)
theorem dX3_readKey_37 : decode cX3_readKey 37 = .ok (.invokevirtual 110, 3) := dk_182 0 110 (dk_at dksX3_readKey_1 13 rfl rfl)
theorem dX3_readKey_40 : decode cX3_readKey 40 = .ok (.putfield 138, 3) := dk_181 0 138 (dk_at dksX3_readKey_1 16 rfl rfl)
theorem dX3_readKey_43 : decode cX3_readKey 43 = .ok (.aload_n 0, 1) := dk_42 (dk_at dksX3_readKey_1 19 rfl rfl)
theorem dX3_readKey_44 : decode cX3_readKey 44 = .ok (.bipush 18, 2) := dk_16 18 (dk_at dksX3_readKey_1 20 rfl rfl)
theorem dX3_readKey_46 : decode cX3_readKey 46 = .ok (.invokevirtual 120, 3) := dk_182 0 120 (dk_at dksX3_readKey_2 0 rfl rfl)
theorem dX3_readKey_49 : decode cX3_readKey 49 = .ok (.ifCond .eq 15, 3) := dk_153 0 15 (dk_at dksX3_readKey_2 3 rfl rfl)
theorem dX3_readKey_52 : decode cX3_readKey 52 = .ok (.aload_n 0, 1) := dk_42 (dk_at dksX3_readKey_2 6 rfl rfl)
theorem dX3_readKey_53 : decode cX3_readKey 53 = .ok (.invokevirtual 83, 3) := dk_182 0 83 (dk_at dksX3_readKey_2 7 rfl rfl)
theorem dX3_readKey_56 : decode cX3_readKey 56 = .ok (.aload_n 1, 1) := dk_43 (dk_at dksX3_readKey_2 10 rfl rfl)
theorem dX3_readKey_57 : decode cX3_readKey 57 = .ok (.aload_n 0, 1) := dk_42 (dk_at dksX3_readKey_2 11 rfl rfl)
theorem dX3_readKey_58 : decode cX3_readKey 58 = .ok (.invokevirtual 110, 3) := dk_182 0 110 (dk_at dksX3_readKey_2 12 rfl rfl)
theorem dX3_readKey_61 : decode cX3_readKey 61 = .ok (.putfield 142, 3) := dk_181 0 142 (dk_at dksX3_readKey_2 15 rfl rfl)
theorem dX3_readKey_64 : decode cX3_readKey 64 = .ok (.return_, 1) := dk_177 (dk_at dksX3_readKey_2 18 rfl rfl)
abbrev cX3_all : ByteArray := prog_15_method_16_code
def yX3_all : MethodName := ⟨RX3, "all", "()LWoodState$Part;"⟩
def dkwX3_all_1 : List UInt8 := [182, 0, 132, 182, 0, 113, 76, 167, 255, 231, 43, 176]
abbrev dktX3_all_1 : List UInt8 := dkwX3_all_1 ++ []
def dkwX3_all_0 : List UInt8 := [42, 182, 0, 132, 76, 42, 16, 19, 182, 0, 120, 153, 0, 22, 42, 182, 0, 83, 42, 16, 124, 43, 42]
abbrev dktX3_all_0 : List UInt8 := dkwX3_all_0 ++ dktX3_all_1
theorem dksX3_all_0 : cX3_all.data.toList.drop 0 = dktX3_all_0 := by decide +kernel
theorem dksX3_all_1 : cX3_all.data.toList.drop 23 = dktX3_all_1 := dk_seg dksX3_all_0 23 rfl rfl
theorem dX3_all_0 : decode cX3_all 0 = .ok (.aload_n 0, 1) := dk_42 (dk_at dksX3_all_0 0 rfl rfl)
theorem dX3_all_1 : decode cX3_all 1 = .ok (.invokevirtual 132, 3) := dk_182 0 132 (dk_at dksX3_all_0 1 rfl rfl)
theorem dX3_all_4 : decode cX3_all 4 = .ok (.astore_n 1, 1) := dk_76 (dk_at dksX3_all_0 4 rfl rfl)
theorem dX3_all_5 : decode cX3_all 5 = .ok (.aload_n 0, 1) := dk_42 (dk_at dksX3_all_0 5 rfl rfl)
theorem dX3_all_6 : decode cX3_all 6 = .ok (.bipush 19, 2) := dk_16 19 (dk_at dksX3_all_0 6 rfl rfl)
theorem dX3_all_8 : decode cX3_all 8 = .ok (.invokevirtual 120, 3) := dk_182 0 120 (dk_at dksX3_all_0 8 rfl rfl)
theorem dX3_all_11 : decode cX3_all 11 = .ok (.ifCond .eq 22, 3) := dk_153 0 22 (dk_at dksX3_all_0 11 rfl rfl)
theorem dX3_all_14 : decode cX3_all 14 = .ok (.aload_n 0, 1) := dk_42 (dk_at dksX3_all_0 14 rfl rfl)
theorem dX3_all_15 : decode cX3_all 15 = .ok (.invokevirtual 83, 3) := dk_182 0 83 (dk_at dksX3_all_0 15 rfl rfl)
theorem dX3_all_18 : decode cX3_all 18 = .ok (.aload_n 0, 1) := dk_42 (dk_at dksX3_all_0 18 rfl rfl)
theorem dX3_all_19 : decode cX3_all 19 = .ok (.bipush 124, 2) := dk_16 124 (dk_at dksX3_all_0 19 rfl rfl)
theorem dX3_all_21 : decode cX3_all 21 = .ok (.aload_n 1, 1) := dk_43 (dk_at dksX3_all_0 21 rfl rfl)
theorem dX3_all_22 : decode cX3_all 22 = .ok (.aload_n 0, 1) := dk_42 (dk_at dksX3_all_0 22 rfl rfl)
theorem dX3_all_23 : decode cX3_all 23 = .ok (.invokevirtual 132, 3) := dk_182 0 132 (dk_at dksX3_all_1 0 rfl rfl)
theorem dX3_all_26 : decode cX3_all 26 = .ok (.invokevirtual 113, 3) := dk_182 0 113 (dk_at dksX3_all_1 3 rfl rfl)
theorem dX3_all_29 : decode cX3_all 29 = .ok (.astore_n 1, 1) := dk_76 (dk_at dksX3_all_1 6 rfl rfl)
theorem dX3_all_30 : decode cX3_all 30 = .ok (.goto (-25), 3) := dk_167 255 231 (dk_at dksX3_all_1 7 rfl rfl)
theorem dX3_all_33 : decode cX3_all 33 = .ok (.aload_n 1, 1) := dk_43 (dk_at dksX3_all_1 10 rfl rfl)
theorem dX3_all_34 : decode cX3_all 34 = .ok (.areturn, 1) := dk_176 (dk_at dksX3_all_1 11 rfl rfl)
abbrev cX3_both : ByteArray := prog_15_method_15_code
def yX3_both : MethodName := ⟨RX3, "both", "()LWoodState$Part;"⟩
def dkwX3_both_1 : List UInt8 := [182, 0, 123, 182, 0, 113, 76, 167, 255, 231, 43, 176]
abbrev dktX3_both_1 : List UInt8 := dkwX3_both_1 ++ []
def dkwX3_both_0 : List UInt8 := [42, 182, 0, 123, 76, 42, 16, 20, 182, 0, 120, 153, 0, 22, 42, 182, 0, 83, 42, 16, 38, 43, 42]
abbrev dktX3_both_0 : List UInt8 := dkwX3_both_0 ++ dktX3_both_1
theorem dksX3_both_0 : cX3_both.data.toList.drop 0 = dktX3_both_0 := by decide +kernel
theorem dksX3_both_1 : cX3_both.data.toList.drop 23 = dktX3_both_1 := dk_seg dksX3_both_0 23 rfl rfl
theorem dX3_both_0 : decode cX3_both 0 = .ok (.aload_n 0, 1) := dk_42 (dk_at dksX3_both_0 0 rfl rfl)
theorem dX3_both_1 : decode cX3_both 1 = .ok (.invokevirtual 123, 3) := dk_182 0 123 (dk_at dksX3_both_0 1 rfl rfl)
theorem dX3_both_4 : decode cX3_both 4 = .ok (.astore_n 1, 1) := dk_76 (dk_at dksX3_both_0 4 rfl rfl)
theorem dX3_both_5 : decode cX3_both 5 = .ok (.aload_n 0, 1) := dk_42 (dk_at dksX3_both_0 5 rfl rfl)
theorem dX3_both_6 : decode cX3_both 6 = .ok (.bipush 20, 2) := dk_16 20 (dk_at dksX3_both_0 6 rfl rfl)
theorem dX3_both_8 : decode cX3_both 8 = .ok (.invokevirtual 120, 3) := dk_182 0 120 (dk_at dksX3_both_0 8 rfl rfl)
theorem dX3_both_11 : decode cX3_both 11 = .ok (.ifCond .eq 22, 3) := dk_153 0 22 (dk_at dksX3_both_0 11 rfl rfl)
theorem dX3_both_14 : decode cX3_both 14 = .ok (.aload_n 0, 1) := dk_42 (dk_at dksX3_both_0 14 rfl rfl)
theorem dX3_both_15 : decode cX3_both 15 = .ok (.invokevirtual 83, 3) := dk_182 0 83 (dk_at dksX3_both_0 15 rfl rfl)
theorem dX3_both_18 : decode cX3_both 18 = .ok (.aload_n 0, 1) := dk_42 (dk_at dksX3_both_0 18 rfl rfl)
theorem dX3_both_19 : decode cX3_both 19 = .ok (.bipush 38, 2) := dk_16 38 (dk_at dksX3_both_0 19 rfl rfl)
theorem dX3_both_21 : decode cX3_both 21 = .ok (.aload_n 1, 1) := dk_43 (dk_at dksX3_both_0 21 rfl rfl)
theorem dX3_both_22 : decode cX3_both 22 = .ok (.aload_n 0, 1) := dk_42 (dk_at dksX3_both_0 22 rfl rfl)
theorem dX3_both_23 : decode cX3_both 23 = .ok (.invokevirtual 123, 3) := dk_182 0 123 (dk_at dksX3_both_1 0 rfl rfl)
theorem dX3_both_26 : decode cX3_both 26 = .ok (.invokevirtual 113, 3) := dk_182 0 113 (dk_at dksX3_both_1 3 rfl rfl)
theorem dX3_both_29 : decode cX3_both 29 = .ok (.astore_n 1, 1) := dk_76 (dk_at dksX3_both_1 6 rfl rfl)
theorem dX3_both_30 : decode cX3_both 30 = .ok (.goto (-25), 3) := dk_167 255 231 (dk_at dksX3_both_1 7 rfl rfl)
theorem dX3_both_33 : decode cX3_both 33 = .ok (.aload_n 1, 1) := dk_43 (dk_at dksX3_both_1 10 rfl rfl)
theorem dX3_both_34 : decode cX3_both 34 = .ok (.areturn, 1) := dk_176 (dk_at dksX3_both_1 11 rfl rfl)
abbrev cX3_not : ByteArray := prog_15_method_14_code
def yX3_not : MethodName := ⟨RX3, "not", "()LWoodState$Part;"⟩
def dkwX3_not_4 : List UInt8 := [28, 43, 42, 182, 0, 129, 182, 0, 113, 76, 43, 176]
abbrev dktX3_not_4 : List UInt8 := dkwX3_not_4 ++ []
def dkwX3_not_3 : List UInt8 := [16, 60, 159, 0, 12, 42, 180, 0, 55, 16, 62, 160, 0, 23, 42, 180, 0, 55, 61, 42, 182, 0, 83, 42]
abbrev dktX3_not_3 : List UInt8 := dkwX3_not_3 ++ dktX3_not_4
def dkwX3_not_2 : List UInt8 := [181, 0, 80, 43, 176, 42, 182, 0, 129, 76, 42, 180, 0, 55, 16, 61, 159, 0, 21, 42, 180, 0, 55]
abbrev dktX3_not_2 : List UInt8 := dkwX3_not_2 ++ dktX3_not_3
def dkwX3_not_1 : List UInt8 := [153, 0, 7, 1, 167, 0, 11, 187, 0, 126, 89, 43, 183, 0, 128, 76, 42, 89, 180, 0, 80, 4, 100]
abbrev dktX3_not_1 : List UInt8 := dkwX3_not_1 ++ dktX3_not_2
def dkwX3_not_0 : List UInt8 := [42, 16, 21, 182, 0, 120, 153, 0, 44, 42, 182, 0, 98, 42, 182, 0, 123, 76, 42, 180, 0, 86]
abbrev dktX3_not_0 : List UInt8 := dkwX3_not_0 ++ dktX3_not_1
theorem dksX3_not_0 : cX3_not.data.toList.drop 0 = dktX3_not_0 := by decide +kernel
theorem dksX3_not_1 : cX3_not.data.toList.drop 22 = dktX3_not_1 := dk_seg dksX3_not_0 22 rfl rfl
theorem dksX3_not_2 : cX3_not.data.toList.drop 45 = dktX3_not_2 := dk_seg dksX3_not_1 23 rfl rfl
theorem dksX3_not_3 : cX3_not.data.toList.drop 68 = dktX3_not_3 := dk_seg dksX3_not_2 23 rfl rfl
theorem dksX3_not_4 : cX3_not.data.toList.drop 92 = dktX3_not_4 := dk_seg dksX3_not_3 24 rfl rfl
theorem dX3_not_0 : decode cX3_not 0 = .ok (.aload_n 0, 1) := dk_42 (dk_at dksX3_not_0 0 rfl rfl)
theorem dX3_not_1 : decode cX3_not 1 = .ok (.bipush 21, 2) := dk_16 21 (dk_at dksX3_not_0 1 rfl rfl)
theorem dX3_not_3 : decode cX3_not 3 = .ok (.invokevirtual 120, 3) := dk_182 0 120 (dk_at dksX3_not_0 3 rfl rfl)
theorem dX3_not_6 : decode cX3_not 6 = .ok (.ifCond .eq 44, 3) := dk_153 0 44 (dk_at dksX3_not_0 6 rfl rfl)
theorem dX3_not_9 : decode cX3_not 9 = .ok (.aload_n 0, 1) := dk_42 (dk_at dksX3_not_0 9 rfl rfl)
theorem dX3_not_10 : decode cX3_not 10 = .ok (.invokevirtual 98, 3) := dk_182 0 98 (dk_at dksX3_not_0 10 rfl rfl)
theorem dX3_not_13 : decode cX3_not 13 = .ok (.aload_n 0, 1) := dk_42 (dk_at dksX3_not_0 13 rfl rfl)
theorem dX3_not_14 : decode cX3_not 14 = .ok (.invokevirtual 123, 3) := dk_182 0 123 (dk_at dksX3_not_0 14 rfl rfl)
theorem dX3_not_17 : decode cX3_not 17 = .ok (.astore_n 1, 1) := dk_76 (dk_at dksX3_not_0 17 rfl rfl)
theorem dX3_not_18 : decode cX3_not 18 = .ok (.aload_n 0, 1) := dk_42 (dk_at dksX3_not_0 18 rfl rfl)
theorem dX3_not_19 : decode cX3_not 19 = .ok (.getfield 86, 3) := dk_180 0 86 (dk_at dksX3_not_0 19 rfl rfl)
theorem dX3_not_22 : decode cX3_not 22 = .ok (.ifCond .eq 7, 3) := dk_153 0 7 (dk_at dksX3_not_1 0 rfl rfl)
theorem dX3_not_25 : decode cX3_not 25 = .ok (.aconst_null, 1) := dk_1 (dk_at dksX3_not_1 3 rfl rfl)
theorem dX3_not_26 : decode cX3_not 26 = .ok (.goto 11, 3) := dk_167 0 11 (dk_at dksX3_not_1 4 rfl rfl)
theorem dX3_not_29 : decode cX3_not 29 = .ok (.new 126, 3) := dk_187 0 126 (dk_at dksX3_not_1 7 rfl rfl)
theorem dX3_not_32 : decode cX3_not 32 = .ok (.dup, 1) := dk_89 (dk_at dksX3_not_1 10 rfl rfl)
theorem dX3_not_33 : decode cX3_not 33 = .ok (.aload_n 1, 1) := dk_43 (dk_at dksX3_not_1 11 rfl rfl)
theorem dX3_not_34 : decode cX3_not 34 = .ok (.invokespecial 128, 3) := dk_183 0 128 (dk_at dksX3_not_1 12 rfl rfl)
theorem dX3_not_37 : decode cX3_not 37 = .ok (.astore_n 1, 1) := dk_76 (dk_at dksX3_not_1 15 rfl rfl)
theorem dX3_not_38 : decode cX3_not 38 = .ok (.aload_n 0, 1) := dk_42 (dk_at dksX3_not_1 16 rfl rfl)
theorem dX3_not_39 : decode cX3_not 39 = .ok (.dup, 1) := dk_89 (dk_at dksX3_not_1 17 rfl rfl)
theorem dX3_not_40 : decode cX3_not 40 = .ok (.getfield 80, 3) := dk_180 0 80 (dk_at dksX3_not_1 18 rfl rfl)
theorem dX3_not_43 : decode cX3_not 43 = .ok (.iconst 1, 1) := dk_4 (dk_at dksX3_not_1 21 rfl rfl)
theorem dX3_not_44 : decode cX3_not 44 = .ok (.isub, 1) := dk_100 (dk_at dksX3_not_1 22 rfl rfl)
theorem dX3_not_45 : decode cX3_not 45 = .ok (.putfield 80, 3) := dk_181 0 80 (dk_at dksX3_not_2 0 rfl rfl)
theorem dX3_not_48 : decode cX3_not 48 = .ok (.aload_n 1, 1) := dk_43 (dk_at dksX3_not_2 3 rfl rfl)
theorem dX3_not_49 : decode cX3_not 49 = .ok (.areturn, 1) := dk_176 (dk_at dksX3_not_2 4 rfl rfl)
theorem dX3_not_50 : decode cX3_not 50 = .ok (.aload_n 0, 1) := dk_42 (dk_at dksX3_not_2 5 rfl rfl)
theorem dX3_not_51 : decode cX3_not 51 = .ok (.invokevirtual 129, 3) := dk_182 0 129 (dk_at dksX3_not_2 6 rfl rfl)
theorem dX3_not_54 : decode cX3_not 54 = .ok (.astore_n 1, 1) := dk_76 (dk_at dksX3_not_2 9 rfl rfl)
theorem dX3_not_55 : decode cX3_not 55 = .ok (.aload_n 0, 1) := dk_42 (dk_at dksX3_not_2 10 rfl rfl)
theorem dX3_not_56 : decode cX3_not 56 = .ok (.getfield 55, 3) := dk_180 0 55 (dk_at dksX3_not_2 11 rfl rfl)
theorem dX3_not_59 : decode cX3_not 59 = .ok (.bipush 61, 2) := dk_16 61 (dk_at dksX3_not_2 14 rfl rfl)
theorem dX3_not_61 : decode cX3_not 61 = .ok (.if_icmp .eq 21, 3) := dk_159 0 21 (dk_at dksX3_not_2 16 rfl rfl)
theorem dX3_not_64 : decode cX3_not 64 = .ok (.aload_n 0, 1) := dk_42 (dk_at dksX3_not_2 19 rfl rfl)
theorem dX3_not_65 : decode cX3_not 65 = .ok (.getfield 55, 3) := dk_180 0 55 (dk_at dksX3_not_2 20 rfl rfl)
theorem dX3_not_68 : decode cX3_not 68 = .ok (.bipush 60, 2) := dk_16 60 (dk_at dksX3_not_3 0 rfl rfl)
theorem dX3_not_70 : decode cX3_not 70 = .ok (.if_icmp .eq 12, 3) := dk_159 0 12 (dk_at dksX3_not_3 2 rfl rfl)
theorem dX3_not_73 : decode cX3_not 73 = .ok (.aload_n 0, 1) := dk_42 (dk_at dksX3_not_3 5 rfl rfl)
theorem dX3_not_74 : decode cX3_not 74 = .ok (.getfield 55, 3) := dk_180 0 55 (dk_at dksX3_not_3 6 rfl rfl)
theorem dX3_not_77 : decode cX3_not 77 = .ok (.bipush 62, 2) := dk_16 62 (dk_at dksX3_not_3 9 rfl rfl)
theorem dX3_not_79 : decode cX3_not 79 = .ok (.if_icmp .ne 23, 3) := dk_160 0 23 (dk_at dksX3_not_3 11 rfl rfl)
theorem dX3_not_82 : decode cX3_not 82 = .ok (.aload_n 0, 1) := dk_42 (dk_at dksX3_not_3 14 rfl rfl)
theorem dX3_not_83 : decode cX3_not 83 = .ok (.getfield 55, 3) := dk_180 0 55 (dk_at dksX3_not_3 15 rfl rfl)
theorem dX3_not_86 : decode cX3_not 86 = .ok (.istore_n 2, 1) := dk_61 (dk_at dksX3_not_3 18 rfl rfl)
theorem dX3_not_87 : decode cX3_not 87 = .ok (.aload_n 0, 1) := dk_42 (dk_at dksX3_not_3 19 rfl rfl)
theorem dX3_not_88 : decode cX3_not 88 = .ok (.invokevirtual 83, 3) := dk_182 0 83 (dk_at dksX3_not_3 20 rfl rfl)
theorem dX3_not_91 : decode cX3_not 91 = .ok (.aload_n 0, 1) := dk_42 (dk_at dksX3_not_3 23 rfl rfl)
theorem dX3_not_92 : decode cX3_not 92 = .ok (.iload_n 2, 1) := dk_28 (dk_at dksX3_not_4 0 rfl rfl)
theorem dX3_not_93 : decode cX3_not 93 = .ok (.aload_n 1, 1) := dk_43 (dk_at dksX3_not_4 1 rfl rfl)
theorem dX3_not_94 : decode cX3_not 94 = .ok (.aload_n 0, 1) := dk_42 (dk_at dksX3_not_4 2 rfl rfl)
theorem dX3_not_95 : decode cX3_not 95 = .ok (.invokevirtual 129, 3) := dk_182 0 129 (dk_at dksX3_not_4 3 rfl rfl)
theorem dX3_not_98 : decode cX3_not 98 = .ok (.invokevirtual 113, 3) := dk_182 0 113 (dk_at dksX3_not_4 6 rfl rfl)
theorem dX3_not_101 : decode cX3_not 101 = .ok (.astore_n 1, 1) := dk_76 (dk_at dksX3_not_4 9 rfl rfl)
theorem dX3_not_102 : decode cX3_not 102 = .ok (.aload_n 1, 1) := dk_43 (dk_at dksX3_not_4 10 rfl rfl)
theorem dX3_not_103 : decode cX3_not 103 = .ok (.areturn, 1) := dk_176 (dk_at dksX3_not_4 11 rfl rfl)
abbrev cX3_openOne : ByteArray := prog_15_method_10_code
def yX3_openOne : MethodName := ⟨RX3, "openOne", "()V"⟩
def dkwX3_openOne_1 : List UInt8 := [42, 182, 0, 83, 177]
abbrev dktX3_openOne_1 : List UInt8 := dkwX3_openOne_1 ++ []
def dkwX3_openOne_0 : List UInt8 := [42, 180, 0, 80, 16, 6, 160, 0, 8, 42, 182, 0, 49, 191, 42, 89, 180, 0, 80, 4, 96, 181, 0, 80]
abbrev dktX3_openOne_0 : List UInt8 := dkwX3_openOne_0 ++ dktX3_openOne_1
theorem dksX3_openOne_0 : cX3_openOne.data.toList.drop 0 = dktX3_openOne_0 := by decide +kernel
theorem dksX3_openOne_1 : cX3_openOne.data.toList.drop 24 = dktX3_openOne_1 := dk_seg dksX3_openOne_0 24 rfl rfl
theorem dX3_openOne_0 : decode cX3_openOne 0 = .ok (.aload_n 0, 1) := dk_42 (dk_at dksX3_openOne_0 0 rfl rfl)
theorem dX3_openOne_1 : decode cX3_openOne 1 = .ok (.getfield 80, 3) := dk_180 0 80 (dk_at dksX3_openOne_0 1 rfl rfl)
theorem dX3_openOne_4 : decode cX3_openOne 4 = .ok (.bipush 6, 2) := dk_16 6 (dk_at dksX3_openOne_0 4 rfl rfl)
theorem dX3_openOne_6 : decode cX3_openOne 6 = .ok (.if_icmp .ne 8, 3) := dk_160 0 8 (dk_at dksX3_openOne_0 6 rfl rfl)
theorem dX3_openOne_9 : decode cX3_openOne 9 = .ok (.aload_n 0, 1) := dk_42 (dk_at dksX3_openOne_0 9 rfl rfl)
theorem dX3_openOne_10 : decode cX3_openOne 10 = .ok (.invokevirtual 49, 3) := dk_182 0 49 (dk_at dksX3_openOne_0 10 rfl rfl)
theorem dX3_openOne_13 : decode cX3_openOne 13 = .ok (.athrow, 1) := dk_191 (dk_at dksX3_openOne_0 13 rfl rfl)
theorem dX3_openOne_14 : decode cX3_openOne 14 = .ok (.aload_n 0, 1) := dk_42 (dk_at dksX3_openOne_0 14 rfl rfl)
theorem dX3_openOne_15 : decode cX3_openOne 15 = .ok (.dup, 1) := dk_89 (dk_at dksX3_openOne_0 15 rfl rfl)
theorem dX3_openOne_16 : decode cX3_openOne 16 = .ok (.getfield 80, 3) := dk_180 0 80 (dk_at dksX3_openOne_0 16 rfl rfl)
theorem dX3_openOne_19 : decode cX3_openOne 19 = .ok (.iconst 1, 1) := dk_4 (dk_at dksX3_openOne_0 19 rfl rfl)
theorem dX3_openOne_20 : decode cX3_openOne 20 = .ok (.iadd, 1) := dk_96 (dk_at dksX3_openOne_0 20 rfl rfl)
theorem dX3_openOne_21 : decode cX3_openOne 21 = .ok (.putfield 80, 3) := dk_181 0 80 (dk_at dksX3_openOne_0 21 rfl rfl)
theorem dX3_openOne_24 : decode cX3_openOne 24 = .ok (.aload_n 0, 1) := dk_42 (dk_at dksX3_openOne_1 0 rfl rfl)
theorem dX3_openOne_25 : decode cX3_openOne 25 = .ok (.invokevirtual 83, 3) := dk_182 0 83 (dk_at dksX3_openOne_1 1 rfl rfl)
theorem dX3_openOne_28 : decode cX3_openOne 28 = .ok (.return_, 1) := dk_177 (dk_at dksX3_openOne_1 4 rfl rfl)
abbrev cX3_sum : ByteArray := prog_15_method_13_code
def yX3_sum : MethodName := ⟨RX3, "sum", "()LWoodState$Part;"⟩
def dkwX3_sum_1 : List UInt8 := [180, 0, 55, 61, 42, 182, 0, 83, 42, 28, 43, 42, 182, 0, 117, 182, 0, 113, 76, 167, 255, 218, 43, 176]
abbrev dktX3_sum_1 : List UInt8 := dkwX3_sum_1 ++ []
def dkwX3_sum_0 : List UInt8 := [42, 182, 0, 117, 76, 42, 180, 0, 55, 16, 43, 159, 0, 12, 42, 180, 0, 55, 16, 45, 160, 0, 26, 42]
abbrev dktX3_sum_0 : List UInt8 := dkwX3_sum_0 ++ dktX3_sum_1
theorem dksX3_sum_0 : cX3_sum.data.toList.drop 0 = dktX3_sum_0 := by decide +kernel
theorem dksX3_sum_1 : cX3_sum.data.toList.drop 24 = dktX3_sum_1 := dk_seg dksX3_sum_0 24 rfl rfl
theorem dX3_sum_0 : decode cX3_sum 0 = .ok (.aload_n 0, 1) := dk_42 (dk_at dksX3_sum_0 0 rfl rfl)
theorem dX3_sum_1 : decode cX3_sum 1 = .ok (.invokevirtual 117, 3) := dk_182 0 117 (dk_at dksX3_sum_0 1 rfl rfl)
theorem dX3_sum_4 : decode cX3_sum 4 = .ok (.astore_n 1, 1) := dk_76 (dk_at dksX3_sum_0 4 rfl rfl)
theorem dX3_sum_5 : decode cX3_sum 5 = .ok (.aload_n 0, 1) := dk_42 (dk_at dksX3_sum_0 5 rfl rfl)
theorem dX3_sum_6 : decode cX3_sum 6 = .ok (.getfield 55, 3) := dk_180 0 55 (dk_at dksX3_sum_0 6 rfl rfl)
theorem dX3_sum_9 : decode cX3_sum 9 = .ok (.bipush 43, 2) := dk_16 43 (dk_at dksX3_sum_0 9 rfl rfl)
theorem dX3_sum_11 : decode cX3_sum 11 = .ok (.if_icmp .eq 12, 3) := dk_159 0 12 (dk_at dksX3_sum_0 11 rfl rfl)
theorem dX3_sum_14 : decode cX3_sum 14 = .ok (.aload_n 0, 1) := dk_42 (dk_at dksX3_sum_0 14 rfl rfl)
theorem dX3_sum_15 : decode cX3_sum 15 = .ok (.getfield 55, 3) := dk_180 0 55 (dk_at dksX3_sum_0 15 rfl rfl)
theorem dX3_sum_18 : decode cX3_sum 18 = .ok (.bipush 45, 2) := dk_16 45 (dk_at dksX3_sum_0 18 rfl rfl)
theorem dX3_sum_20 : decode cX3_sum 20 = .ok (.if_icmp .ne 26, 3) := dk_160 0 26 (dk_at dksX3_sum_0 20 rfl rfl)
theorem dX3_sum_23 : decode cX3_sum 23 = .ok (.aload_n 0, 1) := dk_42 (dk_at dksX3_sum_0 23 rfl rfl)
theorem dX3_sum_24 : decode cX3_sum 24 = .ok (.getfield 55, 3) := dk_180 0 55 (dk_at dksX3_sum_1 0 rfl rfl)
theorem dX3_sum_27 : decode cX3_sum 27 = .ok (.istore_n 2, 1) := dk_61 (dk_at dksX3_sum_1 3 rfl rfl)
theorem dX3_sum_28 : decode cX3_sum 28 = .ok (.aload_n 0, 1) := dk_42 (dk_at dksX3_sum_1 4 rfl rfl)
theorem dX3_sum_29 : decode cX3_sum 29 = .ok (.invokevirtual 83, 3) := dk_182 0 83 (dk_at dksX3_sum_1 5 rfl rfl)
theorem dX3_sum_32 : decode cX3_sum 32 = .ok (.aload_n 0, 1) := dk_42 (dk_at dksX3_sum_1 8 rfl rfl)
theorem dX3_sum_33 : decode cX3_sum 33 = .ok (.iload_n 2, 1) := dk_28 (dk_at dksX3_sum_1 9 rfl rfl)
theorem dX3_sum_34 : decode cX3_sum 34 = .ok (.aload_n 1, 1) := dk_43 (dk_at dksX3_sum_1 10 rfl rfl)
theorem dX3_sum_35 : decode cX3_sum 35 = .ok (.aload_n 0, 1) := dk_42 (dk_at dksX3_sum_1 11 rfl rfl)
theorem dX3_sum_36 : decode cX3_sum 36 = .ok (.invokevirtual 117, 3) := dk_182 0 117 (dk_at dksX3_sum_1 12 rfl rfl)
theorem dX3_sum_39 : decode cX3_sum 39 = .ok (.invokevirtual 113, 3) := dk_182 0 113 (dk_at dksX3_sum_1 15 rfl rfl)
theorem dX3_sum_42 : decode cX3_sum 42 = .ok (.astore_n 1, 1) := dk_76 (dk_at dksX3_sum_1 18 rfl rfl)
theorem dX3_sum_43 : decode cX3_sum 43 = .ok (.goto (-38), 3) := dk_167 255 218 (dk_at dksX3_sum_1 19 rfl rfl)
theorem dX3_sum_46 : decode cX3_sum 46 = .ok (.aload_n 1, 1) := dk_43 (dk_at dksX3_sum_1 22 rfl rfl)
theorem dX3_sum_47 : decode cX3_sum 47 = .ok (.areturn, 1) := dk_176 (dk_at dksX3_sum_1 23 rfl rfl)
abbrev cX3_term : ByteArray := prog_15_method_12_code
def yX3_term : MethodName := ⟨RX3, "term", "()LWoodState$Part;"⟩
def dkwX3_term_2 : List UInt8 := [182, 0, 113, 76, 167, 255, 209, 43, 176]
abbrev dktX3_term_2 : List UInt8 := dkwX3_term_2 ++ []
def dkwX3_term_1 : List UInt8 := [180, 0, 55, 16, 37, 160, 0, 26, 42, 180, 0, 55, 61, 42, 182, 0, 83, 42, 28, 43, 42, 182, 0, 101]
abbrev dktX3_term_1 : List UInt8 := dkwX3_term_1 ++ dktX3_term_2
def dkwX3_term_0 : List UInt8 := [42, 182, 0, 101, 76, 42, 180, 0, 55, 16, 42, 159, 0, 21, 42, 180, 0, 55, 16, 47, 159, 0, 12, 42]
abbrev dktX3_term_0 : List UInt8 := dkwX3_term_0 ++ dktX3_term_1
theorem dksX3_term_0 : cX3_term.data.toList.drop 0 = dktX3_term_0 := by decide +kernel
theorem dksX3_term_1 : cX3_term.data.toList.drop 24 = dktX3_term_1 := dk_seg dksX3_term_0 24 rfl rfl
theorem dksX3_term_2 : cX3_term.data.toList.drop 48 = dktX3_term_2 := dk_seg dksX3_term_1 24 rfl rfl
theorem dX3_term_0 : decode cX3_term 0 = .ok (.aload_n 0, 1) := dk_42 (dk_at dksX3_term_0 0 rfl rfl)
theorem dX3_term_1 : decode cX3_term 1 = .ok (.invokevirtual 101, 3) := dk_182 0 101 (dk_at dksX3_term_0 1 rfl rfl)
theorem dX3_term_4 : decode cX3_term 4 = .ok (.astore_n 1, 1) := dk_76 (dk_at dksX3_term_0 4 rfl rfl)
theorem dX3_term_5 : decode cX3_term 5 = .ok (.aload_n 0, 1) := dk_42 (dk_at dksX3_term_0 5 rfl rfl)
theorem dX3_term_6 : decode cX3_term 6 = .ok (.getfield 55, 3) := dk_180 0 55 (dk_at dksX3_term_0 6 rfl rfl)
theorem dX3_term_9 : decode cX3_term 9 = .ok (.bipush 42, 2) := dk_16 42 (dk_at dksX3_term_0 9 rfl rfl)
theorem dX3_term_11 : decode cX3_term 11 = .ok (.if_icmp .eq 21, 3) := dk_159 0 21 (dk_at dksX3_term_0 11 rfl rfl)
theorem dX3_term_14 : decode cX3_term 14 = .ok (.aload_n 0, 1) := dk_42 (dk_at dksX3_term_0 14 rfl rfl)
theorem dX3_term_15 : decode cX3_term 15 = .ok (.getfield 55, 3) := dk_180 0 55 (dk_at dksX3_term_0 15 rfl rfl)
theorem dX3_term_18 : decode cX3_term 18 = .ok (.bipush 47, 2) := dk_16 47 (dk_at dksX3_term_0 18 rfl rfl)
theorem dX3_term_20 : decode cX3_term 20 = .ok (.if_icmp .eq 12, 3) := dk_159 0 12 (dk_at dksX3_term_0 20 rfl rfl)
theorem dX3_term_23 : decode cX3_term 23 = .ok (.aload_n 0, 1) := dk_42 (dk_at dksX3_term_0 23 rfl rfl)
theorem dX3_term_24 : decode cX3_term 24 = .ok (.getfield 55, 3) := dk_180 0 55 (dk_at dksX3_term_1 0 rfl rfl)
theorem dX3_term_27 : decode cX3_term 27 = .ok (.bipush 37, 2) := dk_16 37 (dk_at dksX3_term_1 3 rfl rfl)
theorem dX3_term_29 : decode cX3_term 29 = .ok (.if_icmp .ne 26, 3) := dk_160 0 26 (dk_at dksX3_term_1 5 rfl rfl)
theorem dX3_term_32 : decode cX3_term 32 = .ok (.aload_n 0, 1) := dk_42 (dk_at dksX3_term_1 8 rfl rfl)
theorem dX3_term_33 : decode cX3_term 33 = .ok (.getfield 55, 3) := dk_180 0 55 (dk_at dksX3_term_1 9 rfl rfl)
theorem dX3_term_36 : decode cX3_term 36 = .ok (.istore_n 2, 1) := dk_61 (dk_at dksX3_term_1 12 rfl rfl)
theorem dX3_term_37 : decode cX3_term 37 = .ok (.aload_n 0, 1) := dk_42 (dk_at dksX3_term_1 13 rfl rfl)
theorem dX3_term_38 : decode cX3_term 38 = .ok (.invokevirtual 83, 3) := dk_182 0 83 (dk_at dksX3_term_1 14 rfl rfl)
theorem dX3_term_41 : decode cX3_term 41 = .ok (.aload_n 0, 1) := dk_42 (dk_at dksX3_term_1 17 rfl rfl)
theorem dX3_term_42 : decode cX3_term 42 = .ok (.iload_n 2, 1) := dk_28 (dk_at dksX3_term_1 18 rfl rfl)
theorem dX3_term_43 : decode cX3_term 43 = .ok (.aload_n 1, 1) := dk_43 (dk_at dksX3_term_1 19 rfl rfl)
theorem dX3_term_44 : decode cX3_term 44 = .ok (.aload_n 0, 1) := dk_42 (dk_at dksX3_term_1 20 rfl rfl)
theorem dX3_term_45 : decode cX3_term 45 = .ok (.invokevirtual 101, 3) := dk_182 0 101 (dk_at dksX3_term_1 21 rfl rfl)
theorem dX3_term_48 : decode cX3_term 48 = .ok (.invokevirtual 113, 3) := dk_182 0 113 (dk_at dksX3_term_2 0 rfl rfl)
theorem dX3_term_51 : decode cX3_term 51 = .ok (.astore_n 1, 1) := dk_76 (dk_at dksX3_term_2 3 rfl rfl)
theorem dX3_term_52 : decode cX3_term 52 = .ok (.goto (-47), 3) := dk_167 255 209 (dk_at dksX3_term_2 4 rfl rfl)
theorem dX3_term_55 : decode cX3_term 55 = .ok (.aload_n 1, 1) := dk_43 (dk_at dksX3_term_2 7 rfl rfl)
theorem dX3_term_56 : decode cX3_term 56 = .ok (.areturn, 1) := dk_176 (dk_at dksX3_term_2 8 rfl rfl)
abbrev cX3_one : ByteArray := prog_15_method_11_code
def yX3_one : MethodName := ⟨RX3, "one", "()LWoodState$Part;"⟩
def dkwX3_one_8 : List UInt8 := [100, 181, 0, 80, 42, 182, 0, 83, 43, 176]
abbrev dktX3_one_8 : List UInt8 := dkwX3_one_8 ++ []
def dkwX3_one_7 : List UInt8 := [182, 0, 110, 76, 42, 180, 0, 55, 16, 41, 159, 0, 8, 42, 182, 0, 49, 191, 42, 89, 180, 0, 80, 4]
abbrev dktX3_one_7 : List UInt8 := dkwX3_one_7 ++ dktX3_one_8
def dkwX3_one_6 : List UInt8 := [181, 0, 80, 43, 176, 42, 180, 0, 55, 16, 40, 159, 0, 8, 42, 182, 0, 49, 191, 42, 182, 0, 98, 42]
abbrev dktX3_one_6 : List UInt8 := dkwX3_one_6 ++ dktX3_one_7
def dkwX3_one_5 : List UInt8 := [153, 0, 7, 1, 167, 0, 11, 187, 0, 105, 89, 43, 183, 0, 107, 76, 42, 89, 180, 0, 80, 4, 100]
abbrev dktX3_one_5 : List UInt8 := dkwX3_one_5 ++ dktX3_one_6
def dkwX3_one_4 : List UInt8 := [176, 42, 180, 0, 55, 16, 45, 160, 0, 44, 42, 182, 0, 98, 42, 182, 0, 101, 76, 42, 180, 0, 86]
abbrev dktX3_one_4 : List UInt8 := dkwX3_one_4 ++ dktX3_one_5
def dkwX3_one_3 : List UInt8 := [1, 167, 0, 17, 187, 0, 95, 89, 42, 180, 0, 67, 16, 8, 100, 183, 0, 97, 76, 42, 182, 0, 83, 43]
abbrev dktX3_one_3 : List UInt8 := dkwX3_one_3 ++ dktX3_one_4
def dkwX3_one_2 : List UInt8 := [180, 0, 67, 16, 8, 161, 0, 44, 42, 180, 0, 67, 16, 18, 162, 0, 35, 42, 180, 0, 86, 153, 0, 7]
abbrev dktX3_one_2 : List UInt8 := dkwX3_one_2 ++ dktX3_one_3
def dkwX3_one_1 : List UInt8 := [42, 180, 0, 73, 183, 0, 92, 76, 42, 182, 0, 83, 43, 176, 42, 180, 0, 55, 16, 119, 160, 0, 53, 42]
abbrev dktX3_one_1 : List UInt8 := dkwX3_one_1 ++ dktX3_one_2
def dkwX3_one_0 : List UInt8 := [42, 180, 0, 55, 16, 110, 160, 0, 32, 42, 180, 0, 86, 153, 0, 7, 1, 167, 0, 14, 187, 0, 90, 89]
abbrev dktX3_one_0 : List UInt8 := dkwX3_one_0 ++ dktX3_one_1
theorem dksX3_one_0 : cX3_one.data.toList.drop 0 = dktX3_one_0 := by decide +kernel
theorem dksX3_one_1 : cX3_one.data.toList.drop 24 = dktX3_one_1 := dk_seg dksX3_one_0 24 rfl rfl
theorem dksX3_one_2 : cX3_one.data.toList.drop 48 = dktX3_one_2 := dk_seg dksX3_one_1 24 rfl rfl
theorem dksX3_one_3 : cX3_one.data.toList.drop 72 = dktX3_one_3 := dk_seg dksX3_one_2 24 rfl rfl
theorem dksX3_one_4 : cX3_one.data.toList.drop 96 = dktX3_one_4 := dk_seg dksX3_one_3 24 rfl rfl
theorem dksX3_one_5 : cX3_one.data.toList.drop 119 = dktX3_one_5 := dk_seg dksX3_one_4 23 rfl rfl
theorem dksX3_one_6 : cX3_one.data.toList.drop 142 = dktX3_one_6 := dk_seg dksX3_one_5 23 rfl rfl
theorem dksX3_one_7 : cX3_one.data.toList.drop 166 = dktX3_one_7 := dk_seg dksX3_one_6 24 rfl rfl
theorem dksX3_one_8 : cX3_one.data.toList.drop 190 = dktX3_one_8 := dk_seg dksX3_one_7 24 rfl rfl
theorem dX3_one_0 : decode cX3_one 0 = .ok (.aload_n 0, 1) := dk_42 (dk_at dksX3_one_0 0 rfl rfl)
theorem dX3_one_1 : decode cX3_one 1 = .ok (.getfield 55, 3) := dk_180 0 55 (dk_at dksX3_one_0 1 rfl rfl)
theorem dX3_one_4 : decode cX3_one 4 = .ok (.bipush 110, 2) := dk_16 110 (dk_at dksX3_one_0 4 rfl rfl)
theorem dX3_one_6 : decode cX3_one 6 = .ok (.if_icmp .ne 32, 3) := dk_160 0 32 (dk_at dksX3_one_0 6 rfl rfl)
theorem dX3_one_9 : decode cX3_one 9 = .ok (.aload_n 0, 1) := dk_42 (dk_at dksX3_one_0 9 rfl rfl)
theorem dX3_one_10 : decode cX3_one 10 = .ok (.getfield 86, 3) := dk_180 0 86 (dk_at dksX3_one_0 10 rfl rfl)
theorem dX3_one_13 : decode cX3_one 13 = .ok (.ifCond .eq 7, 3) := dk_153 0 7 (dk_at dksX3_one_0 13 rfl rfl)
theorem dX3_one_16 : decode cX3_one 16 = .ok (.aconst_null, 1) := dk_1 (dk_at dksX3_one_0 16 rfl rfl)
theorem dX3_one_17 : decode cX3_one 17 = .ok (.goto 14, 3) := dk_167 0 14 (dk_at dksX3_one_0 17 rfl rfl)
theorem dX3_one_20 : decode cX3_one 20 = .ok (.new 90, 3) := dk_187 0 90 (dk_at dksX3_one_0 20 rfl rfl)
theorem dX3_one_23 : decode cX3_one 23 = .ok (.dup, 1) := dk_89 (dk_at dksX3_one_0 23 rfl rfl)
theorem dX3_one_24 : decode cX3_one 24 = .ok (.aload_n 0, 1) := dk_42 (dk_at dksX3_one_1 0 rfl rfl)
theorem dX3_one_25 : decode cX3_one 25 = .ok (.getfield 73, 3) := dk_180 0 73 (dk_at dksX3_one_1 1 rfl rfl)
theorem dX3_one_28 : decode cX3_one 28 = .ok (.invokespecial 92, 3) := dk_183 0 92 (dk_at dksX3_one_1 4 rfl rfl)
theorem dX3_one_31 : decode cX3_one 31 = .ok (.astore_n 1, 1) := dk_76 (dk_at dksX3_one_1 7 rfl rfl)
theorem dX3_one_32 : decode cX3_one 32 = .ok (.aload_n 0, 1) := dk_42 (dk_at dksX3_one_1 8 rfl rfl)
theorem dX3_one_33 : decode cX3_one 33 = .ok (.invokevirtual 83, 3) := dk_182 0 83 (dk_at dksX3_one_1 9 rfl rfl)
theorem dX3_one_36 : decode cX3_one 36 = .ok (.aload_n 1, 1) := dk_43 (dk_at dksX3_one_1 12 rfl rfl)
theorem dX3_one_37 : decode cX3_one 37 = .ok (.areturn, 1) := dk_176 (dk_at dksX3_one_1 13 rfl rfl)
theorem dX3_one_38 : decode cX3_one 38 = .ok (.aload_n 0, 1) := dk_42 (dk_at dksX3_one_1 14 rfl rfl)
theorem dX3_one_39 : decode cX3_one 39 = .ok (.getfield 55, 3) := dk_180 0 55 (dk_at dksX3_one_1 15 rfl rfl)
theorem dX3_one_42 : decode cX3_one 42 = .ok (.bipush 119, 2) := dk_16 119 (dk_at dksX3_one_1 18 rfl rfl)
theorem dX3_one_44 : decode cX3_one 44 = .ok (.if_icmp .ne 53, 3) := dk_160 0 53 (dk_at dksX3_one_1 20 rfl rfl)
theorem dX3_one_47 : decode cX3_one 47 = .ok (.aload_n 0, 1) := dk_42 (dk_at dksX3_one_1 23 rfl rfl)
theorem dX3_one_48 : decode cX3_one 48 = .ok (.getfield 67, 3) := dk_180 0 67 (dk_at dksX3_one_2 0 rfl rfl)
theorem dX3_one_51 : decode cX3_one 51 = .ok (.bipush 8, 2) := dk_16 8 (dk_at dksX3_one_2 3 rfl rfl)
theorem dX3_one_53 : decode cX3_one 53 = .ok (.if_icmp .lt 44, 3) := dk_161 0 44 (dk_at dksX3_one_2 5 rfl rfl)
theorem dX3_one_56 : decode cX3_one 56 = .ok (.aload_n 0, 1) := dk_42 (dk_at dksX3_one_2 8 rfl rfl)
theorem dX3_one_57 : decode cX3_one 57 = .ok (.getfield 67, 3) := dk_180 0 67 (dk_at dksX3_one_2 9 rfl rfl)
theorem dX3_one_60 : decode cX3_one 60 = .ok (.bipush 18, 2) := dk_16 18 (dk_at dksX3_one_2 12 rfl rfl)
theorem dX3_one_62 : decode cX3_one 62 = .ok (.if_icmp .ge 35, 3) := dk_162 0 35 (dk_at dksX3_one_2 14 rfl rfl)
theorem dX3_one_65 : decode cX3_one 65 = .ok (.aload_n 0, 1) := dk_42 (dk_at dksX3_one_2 17 rfl rfl)
theorem dX3_one_66 : decode cX3_one 66 = .ok (.getfield 86, 3) := dk_180 0 86 (dk_at dksX3_one_2 18 rfl rfl)
theorem dX3_one_69 : decode cX3_one 69 = .ok (.ifCond .eq 7, 3) := dk_153 0 7 (dk_at dksX3_one_2 21 rfl rfl)
theorem dX3_one_72 : decode cX3_one 72 = .ok (.aconst_null, 1) := dk_1 (dk_at dksX3_one_3 0 rfl rfl)
theorem dX3_one_73 : decode cX3_one 73 = .ok (.goto 17, 3) := dk_167 0 17 (dk_at dksX3_one_3 1 rfl rfl)
theorem dX3_one_76 : decode cX3_one 76 = .ok (.new 95, 3) := dk_187 0 95 (dk_at dksX3_one_3 4 rfl rfl)
theorem dX3_one_79 : decode cX3_one 79 = .ok (.dup, 1) := dk_89 (dk_at dksX3_one_3 7 rfl rfl)
theorem dX3_one_80 : decode cX3_one 80 = .ok (.aload_n 0, 1) := dk_42 (dk_at dksX3_one_3 8 rfl rfl)
theorem dX3_one_81 : decode cX3_one 81 = .ok (.getfield 67, 3) := dk_180 0 67 (dk_at dksX3_one_3 9 rfl rfl)
theorem dX3_one_84 : decode cX3_one 84 = .ok (.bipush 8, 2) := dk_16 8 (dk_at dksX3_one_3 12 rfl rfl)
theorem dX3_one_86 : decode cX3_one 86 = .ok (.isub, 1) := dk_100 (dk_at dksX3_one_3 14 rfl rfl)
theorem dX3_one_87 : decode cX3_one 87 = .ok (.invokespecial 97, 3) := dk_183 0 97 (dk_at dksX3_one_3 15 rfl rfl)
theorem dX3_one_90 : decode cX3_one 90 = .ok (.astore_n 1, 1) := dk_76 (dk_at dksX3_one_3 18 rfl rfl)
theorem dX3_one_91 : decode cX3_one 91 = .ok (.aload_n 0, 1) := dk_42 (dk_at dksX3_one_3 19 rfl rfl)
theorem dX3_one_92 : decode cX3_one 92 = .ok (.invokevirtual 83, 3) := dk_182 0 83 (dk_at dksX3_one_3 20 rfl rfl)
theorem dX3_one_95 : decode cX3_one 95 = .ok (.aload_n 1, 1) := dk_43 (dk_at dksX3_one_3 23 rfl rfl)
theorem dX3_one_96 : decode cX3_one 96 = .ok (.areturn, 1) := dk_176 (dk_at dksX3_one_4 0 rfl rfl)
theorem dX3_one_97 : decode cX3_one 97 = .ok (.aload_n 0, 1) := dk_42 (dk_at dksX3_one_4 1 rfl rfl)
theorem dX3_one_98 : decode cX3_one 98 = .ok (.getfield 55, 3) := dk_180 0 55 (dk_at dksX3_one_4 2 rfl rfl)
theorem dX3_one_101 : decode cX3_one 101 = .ok (.bipush 45, 2) := dk_16 45 (dk_at dksX3_one_4 5 rfl rfl)
theorem dX3_one_103 : decode cX3_one 103 = .ok (.if_icmp .ne 44, 3) := dk_160 0 44 (dk_at dksX3_one_4 7 rfl rfl)
theorem dX3_one_106 : decode cX3_one 106 = .ok (.aload_n 0, 1) := dk_42 (dk_at dksX3_one_4 10 rfl rfl)
theorem dX3_one_107 : decode cX3_one 107 = .ok (.invokevirtual 98, 3) := dk_182 0 98 (dk_at dksX3_one_4 11 rfl rfl)
theorem dX3_one_110 : decode cX3_one 110 = .ok (.aload_n 0, 1) := dk_42 (dk_at dksX3_one_4 14 rfl rfl)
theorem dX3_one_111 : decode cX3_one 111 = .ok (.invokevirtual 101, 3) := dk_182 0 101 (dk_at dksX3_one_4 15 rfl rfl)
theorem dX3_one_114 : decode cX3_one 114 = .ok (.astore_n 1, 1) := dk_76 (dk_at dksX3_one_4 18 rfl rfl)
theorem dX3_one_115 : decode cX3_one 115 = .ok (.aload_n 0, 1) := dk_42 (dk_at dksX3_one_4 19 rfl rfl)
theorem dX3_one_116 : decode cX3_one 116 = .ok (.getfield 86, 3) := dk_180 0 86 (dk_at dksX3_one_4 20 rfl rfl)
theorem dX3_one_119 : decode cX3_one 119 = .ok (.ifCond .eq 7, 3) := dk_153 0 7 (dk_at dksX3_one_5 0 rfl rfl)
theorem dX3_one_122 : decode cX3_one 122 = .ok (.aconst_null, 1) := dk_1 (dk_at dksX3_one_5 3 rfl rfl)
theorem dX3_one_123 : decode cX3_one 123 = .ok (.goto 11, 3) := dk_167 0 11 (dk_at dksX3_one_5 4 rfl rfl)
theorem dX3_one_126 : decode cX3_one 126 = .ok (.new 105, 3) := dk_187 0 105 (dk_at dksX3_one_5 7 rfl rfl)
theorem dX3_one_129 : decode cX3_one 129 = .ok (.dup, 1) := dk_89 (dk_at dksX3_one_5 10 rfl rfl)
theorem dX3_one_130 : decode cX3_one 130 = .ok (.aload_n 1, 1) := dk_43 (dk_at dksX3_one_5 11 rfl rfl)
theorem dX3_one_131 : decode cX3_one 131 = .ok (.invokespecial 107, 3) := dk_183 0 107 (dk_at dksX3_one_5 12 rfl rfl)
theorem dX3_one_134 : decode cX3_one 134 = .ok (.astore_n 1, 1) := dk_76 (dk_at dksX3_one_5 15 rfl rfl)
theorem dX3_one_135 : decode cX3_one 135 = .ok (.aload_n 0, 1) := dk_42 (dk_at dksX3_one_5 16 rfl rfl)
theorem dX3_one_136 : decode cX3_one 136 = .ok (.dup, 1) := dk_89 (dk_at dksX3_one_5 17 rfl rfl)
theorem dX3_one_137 : decode cX3_one 137 = .ok (.getfield 80, 3) := dk_180 0 80 (dk_at dksX3_one_5 18 rfl rfl)
theorem dX3_one_140 : decode cX3_one 140 = .ok (.iconst 1, 1) := dk_4 (dk_at dksX3_one_5 21 rfl rfl)
theorem dX3_one_141 : decode cX3_one 141 = .ok (.isub, 1) := dk_100 (dk_at dksX3_one_5 22 rfl rfl)
theorem dX3_one_142 : decode cX3_one 142 = .ok (.putfield 80, 3) := dk_181 0 80 (dk_at dksX3_one_6 0 rfl rfl)
theorem dX3_one_145 : decode cX3_one 145 = .ok (.aload_n 1, 1) := dk_43 (dk_at dksX3_one_6 3 rfl rfl)
theorem dX3_one_146 : decode cX3_one 146 = .ok (.areturn, 1) := dk_176 (dk_at dksX3_one_6 4 rfl rfl)
theorem dX3_one_147 : decode cX3_one 147 = .ok (.aload_n 0, 1) := dk_42 (dk_at dksX3_one_6 5 rfl rfl)
theorem dX3_one_148 : decode cX3_one 148 = .ok (.getfield 55, 3) := dk_180 0 55 (dk_at dksX3_one_6 6 rfl rfl)
theorem dX3_one_151 : decode cX3_one 151 = .ok (.bipush 40, 2) := dk_16 40 (dk_at dksX3_one_6 9 rfl rfl)
theorem dX3_one_153 : decode cX3_one 153 = .ok (.if_icmp .eq 8, 3) := dk_159 0 8 (dk_at dksX3_one_6 11 rfl rfl)
theorem dX3_one_156 : decode cX3_one 156 = .ok (.aload_n 0, 1) := dk_42 (dk_at dksX3_one_6 14 rfl rfl)
theorem dX3_one_157 : decode cX3_one 157 = .ok (.invokevirtual 49, 3) := dk_182 0 49 (dk_at dksX3_one_6 15 rfl rfl)
theorem dX3_one_160 : decode cX3_one 160 = .ok (.athrow, 1) := dk_191 (dk_at dksX3_one_6 18 rfl rfl)
theorem dX3_one_161 : decode cX3_one 161 = .ok (.aload_n 0, 1) := dk_42 (dk_at dksX3_one_6 19 rfl rfl)
theorem dX3_one_162 : decode cX3_one 162 = .ok (.invokevirtual 98, 3) := dk_182 0 98 (dk_at dksX3_one_6 20 rfl rfl)
theorem dX3_one_165 : decode cX3_one 165 = .ok (.aload_n 0, 1) := dk_42 (dk_at dksX3_one_6 23 rfl rfl)
theorem dX3_one_166 : decode cX3_one 166 = .ok (.invokevirtual 110, 3) := dk_182 0 110 (dk_at dksX3_one_7 0 rfl rfl)
theorem dX3_one_169 : decode cX3_one 169 = .ok (.astore_n 1, 1) := dk_76 (dk_at dksX3_one_7 3 rfl rfl)
theorem dX3_one_170 : decode cX3_one 170 = .ok (.aload_n 0, 1) := dk_42 (dk_at dksX3_one_7 4 rfl rfl)
theorem dX3_one_171 : decode cX3_one 171 = .ok (.getfield 55, 3) := dk_180 0 55 (dk_at dksX3_one_7 5 rfl rfl)
theorem dX3_one_174 : decode cX3_one 174 = .ok (.bipush 41, 2) := dk_16 41 (dk_at dksX3_one_7 8 rfl rfl)
theorem dX3_one_176 : decode cX3_one 176 = .ok (.if_icmp .eq 8, 3) := dk_159 0 8 (dk_at dksX3_one_7 10 rfl rfl)
theorem dX3_one_179 : decode cX3_one 179 = .ok (.aload_n 0, 1) := dk_42 (dk_at dksX3_one_7 13 rfl rfl)
theorem dX3_one_180 : decode cX3_one 180 = .ok (.invokevirtual 49, 3) := dk_182 0 49 (dk_at dksX3_one_7 14 rfl rfl)
theorem dX3_one_183 : decode cX3_one 183 = .ok (.athrow, 1) := dk_191 (dk_at dksX3_one_7 17 rfl rfl)
theorem dX3_one_184 : decode cX3_one 184 = .ok (.aload_n 0, 1) := dk_42 (dk_at dksX3_one_7 18 rfl rfl)
theorem dX3_one_185 : decode cX3_one 185 = .ok (.dup, 1) := dk_89 (dk_at dksX3_one_7 19 rfl rfl)
theorem dX3_one_186 : decode cX3_one 186 = .ok (.getfield 80, 3) := dk_180 0 80 (dk_at dksX3_one_7 20 rfl rfl)
theorem dX3_one_189 : decode cX3_one 189 = .ok (.iconst 1, 1) := dk_4 (dk_at dksX3_one_7 23 rfl rfl)
theorem dX3_one_190 : decode cX3_one 190 = .ok (.isub, 1) := dk_100 (dk_at dksX3_one_8 0 rfl rfl)
theorem dX3_one_191 : decode cX3_one 191 = .ok (.putfield 80, 3) := dk_181 0 80 (dk_at dksX3_one_8 1 rfl rfl)
theorem dX3_one_194 : decode cX3_one 194 = .ok (.aload_n 0, 1) := dk_42 (dk_at dksX3_one_8 4 rfl rfl)
theorem dX3_one_195 : decode cX3_one 195 = .ok (.invokevirtual 83, 3) := dk_182 0 83 (dk_at dksX3_one_8 5 rfl rfl)
theorem dX3_one_198 : decode cX3_one 198 = .ok (.aload_n 1, 1) := dk_43 (dk_at dksX3_one_8 8 rfl rfl)
theorem dX3_one_199 : decode cX3_one 199 = .ok (.areturn, 1) := dk_176 (dk_at dksX3_one_8 9 rfl rfl)
abbrev cX3_pair : ByteArray := prog_15_method_19_code
def yX3_pair : MethodName := ⟨RX3, "pair", "(CLWoodState$Part;LWoodState$Part;)LWoodState$Part;"⟩
def dkwX3_pair_0 : List UInt8 := [42, 180, 0, 86, 153, 0, 7, 1, 167, 0, 13, 187, 0, 145, 89, 27, 44, 45, 183, 0, 147, 176]
abbrev dktX3_pair_0 : List UInt8 := dkwX3_pair_0 ++ []
theorem dksX3_pair_0 : cX3_pair.data.toList.drop 0 = dktX3_pair_0 := by decide +kernel
theorem dX3_pair_0 : decode cX3_pair 0 = .ok (.aload_n 0, 1) := dk_42 (dk_at dksX3_pair_0 0 rfl rfl)
theorem dX3_pair_1 : decode cX3_pair 1 = .ok (.getfield 86, 3) := dk_180 0 86 (dk_at dksX3_pair_0 1 rfl rfl)
theorem dX3_pair_4 : decode cX3_pair 4 = .ok (.ifCond .eq 7, 3) := dk_153 0 7 (dk_at dksX3_pair_0 4 rfl rfl)
theorem dX3_pair_7 : decode cX3_pair 7 = .ok (.aconst_null, 1) := dk_1 (dk_at dksX3_pair_0 7 rfl rfl)
theorem dX3_pair_8 : decode cX3_pair 8 = .ok (.goto 13, 3) := dk_167 0 13 (dk_at dksX3_pair_0 8 rfl rfl)
theorem dX3_pair_11 : decode cX3_pair 11 = .ok (.new 145, 3) := dk_187 0 145 (dk_at dksX3_pair_0 11 rfl rfl)
theorem dX3_pair_14 : decode cX3_pair 14 = .ok (.dup, 1) := dk_89 (dk_at dksX3_pair_0 14 rfl rfl)
theorem dX3_pair_15 : decode cX3_pair 15 = .ok (.iload_n 1, 1) := dk_27 (dk_at dksX3_pair_0 15 rfl rfl)
theorem dX3_pair_16 : decode cX3_pair 16 = .ok (.aload_n 2, 1) := dk_44 (dk_at dksX3_pair_0 16 rfl rfl)
theorem dX3_pair_17 : decode cX3_pair 17 = .ok (.aload_n 3, 1) := dk_45 (dk_at dksX3_pair_0 17 rfl rfl)
theorem dX3_pair_18 : decode cX3_pair 18 = .ok (.invokespecial 147, 3) := dk_183 0 147 (dk_at dksX3_pair_0 18 rfl rfl)
theorem dX3_pair_21 : decode cX3_pair 21 = .ok (.areturn, 1) := dk_176 (dk_at dksX3_pair_0 21 rfl rfl)
