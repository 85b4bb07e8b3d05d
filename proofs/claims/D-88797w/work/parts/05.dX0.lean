set_option maxRecDepth 100000
abbrev cX0_init : ByteArray := prog_1_method_12_code
def yX0_init : MethodName := ⟨RX0, "<init>", "()V"⟩
def dkwX0_init_7 : List UInt8 := [116, 183, 0, 105, 83, 132, 1, 1, 167, 255, 232, 177]
abbrev dktX0_init_7 : List UInt8 := dkwX0_init_7 ++ []
def dkwX0_init_6 : List UInt8 := [189, 0, 100, 181, 0, 101, 4, 60, 27, 16, 9, 162, 0, 24, 42, 180, 0, 7, 27, 187, 0, 56, 89, 27]
abbrev dktX0_init_6 : List UInt8 := dkwX0_init_6 ++ dktX0_init_7
def dkwX0_init_5 : List UInt8 := [188, 10, 181, 0, 91, 42, 16, 24, 188, 10, 181, 0, 94, 42, 16, 24, 188, 10, 181, 0, 97, 42, 16, 101]
abbrev dktX0_init_5 : List UInt8 := dkwX0_init_5 ++ dktX0_init_6
def dkwX0_init_4 : List UInt8 := [188, 10, 181, 0, 82, 42, 16, 49, 188, 4, 181, 0, 85, 42, 16, 7, 188, 10, 181, 0, 88, 42, 16, 7]
abbrev dktX0_init_4 : List UInt8 := dkwX0_init_4 ++ dktX0_init_5
def dkwX0_init_3 : List UInt8 := [188, 10, 181, 0, 72, 42, 16, 28, 188, 4, 181, 0, 75, 42, 16, 28, 188, 10, 181, 0, 79, 42, 16, 7]
abbrev dktX0_init_3 : List UInt8 := dkwX0_init_3 ++ dktX0_init_4
def dkwX0_init_2 : List UInt8 := [187, 0, 24, 89, 183, 0, 58, 181, 0, 62, 42, 187, 0, 65, 89, 183, 0, 67, 181, 0, 68, 42, 16, 7]
abbrev dktX0_init_2 : List UInt8 := dkwX0_init_2 ++ dktX0_init_3
def dkwX0_init_1 : List UInt8 := [187, 0, 24, 89, 183, 0, 58, 181, 0, 19, 42, 187, 0, 24, 89, 183, 0, 58, 181, 0, 59, 42]
abbrev dktX0_init_1 : List UInt8 := dkwX0_init_1 ++ dktX0_init_2
def dkwX0_init_0 : List UInt8 := [42, 183, 0, 50, 42, 16, 9, 189, 0, 56, 181, 0, 7, 42, 16, 9, 188, 10, 181, 0, 1, 42]
abbrev dktX0_init_0 : List UInt8 := dkwX0_init_0 ++ dktX0_init_1
theorem dksX0_init_0 : cX0_init.data.toList.drop 0 = dktX0_init_0 := by decide +kernel
theorem dksX0_init_1 : cX0_init.data.toList.drop 22 = dktX0_init_1 := dk_seg dksX0_init_0 22 rfl rfl
theorem dksX0_init_2 : cX0_init.data.toList.drop 44 = dktX0_init_2 := dk_seg dksX0_init_1 22 rfl rfl
theorem dksX0_init_3 : cX0_init.data.toList.drop 68 = dktX0_init_3 := dk_seg dksX0_init_2 24 rfl rfl
theorem dksX0_init_4 : cX0_init.data.toList.drop 92 = dktX0_init_4 := dk_seg dksX0_init_3 24 rfl rfl
theorem dksX0_init_5 : cX0_init.data.toList.drop 116 = dktX0_init_5 := dk_seg dksX0_init_4 24 rfl rfl
theorem dksX0_init_6 : cX0_init.data.toList.drop 140 = dktX0_init_6 := dk_seg dksX0_init_5 24 rfl rfl
theorem dksX0_init_7 : cX0_init.data.toList.drop 164 = dktX0_init_7 := dk_seg dksX0_init_6 24 rfl rfl
theorem dX0_init_0 : decode cX0_init 0 = .ok (.aload_n 0, 1) := dk_42 (dk_at dksX0_init_0 0 rfl rfl)
theorem dX0_init_1 : decode cX0_init 1 = .ok (.invokespecial 50, 3) := dk_183 0 50 (dk_at dksX0_init_0 1 rfl rfl)
theorem dX0_init_4 : decode cX0_init 4 = .ok (.aload_n 0, 1) := dk_42 (dk_at dksX0_init_0 4 rfl rfl)
theorem dX0_init_5 : decode cX0_init 5 = .ok (.bipush 9, 2) := dk_16 9 (dk_at dksX0_init_0 5 rfl rfl)
theorem dX0_init_7 : decode cX0_init 7 = .ok (.anewarray 56, 3) := dk_189 0 56 (dk_at dksX0_init_0 7 rfl rfl)
theorem dX0_init_10 : decode cX0_init 10 = .ok (.putfield 7, 3) := dk_181 0 7 (dk_at dksX0_init_0 10 rfl rfl)
theorem dX0_init_13 : decode cX0_init 13 = .ok (.aload_n 0, 1) := dk_42 (dk_at dksX0_init_0 13 rfl rfl)
theorem dX0_init_14 : decode cX0_init 14 = .ok (.bipush 9, 2) := dk_16 9 (dk_at dksX0_init_0 14 rfl rfl)
theorem dX0_init_16 : decode cX0_init 16 = .ok (.newarray .int, 2) := dk_188_10 (dk_at dksX0_init_0 16 rfl rfl)
theorem dX0_init_18 : decode cX0_init 18 = .ok (.putfield 1, 3) := dk_181 0 1 (dk_at dksX0_init_0 18 rfl rfl)
theorem dX0_init_21 : decode cX0_init 21 = .ok (.aload_n 0, 1) := dk_42 (dk_at dksX0_init_0 21 rfl rfl)
theorem dX0_init_22 : decode cX0_init 22 = .ok (.new 24, 3) := dk_187 0 24 (dk_at dksX0_init_1 0 rfl rfl)
theorem dX0_init_25 : decode cX0_init 25 = .ok (.dup, 1) := dk_89 (dk_at dksX0_init_1 3 rfl rfl)
theorem dX0_init_26 : decode cX0_init 26 = .ok (.invokespecial 58, 3) := dk_183 0 58 (dk_at dksX0_init_1 4 rfl rfl)
theorem dX0_init_29 : decode cX0_init 29 = .ok (.putfield 19, 3) := dk_181 0 19 (dk_at dksX0_init_1 7 rfl rfl)
theorem dX0_init_32 : decode cX0_init 32 = .ok (.aload_n 0, 1) := dk_42 (dk_at dksX0_init_1 10 rfl rfl)
theorem dX0_init_33 : decode cX0_init 33 = .ok (.new 24, 3) := dk_187 0 24 (dk_at dksX0_init_1 11 rfl rfl)
theorem dX0_init_36 : decode cX0_init 36 = .ok (.dup, 1) := dk_89 (dk_at dksX0_init_1 14 rfl rfl)
theorem dX0_init_37 : decode cX0_init 37 = .ok (.invokespecial 58, 3) := dk_183 0 58 (dk_at dksX0_init_1 15 rfl rfl)
theorem dX0_init_40 : decode cX0_init 40 = .ok (.putfield 59, 3) := dk_181 0 59 (dk_at dksX0_init_1 18 rfl rfl)
theorem dX0_init_43 : decode cX0_init 43 = .ok (.aload_n 0, 1) := dk_42 (dk_at dksX0_init_1 21 rfl rfl)
theorem dX0_init_44 : decode cX0_init 44 = .ok (.new 24, 3) := dk_187 0 24 (dk_at dksX0_init_2 0 rfl rfl)
theorem dX0_init_47 : decode cX0_init 47 = .ok (.dup, 1) := dk_89 (dk_at dksX0_init_2 3 rfl rfl)
theorem dX0_init_48 : decode cX0_init 48 = .ok (.invokespecial 58, 3) := dk_183 0 58 (dk_at dksX0_init_2 4 rfl rfl)
theorem dX0_init_51 : decode cX0_init 51 = .ok (.putfield 62, 3) := dk_181 0 62 (dk_at dksX0_init_2 7 rfl rfl)
theorem dX0_init_54 : decode cX0_init 54 = .ok (.aload_n 0, 1) := dk_42 (dk_at dksX0_init_2 10 rfl rfl)
theorem dX0_init_55 : decode cX0_init 55 = .ok (.new 65, 3) := dk_187 0 65 (dk_at dksX0_init_2 11 rfl rfl)
theorem dX0_init_58 : decode cX0_init 58 = .ok (.dup, 1) := dk_89 (dk_at dksX0_init_2 14 rfl rfl)
theorem dX0_init_59 : decode cX0_init 59 = .ok (.invokespecial 67, 3) := dk_183 0 67 (dk_at dksX0_init_2 15 rfl rfl)
theorem dX0_init_62 : decode cX0_init 62 = .ok (.putfield 68, 3) := dk_181 0 68 (dk_at dksX0_init_2 18 rfl rfl)
theorem dX0_init_65 : decode cX0_init 65 = .ok (.aload_n 0, 1) := dk_42 (dk_at dksX0_init_2 21 rfl rfl)
theorem dX0_init_66 : decode cX0_init 66 = .ok (.bipush 7, 2) := dk_16 7 (dk_at dksX0_init_2 22 rfl rfl)
theorem dX0_init_68 : decode cX0_init 68 = .ok (.newarray .int, 2) := dk_188_10 (dk_at dksX0_init_3 0 rfl rfl)
theorem dX0_init_70 : decode cX0_init 70 = .ok (.putfield 72, 3) := dk_181 0 72 (dk_at dksX0_init_3 2 rfl rfl)
theorem dX0_init_73 : decode cX0_init 73 = .ok (.aload_n 0, 1) := dk_42 (dk_at dksX0_init_3 5 rfl rfl)
theorem dX0_init_74 : decode cX0_init 74 = .ok (.bipush 28, 2) := dk_16 28 (dk_at dksX0_init_3 6 rfl rfl)
theorem dX0_init_76 : decode cX0_init 76 = .ok (.newarray .boolean, 2) := dk_188_4 (dk_at dksX0_init_3 8 rfl rfl)
theorem dX0_init_78 : decode cX0_init 78 = .ok (.putfield 75, 3) := dk_181 0 75 (dk_at dksX0_init_3 10 rfl rfl)
theorem dX0_init_81 : decode cX0_init 81 = .ok (.aload_n 0, 1) := dk_42 (dk_at dksX0_init_3 13 rfl rfl)
theorem dX0_init_82 : decode cX0_init 82 = .ok (.bipush 28, 2) := dk_16 28 (dk_at dksX0_init_3 14 rfl rfl)
theorem dX0_init_84 : decode cX0_init 84 = .ok (.newarray .int, 2) := dk_188_10 (dk_at dksX0_init_3 16 rfl rfl)
theorem dX0_init_86 : decode cX0_init 86 = .ok (.putfield 79, 3) := dk_181 0 79 (dk_at dksX0_init_3 18 rfl rfl)
theorem dX0_init_89 : decode cX0_init 89 = .ok (.aload_n 0, 1) := dk_42 (dk_at dksX0_init_3 21 rfl rfl)
theorem dX0_init_90 : decode cX0_init 90 = .ok (.bipush 7, 2) := dk_16 7 (dk_at dksX0_init_3 22 rfl rfl)
theorem dX0_init_92 : decode cX0_init 92 = .ok (.newarray .int, 2) := dk_188_10 (dk_at dksX0_init_4 0 rfl rfl)
theorem dX0_init_94 : decode cX0_init 94 = .ok (.putfield 82, 3) := dk_181 0 82 (dk_at dksX0_init_4 2 rfl rfl)
theorem dX0_init_97 : decode cX0_init 97 = .ok (.aload_n 0, 1) := dk_42 (dk_at dksX0_init_4 5 rfl rfl)
theorem dX0_init_98 : decode cX0_init 98 = .ok (.bipush 49, 2) := dk_16 49 (dk_at dksX0_init_4 6 rfl rfl)
theorem dX0_init_100 : decode cX0_init 100 = .ok (.newarray .boolean, 2) := dk_188_4 (dk_at dksX0_init_4 8 rfl rfl)
theorem dX0_init_102 : decode cX0_init 102 = .ok (.putfield 85, 3) := dk_181 0 85 (dk_at dksX0_init_4 10 rfl rfl)
theorem dX0_init_105 : decode cX0_init 105 = .ok (.aload_n 0, 1) := dk_42 (dk_at dksX0_init_4 13 rfl rfl)
theorem dX0_init_106 : decode cX0_init 106 = .ok (.bipush 7, 2) := dk_16 7 (dk_at dksX0_init_4 14 rfl rfl)
theorem dX0_init_108 : decode cX0_init 108 = .ok (.newarray .int, 2) := dk_188_10 (dk_at dksX0_init_4 16 rfl rfl)
theorem dX0_init_110 : decode cX0_init 110 = .ok (.putfield 88, 3) := dk_181 0 88 (dk_at dksX0_init_4 18 rfl rfl)
theorem dX0_init_113 : decode cX0_init 113 = .ok (.aload_n 0, 1) := dk_42 (dk_at dksX0_init_4 21 rfl rfl)
theorem dX0_init_114 : decode cX0_init 114 = .ok (.bipush 7, 2) := dk_16 7 (dk_at dksX0_init_4 22 rfl rfl)
theorem dX0_init_116 : decode cX0_init 116 = .ok (.newarray .int, 2) := dk_188_10 (dk_at dksX0_init_5 0 rfl rfl)
theorem dX0_init_118 : decode cX0_init 118 = .ok (.putfield 91, 3) := dk_181 0 91 (dk_at dksX0_init_5 2 rfl rfl)
theorem dX0_init_121 : decode cX0_init 121 = .ok (.aload_n 0, 1) := dk_42 (dk_at dksX0_init_5 5 rfl rfl)
theorem dX0_init_122 : decode cX0_init 122 = .ok (.bipush 24, 2) := dk_16 24 (dk_at dksX0_init_5 6 rfl rfl)
theorem dX0_init_124 : decode cX0_init 124 = .ok (.newarray .int, 2) := dk_188_10 (dk_at dksX0_init_5 8 rfl rfl)
theorem dX0_init_126 : decode cX0_init 126 = .ok (.putfield 94, 3) := dk_181 0 94 (dk_at dksX0_init_5 10 rfl rfl)
theorem dX0_init_129 : decode cX0_init 129 = .ok (.aload_n 0, 1) := dk_42 (dk_at dksX0_init_5 13 rfl rfl)
theorem dX0_init_130 : decode cX0_init 130 = .ok (.bipush 24, 2) := dk_16 24 (dk_at dksX0_init_5 14 rfl rfl)
theorem dX0_init_132 : decode cX0_init 132 = .ok (.newarray .int, 2) := dk_188_10 (dk_at dksX0_init_5 16 rfl rfl)
theorem dX0_init_134 : decode cX0_init 134 = .ok (.putfield 97, 3) := dk_181 0 97 (dk_at dksX0_init_5 18 rfl rfl)
theorem dX0_init_137 : decode cX0_init 137 = .ok (.aload_n 0, 1) := dk_42 (dk_at dksX0_init_5 21 rfl rfl)
theorem dX0_init_138 : decode cX0_init 138 = .ok (.bipush 101, 2) := dk_16 101 (dk_at dksX0_init_5 22 rfl rfl)
theorem dX0_init_140 : decode cX0_init 140 = .ok (.anewarray 100, 3) := dk_189 0 100 (dk_at dksX0_init_6 0 rfl rfl)
theorem dX0_init_143 : decode cX0_init 143 = .ok (.putfield 101, 3) := dk_181 0 101 (dk_at dksX0_init_6 3 rfl rfl)
theorem dX0_init_146 : decode cX0_init 146 = .ok (.iconst 1, 1) := dk_4 (dk_at dksX0_init_6 6 rfl rfl)
theorem dX0_init_147 : decode cX0_init 147 = .ok (.istore_n 1, 1) := dk_60 (dk_at dksX0_init_6 7 rfl rfl)
theorem dX0_init_148 : decode cX0_init 148 = .ok (.iload_n 1, 1) := dk_27 (dk_at dksX0_init_6 8 rfl rfl)
theorem dX0_init_149 : decode cX0_init 149 = .ok (.bipush 9, 2) := dk_16 9 (dk_at dksX0_init_6 9 rfl rfl)
theorem dX0_init_151 : decode cX0_init 151 = .ok (.if_icmp .ge 24, 3) := dk_162 0 24 (dk_at dksX0_init_6 11 rfl rfl)
theorem dX0_init_154 : decode cX0_init 154 = .ok (.aload_n 0, 1) := dk_42 (dk_at dksX0_init_6 14 rfl rfl)
theorem dX0_init_155 : decode cX0_init 155 = .ok (.getfield 7, 3) := dk_180 0 7 (dk_at dksX0_init_6 15 rfl rfl)
theorem dX0_init_158 : decode cX0_init 158 = .ok (.iload_n 1, 1) := dk_27 (dk_at dksX0_init_6 18 rfl rfl)
theorem dX0_init_159 : decode cX0_init 159 = .ok (.new 56, 3) := dk_187 0 56 (dk_at dksX0_init_6 19 rfl rfl)
theorem dX0_init_162 : decode cX0_init 162 = .ok (.dup, 1) := dk_89 (dk_at dksX0_init_6 22 rfl rfl)
theorem dX0_init_163 : decode cX0_init 163 = .ok (.iload_n 1, 1) := dk_27 (dk_at dksX0_init_6 23 rfl rfl)
theorem dX0_init_164 : decode cX0_init 164 = .ok (.ineg, 1) := dk_116 (dk_at dksX0_init_7 0 rfl rfl)
theorem dX0_init_165 : decode cX0_init 165 = .ok (.invokespecial 105, 3) := dk_183 0 105 (dk_at dksX0_init_7 1 rfl rfl)
theorem dX0_init_168 : decode cX0_init 168 = .ok (.aastore, 1) := dk_83 (dk_at dksX0_init_7 4 rfl rfl)
theorem dX0_init_169 : decode cX0_init 169 = .ok (.iinc 1 1, 3) := dk_132 1 1 (dk_at dksX0_init_7 5 rfl rfl)
theorem dX0_init_172 : decode cX0_init 172 = .ok (.goto (-24), 3) := dk_167 255 232 (dk_at dksX0_init_7 8 rfl rfl)
theorem dX0_init_175 : decode cX0_init 175 = .ok (.return_, 1) := dk_177 (dk_at dksX0_init_7 11 rfl rfl)
abbrev cX0_stand : ByteArray := prog_1_method_14_code
def yX0_stand : MethodName := ⟨RX0, "stand", "(IIII)I"⟩
def dkwX0_stand_10 : List UInt8 := [21, 6, 172]
abbrev dktX0_stand_10 : List UInt8 := dkwX0_stand_10 ++ []
def dkwX0_stand_9 : List UInt8 := [180, 0, 19, 180, 0, 145, 21, 6, 2, 79, 42, 180, 0, 19, 89, 180, 0, 23, 4, 96, 181, 0, 23]
abbrev dktX0_stand_9 : List UInt8 := dkwX0_stand_9 ++ dktX0_stand_10
def dkwX0_stand_8 : List UInt8 := [180, 0, 19, 180, 0, 139, 21, 6, 21, 4, 79, 42, 180, 0, 19, 180, 0, 142, 21, 6, 2, 79, 42]
abbrev dktX0_stand_8 : List UInt8 := dkwX0_stand_8 ++ dktX0_stand_9
def dkwX0_stand_7 : List UInt8 := [42, 180, 0, 19, 180, 0, 133, 21, 6, 28, 79, 42, 180, 0, 19, 180, 0, 136, 21, 6, 29, 79, 42]
abbrev dktX0_stand_7 : List UInt8 := dkwX0_stand_7 ++ dktX0_stand_8
def dkwX0_stand_6 : List UInt8 := [21, 6, 27, 16, 10, 108, 16, 10, 112, 79, 42, 180, 0, 19, 180, 0, 130, 21, 6, 27, 16, 10, 112, 79]
abbrev dktX0_stand_6 : List UInt8 := dkwX0_stand_6 ++ dktX0_stand_7
def dkwX0_stand_5 : List UInt8 := [180, 0, 19, 180, 0, 124, 21, 6, 27, 16, 100, 108, 16, 10, 112, 79, 42, 180, 0, 19, 180, 0, 127]
abbrev dktX0_stand_5 : List UInt8 := dkwX0_stand_5 ++ dktX0_stand_6
def dkwX0_stand_4 : List UInt8 := [180, 0, 19, 180, 0, 23, 54, 6, 42, 180, 0, 19, 180, 0, 121, 21, 6, 27, 17, 3, 232, 108, 79, 42]
abbrev dktX0_stand_4 : List UInt8 := dkwX0_stand_4 ++ dktX0_stand_5
def dkwX0_stand_3 : List UInt8 := [182, 0, 118, 172, 42, 180, 0, 19, 180, 0, 23, 16, 24, 160, 0, 10, 42, 16, 248, 182, 0, 118, 172, 42]
abbrev dktX0_stand_3 : List UInt8 := dkwX0_stand_3 ++ dktX0_stand_4
def dkwX0_stand_2 : List UInt8 := [167, 0, 4, 3, 54, 5, 21, 5, 153, 0, 12, 21, 4, 154, 0, 14, 29, 158, 0, 10, 42, 16, 249]
abbrev dktX0_stand_2 : List UInt8 := dkwX0_stand_2 ++ dktX0_stand_3
def dkwX0_stand_1 : List UInt8 := [20, 0, 114, 184, 0, 31, 153, 0, 20, 21, 4, 133, 9, 20, 0, 116, 184, 0, 31, 153, 0, 7, 4]
abbrev dktX0_stand_1 : List UInt8 := dkwX0_stand_1 ++ dktX0_stand_2
def dkwX0_stand_0 : List UInt8 := [27, 184, 0, 108, 153, 0, 44, 28, 133, 10, 20, 0, 112, 184, 0, 31, 153, 0, 32, 29, 133, 9]
abbrev dktX0_stand_0 : List UInt8 := dkwX0_stand_0 ++ dktX0_stand_1
theorem dksX0_stand_0 : cX0_stand.data.toList.drop 0 = dktX0_stand_0 := by decide +kernel
theorem dksX0_stand_1 : cX0_stand.data.toList.drop 22 = dktX0_stand_1 := dk_seg dksX0_stand_0 22 rfl rfl
theorem dksX0_stand_2 : cX0_stand.data.toList.drop 45 = dktX0_stand_2 := dk_seg dksX0_stand_1 23 rfl rfl
theorem dksX0_stand_3 : cX0_stand.data.toList.drop 68 = dktX0_stand_3 := dk_seg dksX0_stand_2 23 rfl rfl
theorem dksX0_stand_4 : cX0_stand.data.toList.drop 92 = dktX0_stand_4 := dk_seg dksX0_stand_3 24 rfl rfl
theorem dksX0_stand_5 : cX0_stand.data.toList.drop 116 = dktX0_stand_5 := dk_seg dksX0_stand_4 24 rfl rfl
theorem dksX0_stand_6 : cX0_stand.data.toList.drop 139 = dktX0_stand_6 := dk_seg dksX0_stand_5 23 rfl rfl
theorem dksX0_stand_7 : cX0_stand.data.toList.drop 163 = dktX0_stand_7 := dk_seg dksX0_stand_6 24 rfl rfl
theorem dksX0_stand_8 : cX0_stand.data.toList.drop 186 = dktX0_stand_8 := dk_seg dksX0_stand_7 23 rfl rfl
theorem dksX0_stand_9 : cX0_stand.data.toList.drop 209 = dktX0_stand_9 := dk_seg dksX0_stand_8 23 rfl rfl
theorem dksX0_stand_10 : cX0_stand.data.toList.drop 232 = dktX0_stand_10 := dk_seg dksX0_stand_9 23 rfl rfl
theorem dX0_stand_0 : decode cX0_stand 0 = .ok (.iload_n 1, 1) := dk_27 (dk_at dksX0_stand_0 0 rfl rfl)
theorem dX0_stand_1 : decode cX0_stand 1 = .ok (.invokestatic 108, 3) := dk_184 0 108 (dk_at dksX0_stand_0 1 rfl rfl)
theorem dX0_stand_4 : decode cX0_stand 4 = .ok (.ifCond .eq 44, 3) := dk_153 0 44 (dk_at dksX0_stand_0 4 rfl rfl)
theorem dX0_stand_7 : decode cX0_stand 7 = .ok (.iload_n 2, 1) := dk_28 (dk_at dksX0_stand_0 7 rfl rfl)
theorem dX0_stand_8 : decode cX0_stand 8 = .ok (.i2l, 1) := dk_133 (dk_at dksX0_stand_0 8 rfl rfl)
theorem dX0_stand_9 : decode cX0_stand 9 = .ok (.lconst 1, 1) := dk_10 (dk_at dksX0_stand_0 9 rfl rfl)
theorem dX0_stand_10 : decode cX0_stand 10 = .ok (.ldc2_w 112, 3) := dk_20 0 112 (dk_at dksX0_stand_0 10 rfl rfl)
theorem dX0_stand_13 : decode cX0_stand 13 = .ok (.invokestatic 31, 3) := dk_184 0 31 (dk_at dksX0_stand_0 13 rfl rfl)
theorem dX0_stand_16 : decode cX0_stand 16 = .ok (.ifCond .eq 32, 3) := dk_153 0 32 (dk_at dksX0_stand_0 16 rfl rfl)
theorem dX0_stand_19 : decode cX0_stand 19 = .ok (.iload_n 3, 1) := dk_29 (dk_at dksX0_stand_0 19 rfl rfl)
theorem dX0_stand_20 : decode cX0_stand 20 = .ok (.i2l, 1) := dk_133 (dk_at dksX0_stand_0 20 rfl rfl)
theorem dX0_stand_21 : decode cX0_stand 21 = .ok (.lconst 0, 1) := dk_9 (dk_at dksX0_stand_0 21 rfl rfl)
theorem dX0_stand_22 : decode cX0_stand 22 = .ok (.ldc2_w 114, 3) := dk_20 0 114 (dk_at dksX0_stand_1 0 rfl rfl)
theorem dX0_stand_25 : decode cX0_stand 25 = .ok (.invokestatic 31, 3) := dk_184 0 31 (dk_at dksX0_stand_1 3 rfl rfl)
theorem dX0_stand_28 : decode cX0_stand 28 = .ok (.ifCond .eq 20, 3) := dk_153 0 20 (dk_at dksX0_stand_1 6 rfl rfl)
theorem dX0_stand_31 : decode cX0_stand 31 = .ok (.iload 4, 2) := dk_21 4 (dk_at dksX0_stand_1 9 rfl rfl)
theorem dX0_stand_33 : decode cX0_stand 33 = .ok (.i2l, 1) := dk_133 (dk_at dksX0_stand_1 11 rfl rfl)
theorem dX0_stand_34 : decode cX0_stand 34 = .ok (.lconst 0, 1) := dk_9 (dk_at dksX0_stand_1 12 rfl rfl)
theorem dX0_stand_35 : decode cX0_stand 35 = .ok (.ldc2_w 116, 3) := dk_20 0 116 (dk_at dksX0_stand_1 13 rfl rfl)
theorem dX0_stand_38 : decode cX0_stand 38 = .ok (.invokestatic 31, 3) := dk_184 0 31 (dk_at dksX0_stand_1 16 rfl rfl)
theorem dX0_stand_41 : decode cX0_stand 41 = .ok (.ifCond .eq 7, 3) := dk_153 0 7 (dk_at dksX0_stand_1 19 rfl rfl)
theorem dX0_stand_44 : decode cX0_stand 44 = .ok (.iconst 1, 1) := dk_4 (dk_at dksX0_stand_1 22 rfl rfl)
theorem dX0_stand_45 : decode cX0_stand 45 = .ok (.goto 4, 3) := dk_167 0 4 (dk_at dksX0_stand_2 0 rfl rfl)
theorem dX0_stand_48 : decode cX0_stand 48 = .ok (.iconst 0, 1) := dk_3 (dk_at dksX0_stand_2 3 rfl rfl)
theorem dX0_stand_49 : decode cX0_stand 49 = .ok (.istore 5, 2) := dk_54 5 (dk_at dksX0_stand_2 4 rfl rfl)
theorem dX0_stand_51 : decode cX0_stand 51 = .ok (.iload 5, 2) := dk_21 5 (dk_at dksX0_stand_2 6 rfl rfl)
theorem dX0_stand_53 : decode cX0_stand 53 = .ok (.ifCond .eq 12, 3) := dk_153 0 12 (dk_at dksX0_stand_2 8 rfl rfl)
theorem dX0_stand_56 : decode cX0_stand 56 = .ok (.iload 4, 2) := dk_21 4 (dk_at dksX0_stand_2 11 rfl rfl)
theorem dX0_stand_58 : decode cX0_stand 58 = .ok (.ifCond .ne 14, 3) := dk_154 0 14 (dk_at dksX0_stand_2 13 rfl rfl)
theorem dX0_stand_61 : decode cX0_stand 61 = .ok (.iload_n 3, 1) := dk_29 (dk_at dksX0_stand_2 16 rfl rfl)
theorem dX0_stand_62 : decode cX0_stand 62 = .ok (.ifCond .le 10, 3) := dk_158 0 10 (dk_at dksX0_stand_2 17 rfl rfl)
theorem dX0_stand_65 : decode cX0_stand 65 = .ok (.aload_n 0, 1) := dk_42 (dk_at dksX0_stand_2 20 rfl rfl)
theorem dX0_stand_66 : decode cX0_stand 66 = .ok (.bipush (-7), 2) := dk_16 249 (dk_at dksX0_stand_2 21 rfl rfl)
theorem dX0_stand_68 : decode cX0_stand 68 = .ok (.invokevirtual 118, 3) := dk_182 0 118 (dk_at dksX0_stand_3 0 rfl rfl)
theorem dX0_stand_71 : decode cX0_stand 71 = .ok (.ireturn, 1) := dk_172 (dk_at dksX0_stand_3 3 rfl rfl)
theorem dX0_stand_72 : decode cX0_stand 72 = .ok (.aload_n 0, 1) := dk_42 (dk_at dksX0_stand_3 4 rfl rfl)
theorem dX0_stand_73 : decode cX0_stand 73 = .ok (.getfield 19, 3) := dk_180 0 19 (dk_at dksX0_stand_3 5 rfl rfl)
theorem dX0_stand_76 : decode cX0_stand 76 = .ok (.getfield 23, 3) := dk_180 0 23 (dk_at dksX0_stand_3 8 rfl rfl)
theorem dX0_stand_79 : decode cX0_stand 79 = .ok (.bipush 24, 2) := dk_16 24 (dk_at dksX0_stand_3 11 rfl rfl)
theorem dX0_stand_81 : decode cX0_stand 81 = .ok (.if_icmp .ne 10, 3) := dk_160 0 10 (dk_at dksX0_stand_3 13 rfl rfl)
theorem dX0_stand_84 : decode cX0_stand 84 = .ok (.aload_n 0, 1) := dk_42 (dk_at dksX0_stand_3 16 rfl rfl)
theorem dX0_stand_85 : decode cX0_stand 85 = .ok (.bipush (-8), 2) := dk_16 248 (dk_at dksX0_stand_3 17 rfl rfl)
theorem dX0_stand_87 : decode cX0_stand 87 = .ok (.invokevirtual 118, 3) := dk_182 0 118 (dk_at dksX0_stand_3 19 rfl rfl)
theorem dX0_stand_90 : decode cX0_stand 90 = .ok (.ireturn, 1) := dk_172 (dk_at dksX0_stand_3 22 rfl rfl)
theorem dX0_stand_91 : decode cX0_stand 91 = .ok (.aload_n 0, 1) := dk_42 (dk_at dksX0_stand_3 23 rfl rfl)
theorem dX0_stand_92 : decode cX0_stand 92 = .ok (.getfield 19, 3) := dk_180 0 19 (dk_at dksX0_stand_4 0 rfl rfl)
theorem dX0_stand_95 : decode cX0_stand 95 = .ok (.getfield 23, 3) := dk_180 0 23 (dk_at dksX0_stand_4 3 rfl rfl)
theorem dX0_stand_98 : decode cX0_stand 98 = .ok (.istore 6, 2) := dk_54 6 (dk_at dksX0_stand_4 6 rfl rfl)
theorem dX0_stand_100 : decode cX0_stand 100 = .ok (.aload_n 0, 1) := dk_42 (dk_at dksX0_stand_4 8 rfl rfl)
theorem dX0_stand_101 : decode cX0_stand 101 = .ok (.getfield 19, 3) := dk_180 0 19 (dk_at dksX0_stand_4 9 rfl rfl)
theorem dX0_stand_104 : decode cX0_stand 104 = .ok (.getfield 121, 3) := dk_180 0 121 (dk_at dksX0_stand_4 12 rfl rfl)
theorem dX0_stand_107 : decode cX0_stand 107 = .ok (.iload 6, 2) := dk_21 6 (dk_at dksX0_stand_4 15 rfl rfl)
theorem dX0_stand_109 : decode cX0_stand 109 = .ok (.iload_n 1, 1) := dk_27 (dk_at dksX0_stand_4 17 rfl rfl)
theorem dX0_stand_110 : decode cX0_stand 110 = .ok (.sipush 1000, 3) := dk_17 3 232 (dk_at dksX0_stand_4 18 rfl rfl)
theorem dX0_stand_113 : decode cX0_stand 113 = .ok (.idiv, 1) := dk_108 (dk_at dksX0_stand_4 21 rfl rfl)
theorem dX0_stand_114 : decode cX0_stand 114 = .ok (.iastore, 1) := dk_79 (dk_at dksX0_stand_4 22 rfl rfl)
theorem dX0_stand_115 : decode cX0_stand 115 = .ok (.aload_n 0, 1) := dk_42 (dk_at dksX0_stand_4 23 rfl rfl)
theorem dX0_stand_116 : decode cX0_stand 116 = .ok (.getfield 19, 3) := dk_180 0 19 (dk_at dksX0_stand_5 0 rfl rfl)
theorem dX0_stand_119 : decode cX0_stand 119 = .ok (.getfield 124, 3) := dk_180 0 124 (dk_at dksX0_stand_5 3 rfl rfl)
theorem dX0_stand_122 : decode cX0_stand 122 = .ok (.iload 6, 2) := dk_21 6 (dk_at dksX0_stand_5 6 rfl rfl)
theorem dX0_stand_124 : decode cX0_stand 124 = .ok (.iload_n 1, 1) := dk_27 (dk_at dksX0_stand_5 8 rfl rfl)
theorem dX0_stand_125 : decode cX0_stand 125 = .ok (.bipush 100, 2) := dk_16 100 (dk_at dksX0_stand_5 9 rfl rfl)
theorem dX0_stand_127 : decode cX0_stand 127 = .ok (.idiv, 1) := dk_108 (dk_at dksX0_stand_5 11 rfl rfl)
theorem dX0_stand_128 : decode cX0_stand 128 = .ok (.bipush 10, 2) := dk_16 10 (dk_at dksX0_stand_5 12 rfl rfl)
theorem dX0_stand_130 : decode cX0_stand 130 = .ok (.irem, 1) := dk_112 (dk_at dksX0_stand_5 14 rfl rfl)
theorem dX0_stand_131 : decode cX0_stand 131 = .ok (.iastore, 1) := dk_79 (dk_at dksX0_stand_5 15 rfl rfl)
theorem dX0_stand_132 : decode cX0_stand 132 = .ok (.aload_n 0, 1) := dk_42 (dk_at dksX0_stand_5 16 rfl rfl)
theorem dX0_stand_133 : decode cX0_stand 133 = .ok (.getfield 19, 3) := dk_180 0 19 (dk_at dksX0_stand_5 17 rfl rfl)
theorem dX0_stand_136 : decode cX0_stand 136 = .ok (.getfield 127, 3) := dk_180 0 127 (dk_at dksX0_stand_5 20 rfl rfl)
theorem dX0_stand_139 : decode cX0_stand 139 = .ok (.iload 6, 2) := dk_21 6 (dk_at dksX0_stand_6 0 rfl rfl)
theorem dX0_stand_141 : decode cX0_stand 141 = .ok (.iload_n 1, 1) := dk_27 (dk_at dksX0_stand_6 2 rfl rfl)
theorem dX0_stand_142 : decode cX0_stand 142 = .ok (.bipush 10, 2) := dk_16 10 (dk_at dksX0_stand_6 3 rfl rfl)
theorem dX0_stand_144 : decode cX0_stand 144 = .ok (.idiv, 1) := dk_108 (dk_at dksX0_stand_6 5 rfl rfl)
theorem dX0_stand_145 : decode cX0_stand 145 = .ok (.bipush 10, 2) := dk_16 10 (dk_at dksX0_stand_6 6 rfl rfl)
theorem dX0_stand_147 : decode cX0_stand 147 = .ok (.irem, 1) := dk_112 (dk_at dksX0_stand_6 8 rfl rfl)
theorem dX0_stand_148 : decode cX0_stand 148 = .ok (.iastore, 1) := dk_79 (dk_at dksX0_stand_6 9 rfl rfl)
theorem dX0_stand_149 : decode cX0_stand 149 = .ok (.aload_n 0, 1) := dk_42 (dk_at dksX0_stand_6 10 rfl rfl)
theorem dX0_stand_150 : decode cX0_stand 150 = .ok (.getfield 19, 3) := dk_180 0 19 (dk_at dksX0_stand_6 11 rfl rfl)
theorem dX0_stand_153 : decode cX0_stand 153 = .ok (.getfield 130, 3) := dk_180 0 130 (dk_at dksX0_stand_6 14 rfl rfl)
theorem dX0_stand_156 : decode cX0_stand 156 = .ok (.iload 6, 2) := dk_21 6 (dk_at dksX0_stand_6 17 rfl rfl)
theorem dX0_stand_158 : decode cX0_stand 158 = .ok (.iload_n 1, 1) := dk_27 (dk_at dksX0_stand_6 19 rfl rfl)
theorem dX0_stand_159 : decode cX0_stand 159 = .ok (.bipush 10, 2) := dk_16 10 (dk_at dksX0_stand_6 20 rfl rfl)
theorem dX0_stand_161 : decode cX0_stand 161 = .ok (.irem, 1) := dk_112 (dk_at dksX0_stand_6 22 rfl rfl)
theorem dX0_stand_162 : decode cX0_stand 162 = .ok (.iastore, 1) := dk_79 (dk_at dksX0_stand_6 23 rfl rfl)
theorem dX0_stand_163 : decode cX0_stand 163 = .ok (.aload_n 0, 1) := dk_42 (dk_at dksX0_stand_7 0 rfl rfl)
theorem dX0_stand_164 : decode cX0_stand 164 = .ok (.getfield 19, 3) := dk_180 0 19 (dk_at dksX0_stand_7 1 rfl rfl)
theorem dX0_stand_167 : decode cX0_stand 167 = .ok (.getfield 133, 3) := dk_180 0 133 (dk_at dksX0_stand_7 4 rfl rfl)
theorem dX0_stand_170 : decode cX0_stand 170 = .ok (.iload 6, 2) := dk_21 6 (dk_at dksX0_stand_7 7 rfl rfl)
theorem dX0_stand_172 : decode cX0_stand 172 = .ok (.iload_n 2, 1) := dk_28 (dk_at dksX0_stand_7 9 rfl rfl)
theorem dX0_stand_173 : decode cX0_stand 173 = .ok (.iastore, 1) := dk_79 (dk_at dksX0_stand_7 10 rfl rfl)
theorem dX0_stand_174 : decode cX0_stand 174 = .ok (.aload_n 0, 1) := dk_42 (dk_at dksX0_stand_7 11 rfl rfl)
theorem dX0_stand_175 : decode cX0_stand 175 = .ok (.getfield 19, 3) := dk_180 0 19 (dk_at dksX0_stand_7 12 rfl rfl)
theorem dX0_stand_178 : decode cX0_stand 178 = .ok (.getfield 136, 3) := dk_180 0 136 (dk_at dksX0_stand_7 15 rfl rfl)
theorem dX0_stand_181 : decode cX0_stand 181 = .ok (.iload 6, 2) := dk_21 6 (dk_at dksX0_stand_7 18 rfl rfl)
theorem dX0_stand_183 : decode cX0_stand 183 = .ok (.iload_n 3, 1) := dk_29 (dk_at dksX0_stand_7 20 rfl rfl)
theorem dX0_stand_184 : decode cX0_stand 184 = .ok (.iastore, 1) := dk_79 (dk_at dksX0_stand_7 21 rfl rfl)
theorem dX0_stand_185 : decode cX0_stand 185 = .ok (.aload_n 0, 1) := dk_42 (dk_at dksX0_stand_7 22 rfl rfl)
theorem dX0_stand_186 : decode cX0_stand 186 = .ok (.getfield 19, 3) := dk_180 0 19 (dk_at dksX0_stand_8 0 rfl rfl)
theorem dX0_stand_189 : decode cX0_stand 189 = .ok (.getfield 139, 3) := dk_180 0 139 (dk_at dksX0_stand_8 3 rfl rfl)
theorem dX0_stand_192 : decode cX0_stand 192 = .ok (.iload 6, 2) := dk_21 6 (dk_at dksX0_stand_8 6 rfl rfl)
theorem dX0_stand_194 : decode cX0_stand 194 = .ok (.iload 4, 2) := dk_21 4 (dk_at dksX0_stand_8 8 rfl rfl)
theorem dX0_stand_196 : decode cX0_stand 196 = .ok (.iastore, 1) := dk_79 (dk_at dksX0_stand_8 10 rfl rfl)
theorem dX0_stand_197 : decode cX0_stand 197 = .ok (.aload_n 0, 1) := dk_42 (dk_at dksX0_stand_8 11 rfl rfl)
theorem dX0_stand_198 : decode cX0_stand 198 = .ok (.getfield 19, 3) := dk_180 0 19 (dk_at dksX0_stand_8 12 rfl rfl)
theorem dX0_stand_201 : decode cX0_stand 201 = .ok (.getfield 142, 3) := dk_180 0 142 (dk_at dksX0_stand_8 15 rfl rfl)
theorem dX0_stand_204 : decode cX0_stand 204 = .ok (.iload 6, 2) := dk_21 6 (dk_at dksX0_stand_8 18 rfl rfl)
theorem dX0_stand_206 : decode cX0_stand 206 = .ok (.iconst (-1), 1) := dk_2 (dk_at dksX0_stand_8 20 rfl rfl)
theorem dX0_stand_207 : decode cX0_stand 207 = .ok (.iastore, 1) := dk_79 (dk_at dksX0_stand_8 21 rfl rfl)
theorem dX0_stand_208 : decode cX0_stand 208 = .ok (.aload_n 0, 1) := dk_42 (dk_at dksX0_stand_8 22 rfl rfl)
theorem dX0_stand_209 : decode cX0_stand 209 = .ok (.getfield 19, 3) := dk_180 0 19 (dk_at dksX0_stand_9 0 rfl rfl)
theorem dX0_stand_212 : decode cX0_stand 212 = .ok (.getfield 145, 3) := dk_180 0 145 (dk_at dksX0_stand_9 3 rfl rfl)
theorem dX0_stand_215 : decode cX0_stand 215 = .ok (.iload 6, 2) := dk_21 6 (dk_at dksX0_stand_9 6 rfl rfl)
theorem dX0_stand_217 : decode cX0_stand 217 = .ok (.iconst (-1), 1) := dk_2 (dk_at dksX0_stand_9 8 rfl rfl)
theorem dX0_stand_218 : decode cX0_stand 218 = .ok (.iastore, 1) := dk_79 (dk_at dksX0_stand_9 9 rfl rfl)
theorem dX0_stand_219 : decode cX0_stand 219 = .ok (.aload_n 0, 1) := dk_42 (dk_at dksX0_stand_9 10 rfl rfl)
theorem dX0_stand_220 : decode cX0_stand 220 = .ok (.getfield 19, 3) := dk_180 0 19 (dk_at dksX0_stand_9 11 rfl rfl)
theorem dX0_stand_223 : decode cX0_stand 223 = .ok (.dup, 1) := dk_89 (dk_at dksX0_stand_9 14 rfl rfl)
theorem dX0_stand_224 : decode cX0_stand 224 = .ok (.getfield 23, 3) := dk_180 0 23 (dk_at dksX0_stand_9 15 rfl rfl)
theorem dX0_stand_227 : decode cX0_stand 227 = .ok (.iconst 1, 1) := dk_4 (dk_at dksX0_stand_9 18 rfl rfl)
theorem dX0_stand_228 : decode cX0_stand 228 = .ok (.iadd, 1) := dk_96 (dk_at dksX0_stand_9 19 rfl rfl)
theorem dX0_stand_229 : decode cX0_stand 229 = .ok (.putfield 23, 3) := dk_181 0 23 (dk_at dksX0_stand_9 20 rfl rfl)
theorem dX0_stand_232 : decode cX0_stand 232 = .ok (.iload 6, 2) := dk_21 6 (dk_at dksX0_stand_10 0 rfl rfl)
theorem dX0_stand_234 : decode cX0_stand 234 = .ok (.ireturn, 1) := dk_172 (dk_at dksX0_stand_10 2 rfl rfl)
abbrev cX0_isStandTold : ByteArray := prog_1_method_13_code
def yX0_isStandTold : MethodName := ⟨RX0, "isStandTold", "(I)Z"⟩
def dkwX0_isStandTold_2 : List UInt8 := [167, 0, 4, 3, 172]
abbrev dktX0_isStandTold_2 : List UInt8 := dkwX0_isStandTold_2 ++ []
def dkwX0_isStandTold_1 : List UInt8 := [162, 0, 26, 26, 16, 10, 108, 16, 10, 112, 7, 163, 0, 15, 26, 16, 10, 112, 6, 163, 0, 7, 4]
abbrev dktX0_isStandTold_1 : List UInt8 := dkwX0_isStandTold_1 ++ dktX0_isStandTold_2
def dkwX0_isStandTold_0 : List UInt8 := [26, 155, 0, 47, 26, 17, 3, 232, 108, 4, 163, 0, 38, 26, 16, 100, 108, 16, 10, 112, 16, 6]
abbrev dktX0_isStandTold_0 : List UInt8 := dkwX0_isStandTold_0 ++ dktX0_isStandTold_1
theorem dksX0_isStandTold_0 : cX0_isStandTold.data.toList.drop 0 = dktX0_isStandTold_0 := by decide +kernel
theorem dksX0_isStandTold_1 : cX0_isStandTold.data.toList.drop 22 = dktX0_isStandTold_1 := dk_seg dksX0_isStandTold_0 22 rfl rfl
theorem dksX0_isStandTold_2 : cX0_isStandTold.data.toList.drop 45 = dktX0_isStandTold_2 := dk_seg dksX0_isStandTold_1 23 rfl rfl
theorem dX0_isStandTold_0 : decode cX0_isStandTold 0 = .ok (.iload_n 0, 1) := dk_26 (dk_at dksX0_isStandTold_0 0 rfl rfl)
theorem dX0_isStandTold_1 : decode cX0_isStandTold 1 = .ok (.ifCond .lt 47, 3) := dk_155 0 47 (dk_at dksX0_isStandTold_0 1 rfl rfl)
theorem dX0_isStandTold_4 : decode cX0_isStandTold 4 = .ok (.iload_n 0, 1) := dk_26 (dk_at dksX0_isStandTold_0 4 rfl rfl)
theorem dX0_isStandTold_5 : decode cX0_isStandTold 5 = .ok (.sipush 1000, 3) := dk_17 3 232 (dk_at dksX0_isStandTold_0 5 rfl rfl)
theorem dX0_isStandTold_8 : decode cX0_isStandTold 8 = .ok (.idiv, 1) := dk_108 (dk_at dksX0_isStandTold_0 8 rfl rfl)
theorem dX0_isStandTold_9 : decode cX0_isStandTold 9 = .ok (.iconst 1, 1) := dk_4 (dk_at dksX0_isStandTold_0 9 rfl rfl)
theorem dX0_isStandTold_10 : decode cX0_isStandTold 10 = .ok (.if_icmp .gt 38, 3) := dk_163 0 38 (dk_at dksX0_isStandTold_0 10 rfl rfl)
theorem dX0_isStandTold_13 : decode cX0_isStandTold 13 = .ok (.iload_n 0, 1) := dk_26 (dk_at dksX0_isStandTold_0 13 rfl rfl)
theorem dX0_isStandTold_14 : decode cX0_isStandTold 14 = .ok (.bipush 100, 2) := dk_16 100 (dk_at dksX0_isStandTold_0 14 rfl rfl)
theorem dX0_isStandTold_16 : decode cX0_isStandTold 16 = .ok (.idiv, 1) := dk_108 (dk_at dksX0_isStandTold_0 16 rfl rfl)
theorem dX0_isStandTold_17 : decode cX0_isStandTold 17 = .ok (.bipush 10, 2) := dk_16 10 (dk_at dksX0_isStandTold_0 17 rfl rfl)
theorem dX0_isStandTold_19 : decode cX0_isStandTold 19 = .ok (.irem, 1) := dk_112 (dk_at dksX0_isStandTold_0 19 rfl rfl)
theorem dX0_isStandTold_20 : decode cX0_isStandTold 20 = .ok (.bipush 6, 2) := dk_16 6 (dk_at dksX0_isStandTold_0 20 rfl rfl)
theorem dX0_isStandTold_22 : decode cX0_isStandTold 22 = .ok (.if_icmp .ge 26, 3) := dk_162 0 26 (dk_at dksX0_isStandTold_1 0 rfl rfl)
theorem dX0_isStandTold_25 : decode cX0_isStandTold 25 = .ok (.iload_n 0, 1) := dk_26 (dk_at dksX0_isStandTold_1 3 rfl rfl)
theorem dX0_isStandTold_26 : decode cX0_isStandTold 26 = .ok (.bipush 10, 2) := dk_16 10 (dk_at dksX0_isStandTold_1 4 rfl rfl)
theorem dX0_isStandTold_28 : decode cX0_isStandTold 28 = .ok (.idiv, 1) := dk_108 (dk_at dksX0_isStandTold_1 6 rfl rfl)
theorem dX0_isStandTold_29 : decode cX0_isStandTold 29 = .ok (.bipush 10, 2) := dk_16 10 (dk_at dksX0_isStandTold_1 7 rfl rfl)
theorem dX0_isStandTold_31 : decode cX0_isStandTold 31 = .ok (.irem, 1) := dk_112 (dk_at dksX0_isStandTold_1 9 rfl rfl)
theorem dX0_isStandTold_32 : decode cX0_isStandTold 32 = .ok (.iconst 4, 1) := dk_7 (dk_at dksX0_isStandTold_1 10 rfl rfl)
theorem dX0_isStandTold_33 : decode cX0_isStandTold 33 = .ok (.if_icmp .gt 15, 3) := dk_163 0 15 (dk_at dksX0_isStandTold_1 11 rfl rfl)
theorem dX0_isStandTold_36 : decode cX0_isStandTold 36 = .ok (.iload_n 0, 1) := dk_26 (dk_at dksX0_isStandTold_1 14 rfl rfl)
theorem dX0_isStandTold_37 : decode cX0_isStandTold 37 = .ok (.bipush 10, 2) := dk_16 10 (dk_at dksX0_isStandTold_1 15 rfl rfl)
theorem dX0_isStandTold_39 : decode cX0_isStandTold 39 = .ok (.irem, 1) := dk_112 (dk_at dksX0_isStandTold_1 17 rfl rfl)
theorem dX0_isStandTold_40 : decode cX0_isStandTold 40 = .ok (.iconst 3, 1) := dk_6 (dk_at dksX0_isStandTold_1 18 rfl rfl)
theorem dX0_isStandTold_41 : decode cX0_isStandTold 41 = .ok (.if_icmp .gt 7, 3) := dk_163 0 7 (dk_at dksX0_isStandTold_1 19 rfl rfl)
theorem dX0_isStandTold_44 : decode cX0_isStandTold 44 = .ok (.iconst 1, 1) := dk_4 (dk_at dksX0_isStandTold_1 22 rfl rfl)
theorem dX0_isStandTold_45 : decode cX0_isStandTold 45 = .ok (.goto 4, 3) := dk_167 0 4 (dk_at dksX0_isStandTold_2 0 rfl rfl)
theorem dX0_isStandTold_48 : decode cX0_isStandTold 48 = .ok (.iconst 0, 1) := dk_3 (dk_at dksX0_isStandTold_2 3 rfl rfl)
theorem dX0_isStandTold_49 : decode cX0_isStandTold 49 = .ok (.ireturn, 1) := dk_172 (dk_at dksX0_isStandTold_2 4 rfl rfl)
abbrev cX0_isIn : ByteArray := prog_1_method_4_code
def yX0_isIn : MethodName := ⟨RX0, "isIn", "(JJJ)Z"⟩
def dkwX0_isIn_0 : List UInt8 := [30, 32, 148, 155, 0, 14, 30, 22, 4, 148, 157, 0, 7, 4, 167, 0, 4, 3, 172]
abbrev dktX0_isIn_0 : List UInt8 := dkwX0_isIn_0 ++ []
theorem dksX0_isIn_0 : cX0_isIn.data.toList.drop 0 = dktX0_isIn_0 := by decide +kernel
theorem dX0_isIn_0 : decode cX0_isIn 0 = .ok (.lload_n 0, 1) := dk_30 (dk_at dksX0_isIn_0 0 rfl rfl)
theorem dX0_isIn_1 : decode cX0_isIn 1 = .ok (.lload_n 2, 1) := dk_32 (dk_at dksX0_isIn_0 1 rfl rfl)
theorem dX0_isIn_2 : decode cX0_isIn 2 = .ok (.lcmp, 1) := dk_148 (dk_at dksX0_isIn_0 2 rfl rfl)
theorem dX0_isIn_3 : decode cX0_isIn 3 = .ok (.ifCond .lt 14, 3) := dk_155 0 14 (dk_at dksX0_isIn_0 3 rfl rfl)
theorem dX0_isIn_6 : decode cX0_isIn 6 = .ok (.lload_n 0, 1) := dk_30 (dk_at dksX0_isIn_0 6 rfl rfl)
theorem dX0_isIn_7 : decode cX0_isIn 7 = .ok (.lload 4, 2) := dk_22 4 (dk_at dksX0_isIn_0 7 rfl rfl)
theorem dX0_isIn_9 : decode cX0_isIn 9 = .ok (.lcmp, 1) := dk_148 (dk_at dksX0_isIn_0 9 rfl rfl)
theorem dX0_isIn_10 : decode cX0_isIn 10 = .ok (.ifCond .gt 7, 3) := dk_157 0 7 (dk_at dksX0_isIn_0 10 rfl rfl)
theorem dX0_isIn_13 : decode cX0_isIn 13 = .ok (.iconst 1, 1) := dk_4 (dk_at dksX0_isIn_0 13 rfl rfl)
theorem dX0_isIn_14 : decode cX0_isIn 14 = .ok (.goto 4, 3) := dk_167 0 4 (dk_at dksX0_isIn_0 14 rfl rfl)
theorem dX0_isIn_17 : decode cX0_isIn 17 = .ok (.iconst 0, 1) := dk_3 (dk_at dksX0_isIn_0 17 rfl rfl)
theorem dX0_isIn_18 : decode cX0_isIn 18 = .ok (.ireturn, 1) := dk_172 (dk_at dksX0_isIn_0 18 rfl rfl)
abbrev cX0_refuse : ByteArray := prog_1_method_1_code
def yX0_refuse : MethodName := ⟨RX0, "refuse", "(I)I"⟩
def dkwX0_refuse_0 : List UInt8 := [42, 180, 0, 1, 27, 116, 92, 46, 4, 96, 79, 27, 172]
abbrev dktX0_refuse_0 : List UInt8 := dkwX0_refuse_0 ++ []
theorem dksX0_refuse_0 : cX0_refuse.data.toList.drop 0 = dktX0_refuse_0 := by decide +kernel
theorem dX0_refuse_0 : decode cX0_refuse 0 = .ok (.aload_n 0, 1) := dk_42 (dk_at dksX0_refuse_0 0 rfl rfl)
theorem dX0_refuse_1 : decode cX0_refuse 1 = .ok (.getfield 1, 3) := dk_180 0 1 (dk_at dksX0_refuse_0 1 rfl rfl)
theorem dX0_refuse_4 : decode cX0_refuse 4 = .ok (.iload_n 1, 1) := dk_27 (dk_at dksX0_refuse_0 4 rfl rfl)
theorem dX0_refuse_5 : decode cX0_refuse 5 = .ok (.ineg, 1) := dk_116 (dk_at dksX0_refuse_0 5 rfl rfl)
theorem dX0_refuse_6 : decode cX0_refuse 6 = .ok (.dup2, 1) := dk_92 (dk_at dksX0_refuse_0 6 rfl rfl)
theorem dX0_refuse_7 : decode cX0_refuse 7 = .ok (.iaload, 1) := dk_46 (dk_at dksX0_refuse_0 7 rfl rfl)
theorem dX0_refuse_8 : decode cX0_refuse 8 = .ok (.iconst 1, 1) := dk_4 (dk_at dksX0_refuse_0 8 rfl rfl)
theorem dX0_refuse_9 : decode cX0_refuse 9 = .ok (.iadd, 1) := dk_96 (dk_at dksX0_refuse_0 9 rfl rfl)
theorem dX0_refuse_10 : decode cX0_refuse 10 = .ok (.iastore, 1) := dk_79 (dk_at dksX0_refuse_0 10 rfl rfl)
theorem dX0_refuse_11 : decode cX0_refuse 11 = .ok (.iload_n 1, 1) := dk_27 (dk_at dksX0_refuse_0 11 rfl rfl)
theorem dX0_refuse_12 : decode cX0_refuse 12 = .ok (.ireturn, 1) := dk_172 (dk_at dksX0_refuse_0 12 rfl rfl)
abbrev cX0_neighbours : ByteArray := prog_1_method_15_code
def yX0_neighbours : MethodName := ⟨RX0, "neighbours", "(II)I"⟩
def dkwX0_neighbours_5 : List UInt8 := [180, 0, 155, 172]
abbrev dktX0_neighbours_5 : List UInt8 := dkwX0_neighbours_5 ++ []
def dkwX0_neighbours_4 : List UInt8 := [180, 0, 155, 28, 79, 42, 180, 0, 19, 89, 180, 0, 155, 4, 96, 181, 0, 155, 42, 180, 0, 19]
abbrev dktX0_neighbours_4 : List UInt8 := dkwX0_neighbours_4 ++ dktX0_neighbours_5
def dkwX0_neighbours_3 : List UInt8 := [180, 0, 158, 42, 180, 0, 19, 180, 0, 155, 27, 79, 42, 180, 0, 19, 180, 0, 161, 42, 180, 0, 19]
abbrev dktX0_neighbours_3 : List UInt8 := dkwX0_neighbours_3 ++ dktX0_neighbours_4
def dkwX0_neighbours_2 : List UInt8 := [180, 0, 19, 180, 0, 155, 16, 60, 160, 0, 10, 42, 16, 248, 182, 0, 118, 172, 42, 180, 0, 19]
abbrev dktX0_neighbours_2 : List UInt8 := dkwX0_neighbours_2 ++ dktX0_neighbours_3
def dkwX0_neighbours_1 : List UInt8 := [28, 159, 0, 15, 42, 180, 0, 19, 27, 28, 182, 0, 151, 153, 0, 10, 42, 16, 249, 182, 0, 118, 172, 42]
abbrev dktX0_neighbours_1 : List UInt8 := dkwX0_neighbours_1 ++ dktX0_neighbours_2
def dkwX0_neighbours_0 : List UInt8 := [42, 27, 182, 0, 148, 153, 0, 11, 42, 28, 182, 0, 148, 154, 0, 10, 42, 16, 253, 182, 0, 118, 172, 27]
abbrev dktX0_neighbours_0 : List UInt8 := dkwX0_neighbours_0 ++ dktX0_neighbours_1
theorem dksX0_neighbours_0 : cX0_neighbours.data.toList.drop 0 = dktX0_neighbours_0 := by decide +kernel
theorem dksX0_neighbours_1 : cX0_neighbours.data.toList.drop 24 = dktX0_neighbours_1 := dk_seg dksX0_neighbours_0 24 rfl rfl
theorem dksX0_neighbours_2 : cX0_neighbours.data.toList.drop 48 = dktX0_neighbours_2 := dk_seg dksX0_neighbours_1 24 rfl rfl
theorem dksX0_neighbours_3 : cX0_neighbours.data.toList.drop 70 = dktX0_neighbours_3 := dk_seg dksX0_neighbours_2 22 rfl rfl
theorem dksX0_neighbours_4 : cX0_neighbours.data.toList.drop 93 = dktX0_neighbours_4 := dk_seg dksX0_neighbours_3 23 rfl rfl
theorem dksX0_neighbours_5 : cX0_neighbours.data.toList.drop 115 = dktX0_neighbours_5 := dk_seg dksX0_neighbours_4 22 rfl rfl
theorem dX0_neighbours_0 : decode cX0_neighbours 0 = .ok (.aload_n 0, 1) := dk_42 (dk_at dksX0_neighbours_0 0 rfl rfl)
theorem dX0_neighbours_1 : decode cX0_neighbours 1 = .ok (.iload_n 1, 1) := dk_27 (dk_at dksX0_neighbours_0 1 rfl rfl)
theorem dX0_neighbours_2 : decode cX0_neighbours 2 = .ok (.invokevirtual 148, 3) := dk_182 0 148 (dk_at dksX0_neighbours_0 2 rfl rfl)
theorem dX0_neighbours_5 : decode cX0_neighbours 5 = .ok (.ifCond .eq 11, 3) := dk_153 0 11 (dk_at dksX0_neighbours_0 5 rfl rfl)
theorem dX0_neighbours_8 : decode cX0_neighbours 8 = .ok (.aload_n 0, 1) := dk_42 (dk_at dksX0_neighbours_0 8 rfl rfl)
theorem dX0_neighbours_9 : decode cX0_neighbours 9 = .ok (.iload_n 2, 1) := dk_28 (dk_at dksX0_neighbours_0 9 rfl rfl)
theorem dX0_neighbours_10 : decode cX0_neighbours 10 = .ok (.invokevirtual 148, 3) := dk_182 0 148 (dk_at dksX0_neighbours_0 10 rfl rfl)
theorem dX0_neighbours_13 : decode cX0_neighbours 13 = .ok (.ifCond .ne 10, 3) := dk_154 0 10 (dk_at dksX0_neighbours_0 13 rfl rfl)
theorem dX0_neighbours_16 : decode cX0_neighbours 16 = .ok (.aload_n 0, 1) := dk_42 (dk_at dksX0_neighbours_0 16 rfl rfl)
theorem dX0_neighbours_17 : decode cX0_neighbours 17 = .ok (.bipush (-3), 2) := dk_16 253 (dk_at dksX0_neighbours_0 17 rfl rfl)
theorem dX0_neighbours_19 : decode cX0_neighbours 19 = .ok (.invokevirtual 118, 3) := dk_182 0 118 (dk_at dksX0_neighbours_0 19 rfl rfl)
theorem dX0_neighbours_22 : decode cX0_neighbours 22 = .ok (.ireturn, 1) := dk_172 (dk_at dksX0_neighbours_0 22 rfl rfl)
theorem dX0_neighbours_23 : decode cX0_neighbours 23 = .ok (.iload_n 1, 1) := dk_27 (dk_at dksX0_neighbours_0 23 rfl rfl)
theorem dX0_neighbours_24 : decode cX0_neighbours 24 = .ok (.iload_n 2, 1) := dk_28 (dk_at dksX0_neighbours_1 0 rfl rfl)
theorem dX0_neighbours_25 : decode cX0_neighbours 25 = .ok (.if_icmp .eq 15, 3) := dk_159 0 15 (dk_at dksX0_neighbours_1 1 rfl rfl)
theorem dX0_neighbours_28 : decode cX0_neighbours 28 = .ok (.aload_n 0, 1) := dk_42 (dk_at dksX0_neighbours_1 4 rfl rfl)
theorem dX0_neighbours_29 : decode cX0_neighbours 29 = .ok (.getfield 19, 3) := dk_180 0 19 (dk_at dksX0_neighbours_1 5 rfl rfl)
theorem dX0_neighbours_32 : decode cX0_neighbours 32 = .ok (.iload_n 1, 1) := dk_27 (dk_at dksX0_neighbours_1 8 rfl rfl)
theorem dX0_neighbours_33 : decode cX0_neighbours 33 = .ok (.iload_n 2, 1) := dk_28 (dk_at dksX0_neighbours_1 9 rfl rfl)
theorem dX0_neighbours_34 : decode cX0_neighbours 34 = .ok (.invokevirtual 151, 3) := dk_182 0 151 (dk_at dksX0_neighbours_1 10 rfl rfl)
theorem dX0_neighbours_37 : decode cX0_neighbours 37 = .ok (.ifCond .eq 10, 3) := dk_153 0 10 (dk_at dksX0_neighbours_1 13 rfl rfl)
theorem dX0_neighbours_40 : decode cX0_neighbours 40 = .ok (.aload_n 0, 1) := dk_42 (dk_at dksX0_neighbours_1 16 rfl rfl)
theorem dX0_neighbours_41 : decode cX0_neighbours 41 = .ok (.bipush (-7), 2) := dk_16 249 (dk_at dksX0_neighbours_1 17 rfl rfl)
theorem dX0_neighbours_43 : decode cX0_neighbours 43 = .ok (.invokevirtual 118, 3) := dk_182 0 118 (dk_at dksX0_neighbours_1 19 rfl rfl)
theorem dX0_neighbours_46 : decode cX0_neighbours 46 = .ok (.ireturn, 1) := dk_172 (dk_at dksX0_neighbours_1 22 rfl rfl)
theorem dX0_neighbours_47 : decode cX0_neighbours 47 = .ok (.aload_n 0, 1) := dk_42 (dk_at dksX0_neighbours_1 23 rfl rfl)
theorem dX0_neighbours_48 : decode cX0_neighbours 48 = .ok (.getfield 19, 3) := dk_180 0 19 (dk_at dksX0_neighbours_2 0 rfl rfl)
theorem dX0_neighbours_51 : decode cX0_neighbours 51 = .ok (.getfield 155, 3) := dk_180 0 155 (dk_at dksX0_neighbours_2 3 rfl rfl)
theorem dX0_neighbours_54 : decode cX0_neighbours 54 = .ok (.bipush 60, 2) := dk_16 60 (dk_at dksX0_neighbours_2 6 rfl rfl)
theorem dX0_neighbours_56 : decode cX0_neighbours 56 = .ok (.if_icmp .ne 10, 3) := dk_160 0 10 (dk_at dksX0_neighbours_2 8 rfl rfl)
theorem dX0_neighbours_59 : decode cX0_neighbours 59 = .ok (.aload_n 0, 1) := dk_42 (dk_at dksX0_neighbours_2 11 rfl rfl)
theorem dX0_neighbours_60 : decode cX0_neighbours 60 = .ok (.bipush (-8), 2) := dk_16 248 (dk_at dksX0_neighbours_2 12 rfl rfl)
theorem dX0_neighbours_62 : decode cX0_neighbours 62 = .ok (.invokevirtual 118, 3) := dk_182 0 118 (dk_at dksX0_neighbours_2 14 rfl rfl)
theorem dX0_neighbours_65 : decode cX0_neighbours 65 = .ok (.ireturn, 1) := dk_172 (dk_at dksX0_neighbours_2 17 rfl rfl)
theorem dX0_neighbours_66 : decode cX0_neighbours 66 = .ok (.aload_n 0, 1) := dk_42 (dk_at dksX0_neighbours_2 18 rfl rfl)
theorem dX0_neighbours_67 : decode cX0_neighbours 67 = .ok (.getfield 19, 3) := dk_180 0 19 (dk_at dksX0_neighbours_2 19 rfl rfl)
theorem dX0_neighbours_70 : decode cX0_neighbours 70 = .ok (.getfield 158, 3) := dk_180 0 158 (dk_at dksX0_neighbours_3 0 rfl rfl)
theorem dX0_neighbours_73 : decode cX0_neighbours 73 = .ok (.aload_n 0, 1) := dk_42 (dk_at dksX0_neighbours_3 3 rfl rfl)
theorem dX0_neighbours_74 : decode cX0_neighbours 74 = .ok (.getfield 19, 3) := dk_180 0 19 (dk_at dksX0_neighbours_3 4 rfl rfl)
theorem dX0_neighbours_77 : decode cX0_neighbours 77 = .ok (.getfield 155, 3) := dk_180 0 155 (dk_at dksX0_neighbours_3 7 rfl rfl)
theorem dX0_neighbours_80 : decode cX0_neighbours 80 = .ok (.iload_n 1, 1) := dk_27 (dk_at dksX0_neighbours_3 10 rfl rfl)
theorem dX0_neighbours_81 : decode cX0_neighbours 81 = .ok (.iastore, 1) := dk_79 (dk_at dksX0_neighbours_3 11 rfl rfl)
theorem dX0_neighbours_82 : decode cX0_neighbours 82 = .ok (.aload_n 0, 1) := dk_42 (dk_at dksX0_neighbours_3 12 rfl rfl)
theorem dX0_neighbours_83 : decode cX0_neighbours 83 = .ok (.getfield 19, 3) := dk_180 0 19 (dk_at dksX0_neighbours_3 13 rfl rfl)
theorem dX0_neighbours_86 : decode cX0_neighbours 86 = .ok (.getfield 161, 3) := dk_180 0 161 (dk_at dksX0_neighbours_3 16 rfl rfl)
theorem dX0_neighbours_89 : decode cX0_neighbours 89 = .ok (.aload_n 0, 1) := dk_42 (dk_at dksX0_neighbours_3 19 rfl rfl)
theorem dX0_neighbours_90 : decode cX0_neighbours 90 = .ok (.getfield 19, 3) := dk_180 0 19 (dk_at dksX0_neighbours_3 20 rfl rfl)
theorem dX0_neighbours_93 : decode cX0_neighbours 93 = .ok (.getfield 155, 3) := dk_180 0 155 (dk_at dksX0_neighbours_4 0 rfl rfl)
theorem dX0_neighbours_96 : decode cX0_neighbours 96 = .ok (.iload_n 2, 1) := dk_28 (dk_at dksX0_neighbours_4 3 rfl rfl)
theorem dX0_neighbours_97 : decode cX0_neighbours 97 = .ok (.iastore, 1) := dk_79 (dk_at dksX0_neighbours_4 4 rfl rfl)
theorem dX0_neighbours_98 : decode cX0_neighbours 98 = .ok (.aload_n 0, 1) := dk_42 (dk_at dksX0_neighbours_4 5 rfl rfl)
theorem dX0_neighbours_99 : decode cX0_neighbours 99 = .ok (.getfield 19, 3) := dk_180 0 19 (dk_at dksX0_neighbours_4 6 rfl rfl)
theorem dX0_neighbours_102 : decode cX0_neighbours 102 = .ok (.dup, 1) := dk_89 (dk_at dksX0_neighbours_4 9 rfl rfl)
theorem dX0_neighbours_103 : decode cX0_neighbours 103 = .ok (.getfield 155, 3) := dk_180 0 155 (dk_at dksX0_neighbours_4 10 rfl rfl)
theorem dX0_neighbours_106 : decode cX0_neighbours 106 = .ok (.iconst 1, 1) := dk_4 (dk_at dksX0_neighbours_4 13 rfl rfl)
theorem dX0_neighbours_107 : decode cX0_neighbours 107 = .ok (.iadd, 1) := dk_96 (dk_at dksX0_neighbours_4 14 rfl rfl)
theorem dX0_neighbours_108 : decode cX0_neighbours 108 = .ok (.putfield 155, 3) := dk_181 0 155 (dk_at dksX0_neighbours_4 15 rfl rfl)
theorem dX0_neighbours_111 : decode cX0_neighbours 111 = .ok (.aload_n 0, 1) := dk_42 (dk_at dksX0_neighbours_4 18 rfl rfl)
theorem dX0_neighbours_112 : decode cX0_neighbours 112 = .ok (.getfield 19, 3) := dk_180 0 19 (dk_at dksX0_neighbours_4 19 rfl rfl)
theorem dX0_neighbours_115 : decode cX0_neighbours 115 = .ok (.getfield 155, 3) := dk_180 0 155 (dk_at dksX0_neighbours_5 0 rfl rfl)
theorem dX0_neighbours_118 : decode cX0_neighbours 118 = .ok (.ireturn, 1) := dk_172 (dk_at dksX0_neighbours_5 3 rfl rfl)
abbrev cX0_isStand : ByteArray := prog_1_method_8_code
def yX0_isStand : MethodName := ⟨RX0, "isStand", "(I)Z"⟩
def dkwX0_isStand_0 : List UInt8 := [27, 155, 0, 18, 27, 42, 180, 0, 19, 180, 0, 23, 162, 0, 7, 4, 167, 0, 4, 3, 172]
abbrev dktX0_isStand_0 : List UInt8 := dkwX0_isStand_0 ++ []
theorem dksX0_isStand_0 : cX0_isStand.data.toList.drop 0 = dktX0_isStand_0 := by decide +kernel
theorem dX0_isStand_0 : decode cX0_isStand 0 = .ok (.iload_n 1, 1) := dk_27 (dk_at dksX0_isStand_0 0 rfl rfl)
theorem dX0_isStand_1 : decode cX0_isStand 1 = .ok (.ifCond .lt 18, 3) := dk_155 0 18 (dk_at dksX0_isStand_0 1 rfl rfl)
theorem dX0_isStand_4 : decode cX0_isStand 4 = .ok (.iload_n 1, 1) := dk_27 (dk_at dksX0_isStand_0 4 rfl rfl)
theorem dX0_isStand_5 : decode cX0_isStand 5 = .ok (.aload_n 0, 1) := dk_42 (dk_at dksX0_isStand_0 5 rfl rfl)
theorem dX0_isStand_6 : decode cX0_isStand 6 = .ok (.getfield 19, 3) := dk_180 0 19 (dk_at dksX0_isStand_0 6 rfl rfl)
theorem dX0_isStand_9 : decode cX0_isStand 9 = .ok (.getfield 23, 3) := dk_180 0 23 (dk_at dksX0_isStand_0 9 rfl rfl)
theorem dX0_isStand_12 : decode cX0_isStand 12 = .ok (.if_icmp .ge 7, 3) := dk_162 0 7 (dk_at dksX0_isStand_0 12 rfl rfl)
theorem dX0_isStand_15 : decode cX0_isStand 15 = .ok (.iconst 1, 1) := dk_4 (dk_at dksX0_isStand_0 15 rfl rfl)
theorem dX0_isStand_16 : decode cX0_isStand 16 = .ok (.goto 4, 3) := dk_167 0 4 (dk_at dksX0_isStand_0 16 rfl rfl)
theorem dX0_isStand_19 : decode cX0_isStand 19 = .ok (.iconst 0, 1) := dk_3 (dk_at dksX0_isStand_0 19 rfl rfl)
theorem dX0_isStand_20 : decode cX0_isStand 20 = .ok (.ireturn, 1) := dk_172 (dk_at dksX0_isStand_0 20 rfl rfl)
abbrev cX0_look : ByteArray := prog_1_method_17_code
def yX0_look : MethodName := ⟨RX0, "look", "(II)I"⟩
def dkwX0_look_5 : List UInt8 := [28, 182, 0, 179, 172]
abbrev dktX0_look_5 : List UInt8 := dkwX0_look_5 ++ []
def dkwX0_look_4 : List UInt8 := [46, 172, 42, 180, 0, 19, 180, 0, 136, 27, 46, 172, 42, 180, 0, 19, 180, 0, 139, 27, 46, 172, 42, 27]
abbrev dktX0_look_4 : List UInt8 := dkwX0_look_4 ++ dktX0_look_5
def dkwX0_look_3 : List UInt8 := [180, 0, 130, 27, 46, 172, 42, 180, 0, 19, 180, 0, 121, 27, 46, 172, 42, 180, 0, 19, 180, 0, 133, 27]
abbrev dktX0_look_3 : List UInt8 := dkwX0_look_3 ++ dktX0_look_4
def dkwX0_look_2 : List UInt8 := [42, 180, 0, 19, 180, 0, 124, 27, 46, 172, 42, 180, 0, 19, 180, 0, 127, 27, 46, 172, 42, 180, 0, 19]
abbrev dktX0_look_2 : List UInt8 := dkwX0_look_2 ++ dktX0_look_3
def dkwX0_look_1 : List UInt8 := [170, 0, 0, 0, 0, 0, 0, 114, 0, 0, 0, 0, 0, 0, 0, 6, 0, 0, 0, 44, 0, 0, 0, 54, 0, 0, 0, 64, 0, 0, 0, 74, 0, 0, 0, 84, 0, 0, 0, 94, 0, 0, 0, 104]
abbrev dktX0_look_1 : List UInt8 := dkwX0_look_1 ++ dktX0_look_2
def dkwX0_look_0 : List UInt8 := [42, 27, 182, 0, 148, 154, 0, 10, 42, 16, 253, 182, 0, 118, 172, 28]
abbrev dktX0_look_0 : List UInt8 := dkwX0_look_0 ++ dktX0_look_1
theorem dksX0_look_0 : cX0_look.data.toList.drop 0 = dktX0_look_0 := by decide +kernel
theorem dksX0_look_1 : cX0_look.data.toList.drop 16 = dktX0_look_1 := dk_seg dksX0_look_0 16 rfl rfl
theorem dksX0_look_2 : cX0_look.data.toList.drop 60 = dktX0_look_2 := dk_seg dksX0_look_1 44 rfl rfl
theorem dksX0_look_3 : cX0_look.data.toList.drop 84 = dktX0_look_3 := dk_seg dksX0_look_2 24 rfl rfl
theorem dksX0_look_4 : cX0_look.data.toList.drop 108 = dktX0_look_4 := dk_seg dksX0_look_3 24 rfl rfl
theorem dksX0_look_5 : cX0_look.data.toList.drop 132 = dktX0_look_5 := dk_seg dksX0_look_4 24 rfl rfl
theorem dX0_look_0 : decode cX0_look 0 = .ok (.aload_n 0, 1) := dk_42 (dk_at dksX0_look_0 0 rfl rfl)
theorem dX0_look_1 : decode cX0_look 1 = .ok (.iload_n 1, 1) := dk_27 (dk_at dksX0_look_0 1 rfl rfl)
theorem dX0_look_2 : decode cX0_look 2 = .ok (.invokevirtual 148, 3) := dk_182 0 148 (dk_at dksX0_look_0 2 rfl rfl)
theorem dX0_look_5 : decode cX0_look 5 = .ok (.ifCond .ne 10, 3) := dk_154 0 10 (dk_at dksX0_look_0 5 rfl rfl)
theorem dX0_look_8 : decode cX0_look 8 = .ok (.aload_n 0, 1) := dk_42 (dk_at dksX0_look_0 8 rfl rfl)
theorem dX0_look_9 : decode cX0_look 9 = .ok (.bipush (-3), 2) := dk_16 253 (dk_at dksX0_look_0 9 rfl rfl)
theorem dX0_look_11 : decode cX0_look 11 = .ok (.invokevirtual 118, 3) := dk_182 0 118 (dk_at dksX0_look_0 11 rfl rfl)
theorem dX0_look_14 : decode cX0_look 14 = .ok (.ireturn, 1) := dk_172 (dk_at dksX0_look_0 14 rfl rfl)
theorem dX0_look_15 : decode cX0_look 15 = .ok (.iload_n 2, 1) := dk_28 (dk_at dksX0_look_0 15 rfl rfl)
theorem dX0_look_16 : decode cX0_look 16 = .ok (.tableswitch 114 0 6 #[44, 54, 64, 74, 84, 94, 104], 44) := by decide +kernel
theorem dX0_look_60 : decode cX0_look 60 = .ok (.aload_n 0, 1) := dk_42 (dk_at dksX0_look_2 0 rfl rfl)
theorem dX0_look_61 : decode cX0_look 61 = .ok (.getfield 19, 3) := dk_180 0 19 (dk_at dksX0_look_2 1 rfl rfl)
theorem dX0_look_64 : decode cX0_look 64 = .ok (.getfield 124, 3) := dk_180 0 124 (dk_at dksX0_look_2 4 rfl rfl)
theorem dX0_look_67 : decode cX0_look 67 = .ok (.iload_n 1, 1) := dk_27 (dk_at dksX0_look_2 7 rfl rfl)
theorem dX0_look_68 : decode cX0_look 68 = .ok (.iaload, 1) := dk_46 (dk_at dksX0_look_2 8 rfl rfl)
theorem dX0_look_69 : decode cX0_look 69 = .ok (.ireturn, 1) := dk_172 (dk_at dksX0_look_2 9 rfl rfl)
theorem dX0_look_70 : decode cX0_look 70 = .ok (.aload_n 0, 1) := dk_42 (dk_at dksX0_look_2 10 rfl rfl)
theorem dX0_look_71 : decode cX0_look 71 = .ok (.getfield 19, 3) := dk_180 0 19 (dk_at dksX0_look_2 11 rfl rfl)
theorem dX0_look_74 : decode cX0_look 74 = .ok (.getfield 127, 3) := dk_180 0 127 (dk_at dksX0_look_2 14 rfl rfl)
theorem dX0_look_77 : decode cX0_look 77 = .ok (.iload_n 1, 1) := dk_27 (dk_at dksX0_look_2 17 rfl rfl)
theorem dX0_look_78 : decode cX0_look 78 = .ok (.iaload, 1) := dk_46 (dk_at dksX0_look_2 18 rfl rfl)
theorem dX0_look_79 : decode cX0_look 79 = .ok (.ireturn, 1) := dk_172 (dk_at dksX0_look_2 19 rfl rfl)
theorem dX0_look_80 : decode cX0_look 80 = .ok (.aload_n 0, 1) := dk_42 (dk_at dksX0_look_2 20 rfl rfl)
theorem dX0_look_81 : decode cX0_look 81 = .ok (.getfield 19, 3) := dk_180 0 19 (dk_at dksX0_look_2 21 rfl rfl)
theorem dX0_look_84 : decode cX0_look 84 = .ok (.getfield 130, 3) := dk_180 0 130 (dk_at dksX0_look_3 0 rfl rfl)
theorem dX0_look_87 : decode cX0_look 87 = .ok (.iload_n 1, 1) := dk_27 (dk_at dksX0_look_3 3 rfl rfl)
theorem dX0_look_88 : decode cX0_look 88 = .ok (.iaload, 1) := dk_46 (dk_at dksX0_look_3 4 rfl rfl)
theorem dX0_look_89 : decode cX0_look 89 = .ok (.ireturn, 1) := dk_172 (dk_at dksX0_look_3 5 rfl rfl)
theorem dX0_look_90 : decode cX0_look 90 = .ok (.aload_n 0, 1) := dk_42 (dk_at dksX0_look_3 6 rfl rfl)
theorem dX0_look_91 : decode cX0_look 91 = .ok (.getfield 19, 3) := dk_180 0 19 (dk_at dksX0_look_3 7 rfl rfl)
theorem dX0_look_94 : decode cX0_look 94 = .ok (.getfield 121, 3) := dk_180 0 121 (dk_at dksX0_look_3 10 rfl rfl)
theorem dX0_look_97 : decode cX0_look 97 = .ok (.iload_n 1, 1) := dk_27 (dk_at dksX0_look_3 13 rfl rfl)
theorem dX0_look_98 : decode cX0_look 98 = .ok (.iaload, 1) := dk_46 (dk_at dksX0_look_3 14 rfl rfl)
theorem dX0_look_99 : decode cX0_look 99 = .ok (.ireturn, 1) := dk_172 (dk_at dksX0_look_3 15 rfl rfl)
theorem dX0_look_100 : decode cX0_look 100 = .ok (.aload_n 0, 1) := dk_42 (dk_at dksX0_look_3 16 rfl rfl)
theorem dX0_look_101 : decode cX0_look 101 = .ok (.getfield 19, 3) := dk_180 0 19 (dk_at dksX0_look_3 17 rfl rfl)
theorem dX0_look_104 : decode cX0_look 104 = .ok (.getfield 133, 3) := dk_180 0 133 (dk_at dksX0_look_3 20 rfl rfl)
theorem dX0_look_107 : decode cX0_look 107 = .ok (.iload_n 1, 1) := dk_27 (dk_at dksX0_look_3 23 rfl rfl)
theorem dX0_look_108 : decode cX0_look 108 = .ok (.iaload, 1) := dk_46 (dk_at dksX0_look_4 0 rfl rfl)
theorem dX0_look_109 : decode cX0_look 109 = .ok (.ireturn, 1) := dk_172 (dk_at dksX0_look_4 1 rfl rfl)
theorem dX0_look_110 : decode cX0_look 110 = .ok (.aload_n 0, 1) := dk_42 (dk_at dksX0_look_4 2 rfl rfl)
theorem dX0_look_111 : decode cX0_look 111 = .ok (.getfield 19, 3) := dk_180 0 19 (dk_at dksX0_look_4 3 rfl rfl)
theorem dX0_look_114 : decode cX0_look 114 = .ok (.getfield 136, 3) := dk_180 0 136 (dk_at dksX0_look_4 6 rfl rfl)
theorem dX0_look_117 : decode cX0_look 117 = .ok (.iload_n 1, 1) := dk_27 (dk_at dksX0_look_4 9 rfl rfl)
theorem dX0_look_118 : decode cX0_look 118 = .ok (.iaload, 1) := dk_46 (dk_at dksX0_look_4 10 rfl rfl)
theorem dX0_look_119 : decode cX0_look 119 = .ok (.ireturn, 1) := dk_172 (dk_at dksX0_look_4 11 rfl rfl)
theorem dX0_look_120 : decode cX0_look 120 = .ok (.aload_n 0, 1) := dk_42 (dk_at dksX0_look_4 12 rfl rfl)
theorem dX0_look_121 : decode cX0_look 121 = .ok (.getfield 19, 3) := dk_180 0 19 (dk_at dksX0_look_4 13 rfl rfl)
theorem dX0_look_124 : decode cX0_look 124 = .ok (.getfield 139, 3) := dk_180 0 139 (dk_at dksX0_look_4 16 rfl rfl)
theorem dX0_look_127 : decode cX0_look 127 = .ok (.iload_n 1, 1) := dk_27 (dk_at dksX0_look_4 19 rfl rfl)
theorem dX0_look_128 : decode cX0_look 128 = .ok (.iaload, 1) := dk_46 (dk_at dksX0_look_4 20 rfl rfl)
theorem dX0_look_129 : decode cX0_look 129 = .ok (.ireturn, 1) := dk_172 (dk_at dksX0_look_4 21 rfl rfl)
theorem dX0_look_130 : decode cX0_look 130 = .ok (.aload_n 0, 1) := dk_42 (dk_at dksX0_look_4 22 rfl rfl)
theorem dX0_look_131 : decode cX0_look 131 = .ok (.iload_n 1, 1) := dk_27 (dk_at dksX0_look_4 23 rfl rfl)
theorem dX0_look_132 : decode cX0_look 132 = .ok (.iload_n 2, 1) := dk_28 (dk_at dksX0_look_5 0 rfl rfl)
theorem dX0_look_133 : decode cX0_look 133 = .ok (.invokevirtual 179, 3) := dk_182 0 179 (dk_at dksX0_look_5 1 rfl rfl)
theorem dX0_look_136 : decode cX0_look 136 = .ok (.ireturn, 1) := dk_172 (dk_at dksX0_look_5 4 rfl rfl)
abbrev cX0_lookMore : ByteArray := prog_1_method_16_code
def yX0_lookMore : MethodName := ⟨RX0, "lookMore", "(II)I"⟩
def dkwX0_lookMore_5 : List UInt8 := [167, 0, 4, 3, 172, 42, 16, 249, 182, 0, 118, 172]
abbrev dktX0_lookMore_5 : List UInt8 := dkwX0_lookMore_5 ++ []
def dkwX0_lookMore_4 : List UInt8 := [46, 172, 42, 180, 0, 19, 180, 0, 173, 27, 46, 172, 42, 180, 0, 19, 27, 182, 0, 176, 153, 0, 7, 4]
abbrev dktX0_lookMore_4 : List UInt8 := dkwX0_lookMore_4 ++ dktX0_lookMore_5
def dkwX0_lookMore_3 : List UInt8 := [180, 0, 170, 27, 46, 172, 42, 180, 0, 19, 180, 0, 142, 27, 46, 172, 42, 180, 0, 19, 180, 0, 145, 27]
abbrev dktX0_lookMore_3 : List UInt8 := dkwX0_lookMore_3 ++ dktX0_lookMore_4
def dkwX0_lookMore_2 : List UInt8 := [42, 180, 0, 19, 27, 182, 0, 164, 172, 42, 180, 0, 19, 180, 0, 167, 27, 46, 172, 42, 180, 0, 19]
abbrev dktX0_lookMore_2 : List UInt8 := dkwX0_lookMore_2 ++ dktX0_lookMore_3
def dkwX0_lookMore_1 : List UInt8 := [170, 0, 0, 0, 0, 0, 119, 0, 0, 0, 7, 0, 0, 0, 13, 0, 0, 0, 43, 0, 0, 0, 52, 0, 0, 0, 62, 0, 0, 0, 72, 0, 0, 0, 82, 0, 0, 0, 92, 0, 0, 0, 102]
abbrev dktX0_lookMore_1 : List UInt8 := dkwX0_lookMore_1 ++ dktX0_lookMore_2
def dkwX0_lookMore_0 : List UInt8 := [28]
abbrev dktX0_lookMore_0 : List UInt8 := dkwX0_lookMore_0 ++ dktX0_lookMore_1
theorem dksX0_lookMore_0 : cX0_lookMore.data.toList.drop 0 = dktX0_lookMore_0 := by decide +kernel
theorem dksX0_lookMore_1 : cX0_lookMore.data.toList.drop 1 = dktX0_lookMore_1 := dk_seg dksX0_lookMore_0 1 rfl rfl
theorem dksX0_lookMore_2 : cX0_lookMore.data.toList.drop 44 = dktX0_lookMore_2 := dk_seg dksX0_lookMore_1 43 rfl rfl
theorem dksX0_lookMore_3 : cX0_lookMore.data.toList.drop 67 = dktX0_lookMore_3 := dk_seg dksX0_lookMore_2 23 rfl rfl
theorem dksX0_lookMore_4 : cX0_lookMore.data.toList.drop 91 = dktX0_lookMore_4 := dk_seg dksX0_lookMore_3 24 rfl rfl
theorem dksX0_lookMore_5 : cX0_lookMore.data.toList.drop 115 = dktX0_lookMore_5 := dk_seg dksX0_lookMore_4 24 rfl rfl
theorem dX0_lookMore_0 : decode cX0_lookMore 0 = .ok (.iload_n 2, 1) := dk_28 (dk_at dksX0_lookMore_0 0 rfl rfl)
theorem dX0_lookMore_1 : decode cX0_lookMore 1 = .ok (.tableswitch 119 7 13 #[43, 52, 62, 72, 82, 92, 102], 43) := by decide +kernel
theorem dX0_lookMore_44 : decode cX0_lookMore 44 = .ok (.aload_n 0, 1) := dk_42 (dk_at dksX0_lookMore_2 0 rfl rfl)
theorem dX0_lookMore_45 : decode cX0_lookMore 45 = .ok (.getfield 19, 3) := dk_180 0 19 (dk_at dksX0_lookMore_2 1 rfl rfl)
theorem dX0_lookMore_48 : decode cX0_lookMore 48 = .ok (.iload_n 1, 1) := dk_27 (dk_at dksX0_lookMore_2 4 rfl rfl)
theorem dX0_lookMore_49 : decode cX0_lookMore 49 = .ok (.invokevirtual 164, 3) := dk_182 0 164 (dk_at dksX0_lookMore_2 5 rfl rfl)
theorem dX0_lookMore_52 : decode cX0_lookMore 52 = .ok (.ireturn, 1) := dk_172 (dk_at dksX0_lookMore_2 8 rfl rfl)
theorem dX0_lookMore_53 : decode cX0_lookMore 53 = .ok (.aload_n 0, 1) := dk_42 (dk_at dksX0_lookMore_2 9 rfl rfl)
theorem dX0_lookMore_54 : decode cX0_lookMore 54 = .ok (.getfield 19, 3) := dk_180 0 19 (dk_at dksX0_lookMore_2 10 rfl rfl)
theorem dX0_lookMore_57 : decode cX0_lookMore 57 = .ok (.getfield 167, 3) := dk_180 0 167 (dk_at dksX0_lookMore_2 13 rfl rfl)
theorem dX0_lookMore_60 : decode cX0_lookMore 60 = .ok (.iload_n 1, 1) := dk_27 (dk_at dksX0_lookMore_2 16 rfl rfl)
theorem dX0_lookMore_61 : decode cX0_lookMore 61 = .ok (.iaload, 1) := dk_46 (dk_at dksX0_lookMore_2 17 rfl rfl)
theorem dX0_lookMore_62 : decode cX0_lookMore 62 = .ok (.ireturn, 1) := dk_172 (dk_at dksX0_lookMore_2 18 rfl rfl)
theorem dX0_lookMore_63 : decode cX0_lookMore 63 = .ok (.aload_n 0, 1) := dk_42 (dk_at dksX0_lookMore_2 19 rfl rfl)
theorem dX0_lookMore_64 : decode cX0_lookMore 64 = .ok (.getfield 19, 3) := dk_180 0 19 (dk_at dksX0_lookMore_2 20 rfl rfl)
theorem dX0_lookMore_67 : decode cX0_lookMore 67 = .ok (.getfield 170, 3) := dk_180 0 170 (dk_at dksX0_lookMore_3 0 rfl rfl)
theorem dX0_lookMore_70 : decode cX0_lookMore 70 = .ok (.iload_n 1, 1) := dk_27 (dk_at dksX0_lookMore_3 3 rfl rfl)
theorem dX0_lookMore_71 : decode cX0_lookMore 71 = .ok (.iaload, 1) := dk_46 (dk_at dksX0_lookMore_3 4 rfl rfl)
theorem dX0_lookMore_72 : decode cX0_lookMore 72 = .ok (.ireturn, 1) := dk_172 (dk_at dksX0_lookMore_3 5 rfl rfl)
theorem dX0_lookMore_73 : decode cX0_lookMore 73 = .ok (.aload_n 0, 1) := dk_42 (dk_at dksX0_lookMore_3 6 rfl rfl)
theorem dX0_lookMore_74 : decode cX0_lookMore 74 = .ok (.getfield 19, 3) := dk_180 0 19 (dk_at dksX0_lookMore_3 7 rfl rfl)
theorem dX0_lookMore_77 : decode cX0_lookMore 77 = .ok (.getfield 142, 3) := dk_180 0 142 (dk_at dksX0_lookMore_3 10 rfl rfl)
theorem dX0_lookMore_80 : decode cX0_lookMore 80 = .ok (.iload_n 1, 1) := dk_27 (dk_at dksX0_lookMore_3 13 rfl rfl)
theorem dX0_lookMore_81 : decode cX0_lookMore 81 = .ok (.iaload, 1) := dk_46 (dk_at dksX0_lookMore_3 14 rfl rfl)
theorem dX0_lookMore_82 : decode cX0_lookMore 82 = .ok (.ireturn, 1) := dk_172 (dk_at dksX0_lookMore_3 15 rfl rfl)
theorem dX0_lookMore_83 : decode cX0_lookMore 83 = .ok (.aload_n 0, 1) := dk_42 (dk_at dksX0_lookMore_3 16 rfl rfl)
theorem dX0_lookMore_84 : decode cX0_lookMore 84 = .ok (.getfield 19, 3) := dk_180 0 19 (dk_at dksX0_lookMore_3 17 rfl rfl)
theorem dX0_lookMore_87 : decode cX0_lookMore 87 = .ok (.getfield 145, 3) := dk_180 0 145 (dk_at dksX0_lookMore_3 20 rfl rfl)
theorem dX0_lookMore_90 : decode cX0_lookMore 90 = .ok (.iload_n 1, 1) := dk_27 (dk_at dksX0_lookMore_3 23 rfl rfl)
theorem dX0_lookMore_91 : decode cX0_lookMore 91 = .ok (.iaload, 1) := dk_46 (dk_at dksX0_lookMore_4 0 rfl rfl)
theorem dX0_lookMore_92 : decode cX0_lookMore 92 = .ok (.ireturn, 1) := dk_172 (dk_at dksX0_lookMore_4 1 rfl rfl)
theorem dX0_lookMore_93 : decode cX0_lookMore 93 = .ok (.aload_n 0, 1) := dk_42 (dk_at dksX0_lookMore_4 2 rfl rfl)
theorem dX0_lookMore_94 : decode cX0_lookMore 94 = .ok (.getfield 19, 3) := dk_180 0 19 (dk_at dksX0_lookMore_4 3 rfl rfl)
theorem dX0_lookMore_97 : decode cX0_lookMore 97 = .ok (.getfield 173, 3) := dk_180 0 173 (dk_at dksX0_lookMore_4 6 rfl rfl)
theorem dX0_lookMore_100 : decode cX0_lookMore 100 = .ok (.iload_n 1, 1) := dk_27 (dk_at dksX0_lookMore_4 9 rfl rfl)
theorem dX0_lookMore_101 : decode cX0_lookMore 101 = .ok (.iaload, 1) := dk_46 (dk_at dksX0_lookMore_4 10 rfl rfl)
theorem dX0_lookMore_102 : decode cX0_lookMore 102 = .ok (.ireturn, 1) := dk_172 (dk_at dksX0_lookMore_4 11 rfl rfl)
theorem dX0_lookMore_103 : decode cX0_lookMore 103 = .ok (.aload_n 0, 1) := dk_42 (dk_at dksX0_lookMore_4 12 rfl rfl)
theorem dX0_lookMore_104 : decode cX0_lookMore 104 = .ok (.getfield 19, 3) := dk_180 0 19 (dk_at dksX0_lookMore_4 13 rfl rfl)
theorem dX0_lookMore_107 : decode cX0_lookMore 107 = .ok (.iload_n 1, 1) := dk_27 (dk_at dksX0_lookMore_4 16 rfl rfl)
theorem dX0_lookMore_108 : decode cX0_lookMore 108 = .ok (.invokevirtual 176, 3) := dk_182 0 176 (dk_at dksX0_lookMore_4 17 rfl rfl)
theorem dX0_lookMore_111 : decode cX0_lookMore 111 = .ok (.ifCond .eq 7, 3) := dk_153 0 7 (dk_at dksX0_lookMore_4 20 rfl rfl)
theorem dX0_lookMore_114 : decode cX0_lookMore 114 = .ok (.iconst 1, 1) := dk_4 (dk_at dksX0_lookMore_4 23 rfl rfl)
theorem dX0_lookMore_115 : decode cX0_lookMore 115 = .ok (.goto 4, 3) := dk_167 0 4 (dk_at dksX0_lookMore_5 0 rfl rfl)
theorem dX0_lookMore_118 : decode cX0_lookMore 118 = .ok (.iconst 0, 1) := dk_3 (dk_at dksX0_lookMore_5 3 rfl rfl)
theorem dX0_lookMore_119 : decode cX0_lookMore 119 = .ok (.ireturn, 1) := dk_172 (dk_at dksX0_lookMore_5 4 rfl rfl)
theorem dX0_lookMore_120 : decode cX0_lookMore 120 = .ok (.aload_n 0, 1) := dk_42 (dk_at dksX0_lookMore_5 5 rfl rfl)
theorem dX0_lookMore_121 : decode cX0_lookMore 121 = .ok (.bipush (-7), 2) := dk_16 249 (dk_at dksX0_lookMore_5 6 rfl rfl)
theorem dX0_lookMore_123 : decode cX0_lookMore 123 = .ok (.invokevirtual 118, 3) := dk_182 0 118 (dk_at dksX0_lookMore_5 8 rfl rfl)
theorem dX0_lookMore_126 : decode cX0_lookMore 126 = .ok (.ireturn, 1) := dk_172 (dk_at dksX0_lookMore_5 11 rfl rfl)
abbrev cX0_feetOf : ByteArray := prog_1_method_7_code
def yX0_feetOf : MethodName := ⟨RX0, "feetOf", "(III)I"⟩
def dkwX0_feetOf_0 : List UInt8 := [26, 184, 0, 11, 62, 26, 27, 184, 0, 15, 28, 104, 28, 104, 28, 28, 104, 29, 29, 104, 96, 108, 172]
abbrev dktX0_feetOf_0 : List UInt8 := dkwX0_feetOf_0 ++ []
theorem dksX0_feetOf_0 : cX0_feetOf.data.toList.drop 0 = dktX0_feetOf_0 := by decide +kernel
theorem dX0_feetOf_0 : decode cX0_feetOf 0 = .ok (.iload_n 0, 1) := dk_26 (dk_at dksX0_feetOf_0 0 rfl rfl)
theorem dX0_feetOf_1 : decode cX0_feetOf 1 = .ok (.invokestatic 11, 3) := dk_184 0 11 (dk_at dksX0_feetOf_0 1 rfl rfl)
theorem dX0_feetOf_4 : decode cX0_feetOf 4 = .ok (.istore_n 3, 1) := dk_62 (dk_at dksX0_feetOf_0 4 rfl rfl)
theorem dX0_feetOf_5 : decode cX0_feetOf 5 = .ok (.iload_n 0, 1) := dk_26 (dk_at dksX0_feetOf_0 5 rfl rfl)
theorem dX0_feetOf_6 : decode cX0_feetOf 6 = .ok (.iload_n 1, 1) := dk_27 (dk_at dksX0_feetOf_0 6 rfl rfl)
theorem dX0_feetOf_7 : decode cX0_feetOf 7 = .ok (.invokestatic 15, 3) := dk_184 0 15 (dk_at dksX0_feetOf_0 7 rfl rfl)
theorem dX0_feetOf_10 : decode cX0_feetOf 10 = .ok (.iload_n 2, 1) := dk_28 (dk_at dksX0_feetOf_0 10 rfl rfl)
theorem dX0_feetOf_11 : decode cX0_feetOf 11 = .ok (.imul, 1) := dk_104 (dk_at dksX0_feetOf_0 11 rfl rfl)
theorem dX0_feetOf_12 : decode cX0_feetOf 12 = .ok (.iload_n 2, 1) := dk_28 (dk_at dksX0_feetOf_0 12 rfl rfl)
theorem dX0_feetOf_13 : decode cX0_feetOf 13 = .ok (.imul, 1) := dk_104 (dk_at dksX0_feetOf_0 13 rfl rfl)
theorem dX0_feetOf_14 : decode cX0_feetOf 14 = .ok (.iload_n 2, 1) := dk_28 (dk_at dksX0_feetOf_0 14 rfl rfl)
theorem dX0_feetOf_15 : decode cX0_feetOf 15 = .ok (.iload_n 2, 1) := dk_28 (dk_at dksX0_feetOf_0 15 rfl rfl)
theorem dX0_feetOf_16 : decode cX0_feetOf 16 = .ok (.imul, 1) := dk_104 (dk_at dksX0_feetOf_0 16 rfl rfl)
theorem dX0_feetOf_17 : decode cX0_feetOf 17 = .ok (.iload_n 3, 1) := dk_29 (dk_at dksX0_feetOf_0 17 rfl rfl)
theorem dX0_feetOf_18 : decode cX0_feetOf 18 = .ok (.iload_n 3, 1) := dk_29 (dk_at dksX0_feetOf_0 18 rfl rfl)
theorem dX0_feetOf_19 : decode cX0_feetOf 19 = .ok (.imul, 1) := dk_104 (dk_at dksX0_feetOf_0 19 rfl rfl)
theorem dX0_feetOf_20 : decode cX0_feetOf 20 = .ok (.iadd, 1) := dk_96 (dk_at dksX0_feetOf_0 20 rfl rfl)
theorem dX0_feetOf_21 : decode cX0_feetOf 21 = .ok (.idiv, 1) := dk_108 (dk_at dksX0_feetOf_0 21 rfl rfl)
theorem dX0_feetOf_22 : decode cX0_feetOf 22 = .ok (.ireturn, 1) := dk_172 (dk_at dksX0_feetOf_0 22 rfl rfl)
abbrev cX0_half : ByteArray := prog_1_method_6_code
def yX0_half : MethodName := ⟨RX0, "half", "(I)I"⟩
def dkwX0_half_1 : List UInt8 := [16, 70, 167, 0, 5, 16, 90, 172]
abbrev dktX0_half_1 : List UInt8 := dkwX0_half_1 ++ []
def dkwX0_half_0 : List UInt8 := [26, 154, 0, 8, 16, 50, 167, 0, 25, 26, 4, 160, 0, 8, 16, 55, 167, 0, 15, 26, 5, 160, 0, 8]
abbrev dktX0_half_0 : List UInt8 := dkwX0_half_0 ++ dktX0_half_1
theorem dksX0_half_0 : cX0_half.data.toList.drop 0 = dktX0_half_0 := by decide +kernel
theorem dksX0_half_1 : cX0_half.data.toList.drop 24 = dktX0_half_1 := dk_seg dksX0_half_0 24 rfl rfl
theorem dX0_half_0 : decode cX0_half 0 = .ok (.iload_n 0, 1) := dk_26 (dk_at dksX0_half_0 0 rfl rfl)
theorem dX0_half_1 : decode cX0_half 1 = .ok (.ifCond .ne 8, 3) := dk_154 0 8 (dk_at dksX0_half_0 1 rfl rfl)
theorem dX0_half_4 : decode cX0_half 4 = .ok (.bipush 50, 2) := dk_16 50 (dk_at dksX0_half_0 4 rfl rfl)
theorem dX0_half_6 : decode cX0_half 6 = .ok (.goto 25, 3) := dk_167 0 25 (dk_at dksX0_half_0 6 rfl rfl)
theorem dX0_half_9 : decode cX0_half 9 = .ok (.iload_n 0, 1) := dk_26 (dk_at dksX0_half_0 9 rfl rfl)
theorem dX0_half_10 : decode cX0_half 10 = .ok (.iconst 1, 1) := dk_4 (dk_at dksX0_half_0 10 rfl rfl)
theorem dX0_half_11 : decode cX0_half 11 = .ok (.if_icmp .ne 8, 3) := dk_160 0 8 (dk_at dksX0_half_0 11 rfl rfl)
theorem dX0_half_14 : decode cX0_half 14 = .ok (.bipush 55, 2) := dk_16 55 (dk_at dksX0_half_0 14 rfl rfl)
theorem dX0_half_16 : decode cX0_half 16 = .ok (.goto 15, 3) := dk_167 0 15 (dk_at dksX0_half_0 16 rfl rfl)
theorem dX0_half_19 : decode cX0_half 19 = .ok (.iload_n 0, 1) := dk_26 (dk_at dksX0_half_0 19 rfl rfl)
theorem dX0_half_20 : decode cX0_half 20 = .ok (.iconst 2, 1) := dk_5 (dk_at dksX0_half_0 20 rfl rfl)
theorem dX0_half_21 : decode cX0_half 21 = .ok (.if_icmp .ne 8, 3) := dk_160 0 8 (dk_at dksX0_half_0 21 rfl rfl)
theorem dX0_half_24 : decode cX0_half 24 = .ok (.bipush 70, 2) := dk_16 70 (dk_at dksX0_half_1 0 rfl rfl)
theorem dX0_half_26 : decode cX0_half 26 = .ok (.goto 5, 3) := dk_167 0 5 (dk_at dksX0_half_1 2 rfl rfl)
theorem dX0_half_29 : decode cX0_half 29 = .ok (.bipush 90, 2) := dk_16 90 (dk_at dksX0_half_1 5 rfl rfl)
theorem dX0_half_31 : decode cX0_half 31 = .ok (.ireturn, 1) := dk_172 (dk_at dksX0_half_1 7 rfl rfl)
abbrev cX0_top : ByteArray := prog_1_method_5_code
def yX0_top : MethodName := ⟨RX0, "top", "(II)I"⟩
def dkwX0_top_1 : List UInt8 := [167, 0, 17, 26, 5, 160, 0, 9, 17, 1, 44, 167, 0, 6, 17, 1, 144, 100, 104, 172]
abbrev dktX0_top_1 : List UInt8 := dkwX0_top_1 ++ []
def dkwX0_top_0 : List UInt8 := [27, 5, 96, 17, 3, 132, 26, 154, 0, 7, 3, 167, 0, 28, 26, 4, 160, 0, 9, 17, 0, 200]
abbrev dktX0_top_0 : List UInt8 := dkwX0_top_0 ++ dktX0_top_1
theorem dksX0_top_0 : cX0_top.data.toList.drop 0 = dktX0_top_0 := by decide +kernel
theorem dksX0_top_1 : cX0_top.data.toList.drop 22 = dktX0_top_1 := dk_seg dksX0_top_0 22 rfl rfl
theorem dX0_top_0 : decode cX0_top 0 = .ok (.iload_n 1, 1) := dk_27 (dk_at dksX0_top_0 0 rfl rfl)
theorem dX0_top_1 : decode cX0_top 1 = .ok (.iconst 2, 1) := dk_5 (dk_at dksX0_top_0 1 rfl rfl)
theorem dX0_top_2 : decode cX0_top 2 = .ok (.iadd, 1) := dk_96 (dk_at dksX0_top_0 2 rfl rfl)
theorem dX0_top_3 : decode cX0_top 3 = .ok (.sipush 900, 3) := dk_17 3 132 (dk_at dksX0_top_0 3 rfl rfl)
theorem dX0_top_6 : decode cX0_top 6 = .ok (.iload_n 0, 1) := dk_26 (dk_at dksX0_top_0 6 rfl rfl)
theorem dX0_top_7 : decode cX0_top 7 = .ok (.ifCond .ne 7, 3) := dk_154 0 7 (dk_at dksX0_top_0 7 rfl rfl)
theorem dX0_top_10 : decode cX0_top 10 = .ok (.iconst 0, 1) := dk_3 (dk_at dksX0_top_0 10 rfl rfl)
theorem dX0_top_11 : decode cX0_top 11 = .ok (.goto 28, 3) := dk_167 0 28 (dk_at dksX0_top_0 11 rfl rfl)
theorem dX0_top_14 : decode cX0_top 14 = .ok (.iload_n 0, 1) := dk_26 (dk_at dksX0_top_0 14 rfl rfl)
theorem dX0_top_15 : decode cX0_top 15 = .ok (.iconst 1, 1) := dk_4 (dk_at dksX0_top_0 15 rfl rfl)
theorem dX0_top_16 : decode cX0_top 16 = .ok (.if_icmp .ne 9, 3) := dk_160 0 9 (dk_at dksX0_top_0 16 rfl rfl)
theorem dX0_top_19 : decode cX0_top 19 = .ok (.sipush 200, 3) := dk_17 0 200 (dk_at dksX0_top_0 19 rfl rfl)
theorem dX0_top_22 : decode cX0_top 22 = .ok (.goto 17, 3) := dk_167 0 17 (dk_at dksX0_top_1 0 rfl rfl)
theorem dX0_top_25 : decode cX0_top 25 = .ok (.iload_n 0, 1) := dk_26 (dk_at dksX0_top_1 3 rfl rfl)
theorem dX0_top_26 : decode cX0_top 26 = .ok (.iconst 2, 1) := dk_5 (dk_at dksX0_top_1 4 rfl rfl)
theorem dX0_top_27 : decode cX0_top 27 = .ok (.if_icmp .ne 9, 3) := dk_160 0 9 (dk_at dksX0_top_1 5 rfl rfl)
theorem dX0_top_30 : decode cX0_top 30 = .ok (.sipush 300, 3) := dk_17 1 44 (dk_at dksX0_top_1 8 rfl rfl)
theorem dX0_top_33 : decode cX0_top 33 = .ok (.goto 6, 3) := dk_167 0 6 (dk_at dksX0_top_1 11 rfl rfl)
theorem dX0_top_36 : decode cX0_top 36 = .ok (.sipush 400, 3) := dk_17 1 144 (dk_at dksX0_top_1 14 rfl rfl)
theorem dX0_top_39 : decode cX0_top 39 = .ok (.isub, 1) := dk_100 (dk_at dksX0_top_1 17 rfl rfl)
theorem dX0_top_40 : decode cX0_top 40 = .ok (.imul, 1) := dk_104 (dk_at dksX0_top_1 18 rfl rfl)
theorem dX0_top_41 : decode cX0_top 41 = .ok (.ireturn, 1) := dk_172 (dk_at dksX0_top_1 19 rfl rfl)
abbrev cX0_feet : ByteArray := prog_1_method_18_code
def yX0_feet : MethodName := ⟨RX0, "feet", "(III)I"⟩
def dkwX0_feet_2 : List UInt8 := [184, 0, 188, 167, 0, 9, 42, 16, 249, 182, 0, 118, 172]
abbrev dktX0_feet_2 : List UInt8 := dkwX0_feet_2 ++ []
def dkwX0_feet_1 : List UInt8 := [42, 16, 251, 182, 0, 118, 172, 29, 133, 9, 20, 0, 186, 184, 0, 31, 153, 0, 12, 27, 28, 29]
abbrev dktX0_feet_1 : List UInt8 := dkwX0_feet_1 ++ dktX0_feet_2
def dkwX0_feet_0 : List UInt8 := [27, 133, 9, 20, 0, 182, 184, 0, 31, 153, 0, 15, 28, 133, 9, 20, 0, 184, 184, 0, 31, 154, 0, 10]
abbrev dktX0_feet_0 : List UInt8 := dkwX0_feet_0 ++ dktX0_feet_1
theorem dksX0_feet_0 : cX0_feet.data.toList.drop 0 = dktX0_feet_0 := by decide +kernel
theorem dksX0_feet_1 : cX0_feet.data.toList.drop 24 = dktX0_feet_1 := dk_seg dksX0_feet_0 24 rfl rfl
theorem dksX0_feet_2 : cX0_feet.data.toList.drop 46 = dktX0_feet_2 := dk_seg dksX0_feet_1 22 rfl rfl
theorem dX0_feet_0 : decode cX0_feet 0 = .ok (.iload_n 1, 1) := dk_27 (dk_at dksX0_feet_0 0 rfl rfl)
theorem dX0_feet_1 : decode cX0_feet 1 = .ok (.i2l, 1) := dk_133 (dk_at dksX0_feet_0 1 rfl rfl)
theorem dX0_feet_2 : decode cX0_feet 2 = .ok (.lconst 0, 1) := dk_9 (dk_at dksX0_feet_0 2 rfl rfl)
theorem dX0_feet_3 : decode cX0_feet 3 = .ok (.ldc2_w 182, 3) := dk_20 0 182 (dk_at dksX0_feet_0 3 rfl rfl)
theorem dX0_feet_6 : decode cX0_feet 6 = .ok (.invokestatic 31, 3) := dk_184 0 31 (dk_at dksX0_feet_0 6 rfl rfl)
theorem dX0_feet_9 : decode cX0_feet 9 = .ok (.ifCond .eq 15, 3) := dk_153 0 15 (dk_at dksX0_feet_0 9 rfl rfl)
theorem dX0_feet_12 : decode cX0_feet 12 = .ok (.iload_n 2, 1) := dk_28 (dk_at dksX0_feet_0 12 rfl rfl)
theorem dX0_feet_13 : decode cX0_feet 13 = .ok (.i2l, 1) := dk_133 (dk_at dksX0_feet_0 13 rfl rfl)
theorem dX0_feet_14 : decode cX0_feet 14 = .ok (.lconst 0, 1) := dk_9 (dk_at dksX0_feet_0 14 rfl rfl)
theorem dX0_feet_15 : decode cX0_feet 15 = .ok (.ldc2_w 184, 3) := dk_20 0 184 (dk_at dksX0_feet_0 15 rfl rfl)
theorem dX0_feet_18 : decode cX0_feet 18 = .ok (.invokestatic 31, 3) := dk_184 0 31 (dk_at dksX0_feet_0 18 rfl rfl)
theorem dX0_feet_21 : decode cX0_feet 21 = .ok (.ifCond .ne 10, 3) := dk_154 0 10 (dk_at dksX0_feet_0 21 rfl rfl)
theorem dX0_feet_24 : decode cX0_feet 24 = .ok (.aload_n 0, 1) := dk_42 (dk_at dksX0_feet_1 0 rfl rfl)
theorem dX0_feet_25 : decode cX0_feet 25 = .ok (.bipush (-5), 2) := dk_16 251 (dk_at dksX0_feet_1 1 rfl rfl)
theorem dX0_feet_27 : decode cX0_feet 27 = .ok (.invokevirtual 118, 3) := dk_182 0 118 (dk_at dksX0_feet_1 3 rfl rfl)
theorem dX0_feet_30 : decode cX0_feet 30 = .ok (.ireturn, 1) := dk_172 (dk_at dksX0_feet_1 6 rfl rfl)
theorem dX0_feet_31 : decode cX0_feet 31 = .ok (.iload_n 3, 1) := dk_29 (dk_at dksX0_feet_1 7 rfl rfl)
theorem dX0_feet_32 : decode cX0_feet 32 = .ok (.i2l, 1) := dk_133 (dk_at dksX0_feet_1 8 rfl rfl)
theorem dX0_feet_33 : decode cX0_feet 33 = .ok (.lconst 0, 1) := dk_9 (dk_at dksX0_feet_1 9 rfl rfl)
theorem dX0_feet_34 : decode cX0_feet 34 = .ok (.ldc2_w 186, 3) := dk_20 0 186 (dk_at dksX0_feet_1 10 rfl rfl)
theorem dX0_feet_37 : decode cX0_feet 37 = .ok (.invokestatic 31, 3) := dk_184 0 31 (dk_at dksX0_feet_1 13 rfl rfl)
theorem dX0_feet_40 : decode cX0_feet 40 = .ok (.ifCond .eq 12, 3) := dk_153 0 12 (dk_at dksX0_feet_1 16 rfl rfl)
theorem dX0_feet_43 : decode cX0_feet 43 = .ok (.iload_n 1, 1) := dk_27 (dk_at dksX0_feet_1 19 rfl rfl)
theorem dX0_feet_44 : decode cX0_feet 44 = .ok (.iload_n 2, 1) := dk_28 (dk_at dksX0_feet_1 20 rfl rfl)
theorem dX0_feet_45 : decode cX0_feet 45 = .ok (.iload_n 3, 1) := dk_29 (dk_at dksX0_feet_1 21 rfl rfl)
theorem dX0_feet_46 : decode cX0_feet 46 = .ok (.invokestatic 188, 3) := dk_184 0 188 (dk_at dksX0_feet_2 0 rfl rfl)
theorem dX0_feet_49 : decode cX0_feet 49 = .ok (.goto 9, 3) := dk_167 0 9 (dk_at dksX0_feet_2 3 rfl rfl)
theorem dX0_feet_52 : decode cX0_feet 52 = .ok (.aload_n 0, 1) := dk_42 (dk_at dksX0_feet_2 6 rfl rfl)
theorem dX0_feet_53 : decode cX0_feet 53 = .ok (.bipush (-7), 2) := dk_16 249 (dk_at dksX0_feet_2 7 rfl rfl)
theorem dX0_feet_55 : decode cX0_feet 55 = .ok (.invokevirtual 118, 3) := dk_182 0 118 (dk_at dksX0_feet_2 9 rfl rfl)
theorem dX0_feet_58 : decode cX0_feet 58 = .ok (.ireturn, 1) := dk_172 (dk_at dksX0_feet_2 12 rfl rfl)
abbrev cX0_road : ByteArray := prog_1_method_19_code
def yX0_road : MethodName := ⟨RX0, "road", "(III)I"⟩
def dkwX0_road_6 : List UInt8 := [180, 0, 195, 172]
abbrev dktX0_road_6 : List UInt8 := dkwX0_road_6 ++ []
def dkwX0_road_5 : List UInt8 := [180, 0, 19, 89, 180, 0, 195, 4, 96, 181, 0, 195, 42, 180, 0, 19, 182, 0, 207, 42, 180, 0, 19]
abbrev dktX0_road_5 : List UInt8 := dkwX0_road_5 ++ dktX0_road_6
def dkwX0_road_4 : List UInt8 := [180, 0, 195, 28, 79, 42, 180, 0, 19, 180, 0, 204, 42, 180, 0, 19, 180, 0, 195, 29, 79, 42]
abbrev dktX0_road_4 : List UInt8 := dkwX0_road_4 ++ dktX0_road_5
def dkwX0_road_3 : List UInt8 := [180, 0, 198, 42, 180, 0, 19, 180, 0, 195, 27, 79, 42, 180, 0, 19, 180, 0, 201, 42, 180, 0, 19]
abbrev dktX0_road_3 : List UInt8 := dkwX0_road_3 ++ dktX0_road_4
def dkwX0_road_2 : List UInt8 := [180, 0, 19, 180, 0, 195, 16, 12, 160, 0, 10, 42, 16, 248, 182, 0, 118, 172, 42, 180, 0, 19]
abbrev dktX0_road_2 : List UInt8 := dkwX0_road_2 ++ dktX0_road_3
def dkwX0_road_1 : List UInt8 := [159, 0, 15, 29, 133, 10, 20, 0, 112, 184, 0, 31, 154, 0, 10, 42, 16, 249, 182, 0, 118, 172, 42]
abbrev dktX0_road_1 : List UInt8 := dkwX0_road_1 ++ dktX0_road_2
def dkwX0_road_0 : List UInt8 := [27, 184, 0, 192, 153, 0, 10, 28, 184, 0, 192, 154, 0, 10, 42, 16, 253, 182, 0, 118, 172, 27, 28]
abbrev dktX0_road_0 : List UInt8 := dkwX0_road_0 ++ dktX0_road_1
theorem dksX0_road_0 : cX0_road.data.toList.drop 0 = dktX0_road_0 := by decide +kernel
theorem dksX0_road_1 : cX0_road.data.toList.drop 23 = dktX0_road_1 := dk_seg dksX0_road_0 23 rfl rfl
theorem dksX0_road_2 : cX0_road.data.toList.drop 46 = dktX0_road_2 := dk_seg dksX0_road_1 23 rfl rfl
theorem dksX0_road_3 : cX0_road.data.toList.drop 68 = dktX0_road_3 := dk_seg dksX0_road_2 22 rfl rfl
theorem dksX0_road_4 : cX0_road.data.toList.drop 91 = dktX0_road_4 := dk_seg dksX0_road_3 23 rfl rfl
theorem dksX0_road_5 : cX0_road.data.toList.drop 113 = dktX0_road_5 := dk_seg dksX0_road_4 22 rfl rfl
theorem dksX0_road_6 : cX0_road.data.toList.drop 136 = dktX0_road_6 := dk_seg dksX0_road_5 23 rfl rfl
theorem dX0_road_0 : decode cX0_road 0 = .ok (.iload_n 1, 1) := dk_27 (dk_at dksX0_road_0 0 rfl rfl)
theorem dX0_road_1 : decode cX0_road 1 = .ok (.invokestatic 192, 3) := dk_184 0 192 (dk_at dksX0_road_0 1 rfl rfl)
theorem dX0_road_4 : decode cX0_road 4 = .ok (.ifCond .eq 10, 3) := dk_153 0 10 (dk_at dksX0_road_0 4 rfl rfl)
theorem dX0_road_7 : decode cX0_road 7 = .ok (.iload_n 2, 1) := dk_28 (dk_at dksX0_road_0 7 rfl rfl)
theorem dX0_road_8 : decode cX0_road 8 = .ok (.invokestatic 192, 3) := dk_184 0 192 (dk_at dksX0_road_0 8 rfl rfl)
theorem dX0_road_11 : decode cX0_road 11 = .ok (.ifCond .ne 10, 3) := dk_154 0 10 (dk_at dksX0_road_0 11 rfl rfl)
theorem dX0_road_14 : decode cX0_road 14 = .ok (.aload_n 0, 1) := dk_42 (dk_at dksX0_road_0 14 rfl rfl)
theorem dX0_road_15 : decode cX0_road 15 = .ok (.bipush (-3), 2) := dk_16 253 (dk_at dksX0_road_0 15 rfl rfl)
theorem dX0_road_17 : decode cX0_road 17 = .ok (.invokevirtual 118, 3) := dk_182 0 118 (dk_at dksX0_road_0 17 rfl rfl)
theorem dX0_road_20 : decode cX0_road 20 = .ok (.ireturn, 1) := dk_172 (dk_at dksX0_road_0 20 rfl rfl)
theorem dX0_road_21 : decode cX0_road 21 = .ok (.iload_n 1, 1) := dk_27 (dk_at dksX0_road_0 21 rfl rfl)
theorem dX0_road_22 : decode cX0_road 22 = .ok (.iload_n 2, 1) := dk_28 (dk_at dksX0_road_0 22 rfl rfl)
theorem dX0_road_23 : decode cX0_road 23 = .ok (.if_icmp .eq 15, 3) := dk_159 0 15 (dk_at dksX0_road_1 0 rfl rfl)
theorem dX0_road_26 : decode cX0_road 26 = .ok (.iload_n 3, 1) := dk_29 (dk_at dksX0_road_1 3 rfl rfl)
theorem dX0_road_27 : decode cX0_road 27 = .ok (.i2l, 1) := dk_133 (dk_at dksX0_road_1 4 rfl rfl)
theorem dX0_road_28 : decode cX0_road 28 = .ok (.lconst 1, 1) := dk_10 (dk_at dksX0_road_1 5 rfl rfl)
theorem dX0_road_29 : decode cX0_road 29 = .ok (.ldc2_w 112, 3) := dk_20 0 112 (dk_at dksX0_road_1 6 rfl rfl)
theorem dX0_road_32 : decode cX0_road 32 = .ok (.invokestatic 31, 3) := dk_184 0 31 (dk_at dksX0_road_1 9 rfl rfl)
theorem dX0_road_35 : decode cX0_road 35 = .ok (.ifCond .ne 10, 3) := dk_154 0 10 (dk_at dksX0_road_1 12 rfl rfl)
theorem dX0_road_38 : decode cX0_road 38 = .ok (.aload_n 0, 1) := dk_42 (dk_at dksX0_road_1 15 rfl rfl)
theorem dX0_road_39 : decode cX0_road 39 = .ok (.bipush (-7), 2) := dk_16 249 (dk_at dksX0_road_1 16 rfl rfl)
theorem dX0_road_41 : decode cX0_road 41 = .ok (.invokevirtual 118, 3) := dk_182 0 118 (dk_at dksX0_road_1 18 rfl rfl)
theorem dX0_road_44 : decode cX0_road 44 = .ok (.ireturn, 1) := dk_172 (dk_at dksX0_road_1 21 rfl rfl)
theorem dX0_road_45 : decode cX0_road 45 = .ok (.aload_n 0, 1) := dk_42 (dk_at dksX0_road_1 22 rfl rfl)
theorem dX0_road_46 : decode cX0_road 46 = .ok (.getfield 19, 3) := dk_180 0 19 (dk_at dksX0_road_2 0 rfl rfl)
theorem dX0_road_49 : decode cX0_road 49 = .ok (.getfield 195, 3) := dk_180 0 195 (dk_at dksX0_road_2 3 rfl rfl)
theorem dX0_road_52 : decode cX0_road 52 = .ok (.bipush 12, 2) := dk_16 12 (dk_at dksX0_road_2 6 rfl rfl)
theorem dX0_road_54 : decode cX0_road 54 = .ok (.if_icmp .ne 10, 3) := dk_160 0 10 (dk_at dksX0_road_2 8 rfl rfl)
theorem dX0_road_57 : decode cX0_road 57 = .ok (.aload_n 0, 1) := dk_42 (dk_at dksX0_road_2 11 rfl rfl)
theorem dX0_road_58 : decode cX0_road 58 = .ok (.bipush (-8), 2) := dk_16 248 (dk_at dksX0_road_2 12 rfl rfl)
theorem dX0_road_60 : decode cX0_road 60 = .ok (.invokevirtual 118, 3) := dk_182 0 118 (dk_at dksX0_road_2 14 rfl rfl)
theorem dX0_road_63 : decode cX0_road 63 = .ok (.ireturn, 1) := dk_172 (dk_at dksX0_road_2 17 rfl rfl)
theorem dX0_road_64 : decode cX0_road 64 = .ok (.aload_n 0, 1) := dk_42 (dk_at dksX0_road_2 18 rfl rfl)
theorem dX0_road_65 : decode cX0_road 65 = .ok (.getfield 19, 3) := dk_180 0 19 (dk_at dksX0_road_2 19 rfl rfl)
theorem dX0_road_68 : decode cX0_road 68 = .ok (.getfield 198, 3) := dk_180 0 198 (dk_at dksX0_road_3 0 rfl rfl)
theorem dX0_road_71 : decode cX0_road 71 = .ok (.aload_n 0, 1) := dk_42 (dk_at dksX0_road_3 3 rfl rfl)
theorem dX0_road_72 : decode cX0_road 72 = .ok (.getfield 19, 3) := dk_180 0 19 (dk_at dksX0_road_3 4 rfl rfl)
theorem dX0_road_75 : decode cX0_road 75 = .ok (.getfield 195, 3) := dk_180 0 195 (dk_at dksX0_road_3 7 rfl rfl)
theorem dX0_road_78 : decode cX0_road 78 = .ok (.iload_n 1, 1) := dk_27 (dk_at dksX0_road_3 10 rfl rfl)
theorem dX0_road_79 : decode cX0_road 79 = .ok (.iastore, 1) := dk_79 (dk_at dksX0_road_3 11 rfl rfl)
theorem dX0_road_80 : decode cX0_road 80 = .ok (.aload_n 0, 1) := dk_42 (dk_at dksX0_road_3 12 rfl rfl)
theorem dX0_road_81 : decode cX0_road 81 = .ok (.getfield 19, 3) := dk_180 0 19 (dk_at dksX0_road_3 13 rfl rfl)
theorem dX0_road_84 : decode cX0_road 84 = .ok (.getfield 201, 3) := dk_180 0 201 (dk_at dksX0_road_3 16 rfl rfl)
theorem dX0_road_87 : decode cX0_road 87 = .ok (.aload_n 0, 1) := dk_42 (dk_at dksX0_road_3 19 rfl rfl)
theorem dX0_road_88 : decode cX0_road 88 = .ok (.getfield 19, 3) := dk_180 0 19 (dk_at dksX0_road_3 20 rfl rfl)
theorem dX0_road_91 : decode cX0_road 91 = .ok (.getfield 195, 3) := dk_180 0 195 (dk_at dksX0_road_4 0 rfl rfl)
theorem dX0_road_94 : decode cX0_road 94 = .ok (.iload_n 2, 1) := dk_28 (dk_at dksX0_road_4 3 rfl rfl)
theorem dX0_road_95 : decode cX0_road 95 = .ok (.iastore, 1) := dk_79 (dk_at dksX0_road_4 4 rfl rfl)
theorem dX0_road_96 : decode cX0_road 96 = .ok (.aload_n 0, 1) := dk_42 (dk_at dksX0_road_4 5 rfl rfl)
theorem dX0_road_97 : decode cX0_road 97 = .ok (.getfield 19, 3) := dk_180 0 19 (dk_at dksX0_road_4 6 rfl rfl)
theorem dX0_road_100 : decode cX0_road 100 = .ok (.getfield 204, 3) := dk_180 0 204 (dk_at dksX0_road_4 9 rfl rfl)
theorem dX0_road_103 : decode cX0_road 103 = .ok (.aload_n 0, 1) := dk_42 (dk_at dksX0_road_4 12 rfl rfl)
theorem dX0_road_104 : decode cX0_road 104 = .ok (.getfield 19, 3) := dk_180 0 19 (dk_at dksX0_road_4 13 rfl rfl)
theorem dX0_road_107 : decode cX0_road 107 = .ok (.getfield 195, 3) := dk_180 0 195 (dk_at dksX0_road_4 16 rfl rfl)
theorem dX0_road_110 : decode cX0_road 110 = .ok (.iload_n 3, 1) := dk_29 (dk_at dksX0_road_4 19 rfl rfl)
theorem dX0_road_111 : decode cX0_road 111 = .ok (.iastore, 1) := dk_79 (dk_at dksX0_road_4 20 rfl rfl)
theorem dX0_road_112 : decode cX0_road 112 = .ok (.aload_n 0, 1) := dk_42 (dk_at dksX0_road_4 21 rfl rfl)
theorem dX0_road_113 : decode cX0_road 113 = .ok (.getfield 19, 3) := dk_180 0 19 (dk_at dksX0_road_5 0 rfl rfl)
theorem dX0_road_116 : decode cX0_road 116 = .ok (.dup, 1) := dk_89 (dk_at dksX0_road_5 3 rfl rfl)
theorem dX0_road_117 : decode cX0_road 117 = .ok (.getfield 195, 3) := dk_180 0 195 (dk_at dksX0_road_5 4 rfl rfl)
theorem dX0_road_120 : decode cX0_road 120 = .ok (.iconst 1, 1) := dk_4 (dk_at dksX0_road_5 7 rfl rfl)
theorem dX0_road_121 : decode cX0_road 121 = .ok (.iadd, 1) := dk_96 (dk_at dksX0_road_5 8 rfl rfl)
theorem dX0_road_122 : decode cX0_road 122 = .ok (.putfield 195, 3) := dk_181 0 195 (dk_at dksX0_road_5 9 rfl rfl)
theorem dX0_road_125 : decode cX0_road 125 = .ok (.aload_n 0, 1) := dk_42 (dk_at dksX0_road_5 12 rfl rfl)
theorem dX0_road_126 : decode cX0_road 126 = .ok (.getfield 19, 3) := dk_180 0 19 (dk_at dksX0_road_5 13 rfl rfl)
theorem dX0_road_129 : decode cX0_road 129 = .ok (.invokevirtual 207, 3) := dk_182 0 207 (dk_at dksX0_road_5 16 rfl rfl)
theorem dX0_road_132 : decode cX0_road 132 = .ok (.aload_n 0, 1) := dk_42 (dk_at dksX0_road_5 19 rfl rfl)
theorem dX0_road_133 : decode cX0_road 133 = .ok (.getfield 19, 3) := dk_180 0 19 (dk_at dksX0_road_5 20 rfl rfl)
theorem dX0_road_136 : decode cX0_road 136 = .ok (.getfield 195, 3) := dk_180 0 195 (dk_at dksX0_road_6 0 rfl rfl)
theorem dX0_road_139 : decode cX0_road 139 = .ok (.ireturn, 1) := dk_172 (dk_at dksX0_road_6 3 rfl rfl)
abbrev cX0_isBlock : ByteArray := prog_1_method_9_code
def yX0_isBlock : MethodName := ⟨RX0, "isBlock", "(I)Z"⟩
def dkwX0_isBlock_0 : List UInt8 := [26, 133, 9, 20, 0, 29, 184, 0, 31, 172]
abbrev dktX0_isBlock_0 : List UInt8 := dkwX0_isBlock_0 ++ []
theorem dksX0_isBlock_0 : cX0_isBlock.data.toList.drop 0 = dktX0_isBlock_0 := by decide +kernel
theorem dX0_isBlock_0 : decode cX0_isBlock 0 = .ok (.iload_n 0, 1) := dk_26 (dk_at dksX0_isBlock_0 0 rfl rfl)
theorem dX0_isBlock_1 : decode cX0_isBlock 1 = .ok (.i2l, 1) := dk_133 (dk_at dksX0_isBlock_0 1 rfl rfl)
theorem dX0_isBlock_2 : decode cX0_isBlock 2 = .ok (.lconst 0, 1) := dk_9 (dk_at dksX0_isBlock_0 2 rfl rfl)
theorem dX0_isBlock_3 : decode cX0_isBlock 3 = .ok (.ldc2_w 29, 3) := dk_20 0 29 (dk_at dksX0_isBlock_0 3 rfl rfl)
theorem dX0_isBlock_6 : decode cX0_isBlock 6 = .ok (.invokestatic 31, 3) := dk_184 0 31 (dk_at dksX0_isBlock_0 6 rfl rfl)
theorem dX0_isBlock_9 : decode cX0_isBlock 9 = .ok (.ireturn, 1) := dk_172 (dk_at dksX0_isBlock_0 9 rfl rfl)
abbrev cX0_haul : ByteArray := prog_1_method_20_code
def yX0_haul : MethodName := ⟨RX0, "haul", "(I)I"⟩
def dkwX0_haul_1 : List UInt8 := [18, 213, 162, 0, 15, 42, 180, 0, 19, 180, 0, 210, 27, 46, 167, 0, 4, 2, 172]
abbrev dktX0_haul_1 : List UInt8 := dkwX0_haul_1 ++ []
def dkwX0_haul_0 : List UInt8 := [27, 184, 0, 192, 154, 0, 10, 42, 16, 253, 182, 0, 118, 172, 42, 180, 0, 19, 180, 0, 210, 27, 46]
abbrev dktX0_haul_0 : List UInt8 := dkwX0_haul_0 ++ dktX0_haul_1
theorem dksX0_haul_0 : cX0_haul.data.toList.drop 0 = dktX0_haul_0 := by decide +kernel
theorem dksX0_haul_1 : cX0_haul.data.toList.drop 23 = dktX0_haul_1 := dk_seg dksX0_haul_0 23 rfl rfl
theorem dX0_haul_0 : decode cX0_haul 0 = .ok (.iload_n 1, 1) := dk_27 (dk_at dksX0_haul_0 0 rfl rfl)
theorem dX0_haul_1 : decode cX0_haul 1 = .ok (.invokestatic 192, 3) := dk_184 0 192 (dk_at dksX0_haul_0 1 rfl rfl)
theorem dX0_haul_4 : decode cX0_haul 4 = .ok (.ifCond .ne 10, 3) := dk_154 0 10 (dk_at dksX0_haul_0 4 rfl rfl)
theorem dX0_haul_7 : decode cX0_haul 7 = .ok (.aload_n 0, 1) := dk_42 (dk_at dksX0_haul_0 7 rfl rfl)
theorem dX0_haul_8 : decode cX0_haul 8 = .ok (.bipush (-3), 2) := dk_16 253 (dk_at dksX0_haul_0 8 rfl rfl)
theorem dX0_haul_10 : decode cX0_haul 10 = .ok (.invokevirtual 118, 3) := dk_182 0 118 (dk_at dksX0_haul_0 10 rfl rfl)
theorem dX0_haul_13 : decode cX0_haul 13 = .ok (.ireturn, 1) := dk_172 (dk_at dksX0_haul_0 13 rfl rfl)
theorem dX0_haul_14 : decode cX0_haul 14 = .ok (.aload_n 0, 1) := dk_42 (dk_at dksX0_haul_0 14 rfl rfl)
theorem dX0_haul_15 : decode cX0_haul 15 = .ok (.getfield 19, 3) := dk_180 0 19 (dk_at dksX0_haul_0 15 rfl rfl)
theorem dX0_haul_18 : decode cX0_haul 18 = .ok (.getfield 210, 3) := dk_180 0 210 (dk_at dksX0_haul_0 18 rfl rfl)
theorem dX0_haul_21 : decode cX0_haul 21 = .ok (.iload_n 1, 1) := dk_27 (dk_at dksX0_haul_0 21 rfl rfl)
theorem dX0_haul_22 : decode cX0_haul 22 = .ok (.iaload, 1) := dk_46 (dk_at dksX0_haul_0 22 rfl rfl)
theorem dX0_haul_23 : decode cX0_haul 23 = .ok (.ldc 213, 2) := dk_18 213 (dk_at dksX0_haul_1 0 rfl rfl)
theorem dX0_haul_25 : decode cX0_haul 25 = .ok (.if_icmp .ge 15, 3) := dk_162 0 15 (dk_at dksX0_haul_1 2 rfl rfl)
theorem dX0_haul_28 : decode cX0_haul 28 = .ok (.aload_n 0, 1) := dk_42 (dk_at dksX0_haul_1 5 rfl rfl)
theorem dX0_haul_29 : decode cX0_haul 29 = .ok (.getfield 19, 3) := dk_180 0 19 (dk_at dksX0_haul_1 6 rfl rfl)
theorem dX0_haul_32 : decode cX0_haul 32 = .ok (.getfield 210, 3) := dk_180 0 210 (dk_at dksX0_haul_1 9 rfl rfl)
theorem dX0_haul_35 : decode cX0_haul 35 = .ok (.iload_n 1, 1) := dk_27 (dk_at dksX0_haul_1 12 rfl rfl)
theorem dX0_haul_36 : decode cX0_haul 36 = .ok (.iaload, 1) := dk_46 (dk_at dksX0_haul_1 13 rfl rfl)
theorem dX0_haul_37 : decode cX0_haul 37 = .ok (.goto 4, 3) := dk_167 0 4 (dk_at dksX0_haul_1 14 rfl rfl)
theorem dX0_haul_40 : decode cX0_haul 40 = .ok (.iconst (-1), 1) := dk_2 (dk_at dksX0_haul_1 17 rfl rfl)
theorem dX0_haul_41 : decode cX0_haul 41 = .ok (.ireturn, 1) := dk_172 (dk_at dksX0_haul_1 18 rfl rfl)
abbrev cX0_village : ByteArray := prog_1_method_21_code
def yX0_village : MethodName := ⟨RX0, "village", "(III)I"⟩
def dkwX0_village_5 : List UInt8 := [180, 0, 19, 89, 180, 0, 35, 4, 96, 181, 0, 35, 42, 180, 0, 19, 180, 0, 35, 4, 100, 172]
abbrev dktX0_village_5 : List UInt8 := dkwX0_village_5 ++ []
def dkwX0_village_4 : List UInt8 := [180, 0, 35, 28, 79, 42, 180, 0, 19, 180, 0, 220, 42, 180, 0, 19, 180, 0, 35, 29, 79, 42]
abbrev dktX0_village_4 : List UInt8 := dkwX0_village_4 ++ dktX0_village_5
def dkwX0_village_3 : List UInt8 := [180, 0, 214, 42, 180, 0, 19, 180, 0, 35, 27, 79, 42, 180, 0, 19, 180, 0, 217, 42, 180, 0, 19]
abbrev dktX0_village_3 : List UInt8 := dkwX0_village_3 ++ dktX0_village_4
def dkwX0_village_2 : List UInt8 := [180, 0, 19, 180, 0, 35, 16, 8, 160, 0, 10, 42, 16, 248, 182, 0, 118, 172, 42, 180, 0, 19]
abbrev dktX0_village_2 : List UInt8 := dkwX0_village_2 ++ dktX0_village_3
def dkwX0_village_1 : List UInt8 := [153, 0, 15, 29, 133, 9, 20, 0, 112, 184, 0, 31, 154, 0, 10, 42, 16, 249, 182, 0, 118, 172, 42]
abbrev dktX0_village_1 : List UInt8 := dkwX0_village_1 ++ dktX0_village_2
def dkwX0_village_0 : List UInt8 := [27, 184, 0, 192, 154, 0, 10, 42, 16, 253, 182, 0, 118, 172, 28, 133, 9, 20, 0, 112, 184, 0, 31]
abbrev dktX0_village_0 : List UInt8 := dkwX0_village_0 ++ dktX0_village_1
theorem dksX0_village_0 : cX0_village.data.toList.drop 0 = dktX0_village_0 := by decide +kernel
theorem dksX0_village_1 : cX0_village.data.toList.drop 23 = dktX0_village_1 := dk_seg dksX0_village_0 23 rfl rfl
theorem dksX0_village_2 : cX0_village.data.toList.drop 46 = dktX0_village_2 := dk_seg dksX0_village_1 23 rfl rfl
theorem dksX0_village_3 : cX0_village.data.toList.drop 68 = dktX0_village_3 := dk_seg dksX0_village_2 22 rfl rfl
theorem dksX0_village_4 : cX0_village.data.toList.drop 91 = dktX0_village_4 := dk_seg dksX0_village_3 23 rfl rfl
theorem dksX0_village_5 : cX0_village.data.toList.drop 113 = dktX0_village_5 := dk_seg dksX0_village_4 22 rfl rfl
theorem dX0_village_0 : decode cX0_village 0 = .ok (.iload_n 1, 1) := dk_27 (dk_at dksX0_village_0 0 rfl rfl)
theorem dX0_village_1 : decode cX0_village 1 = .ok (.invokestatic 192, 3) := dk_184 0 192 (dk_at dksX0_village_0 1 rfl rfl)
theorem dX0_village_4 : decode cX0_village 4 = .ok (.ifCond .ne 10, 3) := dk_154 0 10 (dk_at dksX0_village_0 4 rfl rfl)
theorem dX0_village_7 : decode cX0_village 7 = .ok (.aload_n 0, 1) := dk_42 (dk_at dksX0_village_0 7 rfl rfl)
theorem dX0_village_8 : decode cX0_village 8 = .ok (.bipush (-3), 2) := dk_16 253 (dk_at dksX0_village_0 8 rfl rfl)
theorem dX0_village_10 : decode cX0_village 10 = .ok (.invokevirtual 118, 3) := dk_182 0 118 (dk_at dksX0_village_0 10 rfl rfl)
theorem dX0_village_13 : decode cX0_village 13 = .ok (.ireturn, 1) := dk_172 (dk_at dksX0_village_0 13 rfl rfl)
theorem dX0_village_14 : decode cX0_village 14 = .ok (.iload_n 2, 1) := dk_28 (dk_at dksX0_village_0 14 rfl rfl)
theorem dX0_village_15 : decode cX0_village 15 = .ok (.i2l, 1) := dk_133 (dk_at dksX0_village_0 15 rfl rfl)
theorem dX0_village_16 : decode cX0_village 16 = .ok (.lconst 0, 1) := dk_9 (dk_at dksX0_village_0 16 rfl rfl)
theorem dX0_village_17 : decode cX0_village 17 = .ok (.ldc2_w 112, 3) := dk_20 0 112 (dk_at dksX0_village_0 17 rfl rfl)
theorem dX0_village_20 : decode cX0_village 20 = .ok (.invokestatic 31, 3) := dk_184 0 31 (dk_at dksX0_village_0 20 rfl rfl)
theorem dX0_village_23 : decode cX0_village 23 = .ok (.ifCond .eq 15, 3) := dk_153 0 15 (dk_at dksX0_village_1 0 rfl rfl)
theorem dX0_village_26 : decode cX0_village 26 = .ok (.iload_n 3, 1) := dk_29 (dk_at dksX0_village_1 3 rfl rfl)
theorem dX0_village_27 : decode cX0_village 27 = .ok (.i2l, 1) := dk_133 (dk_at dksX0_village_1 4 rfl rfl)
theorem dX0_village_28 : decode cX0_village 28 = .ok (.lconst 0, 1) := dk_9 (dk_at dksX0_village_1 5 rfl rfl)
theorem dX0_village_29 : decode cX0_village 29 = .ok (.ldc2_w 112, 3) := dk_20 0 112 (dk_at dksX0_village_1 6 rfl rfl)
theorem dX0_village_32 : decode cX0_village 32 = .ok (.invokestatic 31, 3) := dk_184 0 31 (dk_at dksX0_village_1 9 rfl rfl)
theorem dX0_village_35 : decode cX0_village 35 = .ok (.ifCond .ne 10, 3) := dk_154 0 10 (dk_at dksX0_village_1 12 rfl rfl)
theorem dX0_village_38 : decode cX0_village 38 = .ok (.aload_n 0, 1) := dk_42 (dk_at dksX0_village_1 15 rfl rfl)
theorem dX0_village_39 : decode cX0_village 39 = .ok (.bipush (-7), 2) := dk_16 249 (dk_at dksX0_village_1 16 rfl rfl)
theorem dX0_village_41 : decode cX0_village 41 = .ok (.invokevirtual 118, 3) := dk_182 0 118 (dk_at dksX0_village_1 18 rfl rfl)
theorem dX0_village_44 : decode cX0_village 44 = .ok (.ireturn, 1) := dk_172 (dk_at dksX0_village_1 21 rfl rfl)
theorem dX0_village_45 : decode cX0_village 45 = .ok (.aload_n 0, 1) := dk_42 (dk_at dksX0_village_1 22 rfl rfl)
theorem dX0_village_46 : decode cX0_village 46 = .ok (.getfield 19, 3) := dk_180 0 19 (dk_at dksX0_village_2 0 rfl rfl)
theorem dX0_village_49 : decode cX0_village 49 = .ok (.getfield 35, 3) := dk_180 0 35 (dk_at dksX0_village_2 3 rfl rfl)
theorem dX0_village_52 : decode cX0_village 52 = .ok (.bipush 8, 2) := dk_16 8 (dk_at dksX0_village_2 6 rfl rfl)
theorem dX0_village_54 : decode cX0_village 54 = .ok (.if_icmp .ne 10, 3) := dk_160 0 10 (dk_at dksX0_village_2 8 rfl rfl)
theorem dX0_village_57 : decode cX0_village 57 = .ok (.aload_n 0, 1) := dk_42 (dk_at dksX0_village_2 11 rfl rfl)
theorem dX0_village_58 : decode cX0_village 58 = .ok (.bipush (-8), 2) := dk_16 248 (dk_at dksX0_village_2 12 rfl rfl)
theorem dX0_village_60 : decode cX0_village 60 = .ok (.invokevirtual 118, 3) := dk_182 0 118 (dk_at dksX0_village_2 14 rfl rfl)
theorem dX0_village_63 : decode cX0_village 63 = .ok (.ireturn, 1) := dk_172 (dk_at dksX0_village_2 17 rfl rfl)
theorem dX0_village_64 : decode cX0_village 64 = .ok (.aload_n 0, 1) := dk_42 (dk_at dksX0_village_2 18 rfl rfl)
theorem dX0_village_65 : decode cX0_village 65 = .ok (.getfield 19, 3) := dk_180 0 19 (dk_at dksX0_village_2 19 rfl rfl)
theorem dX0_village_68 : decode cX0_village 68 = .ok (.getfield 214, 3) := dk_180 0 214 (dk_at dksX0_village_3 0 rfl rfl)
theorem dX0_village_71 : decode cX0_village 71 = .ok (.aload_n 0, 1) := dk_42 (dk_at dksX0_village_3 3 rfl rfl)
theorem dX0_village_72 : decode cX0_village 72 = .ok (.getfield 19, 3) := dk_180 0 19 (dk_at dksX0_village_3 4 rfl rfl)
theorem dX0_village_75 : decode cX0_village 75 = .ok (.getfield 35, 3) := dk_180 0 35 (dk_at dksX0_village_3 7 rfl rfl)
theorem dX0_village_78 : decode cX0_village 78 = .ok (.iload_n 1, 1) := dk_27 (dk_at dksX0_village_3 10 rfl rfl)
theorem dX0_village_79 : decode cX0_village 79 = .ok (.iastore, 1) := dk_79 (dk_at dksX0_village_3 11 rfl rfl)
theorem dX0_village_80 : decode cX0_village 80 = .ok (.aload_n 0, 1) := dk_42 (dk_at dksX0_village_3 12 rfl rfl)
theorem dX0_village_81 : decode cX0_village 81 = .ok (.getfield 19, 3) := dk_180 0 19 (dk_at dksX0_village_3 13 rfl rfl)
theorem dX0_village_84 : decode cX0_village 84 = .ok (.getfield 217, 3) := dk_180 0 217 (dk_at dksX0_village_3 16 rfl rfl)
theorem dX0_village_87 : decode cX0_village 87 = .ok (.aload_n 0, 1) := dk_42 (dk_at dksX0_village_3 19 rfl rfl)
theorem dX0_village_88 : decode cX0_village 88 = .ok (.getfield 19, 3) := dk_180 0 19 (dk_at dksX0_village_3 20 rfl rfl)
theorem dX0_village_91 : decode cX0_village 91 = .ok (.getfield 35, 3) := dk_180 0 35 (dk_at dksX0_village_4 0 rfl rfl)
theorem dX0_village_94 : decode cX0_village 94 = .ok (.iload_n 2, 1) := dk_28 (dk_at dksX0_village_4 3 rfl rfl)
theorem dX0_village_95 : decode cX0_village 95 = .ok (.iastore, 1) := dk_79 (dk_at dksX0_village_4 4 rfl rfl)
theorem dX0_village_96 : decode cX0_village 96 = .ok (.aload_n 0, 1) := dk_42 (dk_at dksX0_village_4 5 rfl rfl)
theorem dX0_village_97 : decode cX0_village 97 = .ok (.getfield 19, 3) := dk_180 0 19 (dk_at dksX0_village_4 6 rfl rfl)
theorem dX0_village_100 : decode cX0_village 100 = .ok (.getfield 220, 3) := dk_180 0 220 (dk_at dksX0_village_4 9 rfl rfl)
theorem dX0_village_103 : decode cX0_village 103 = .ok (.aload_n 0, 1) := dk_42 (dk_at dksX0_village_4 12 rfl rfl)
theorem dX0_village_104 : decode cX0_village 104 = .ok (.getfield 19, 3) := dk_180 0 19 (dk_at dksX0_village_4 13 rfl rfl)
theorem dX0_village_107 : decode cX0_village 107 = .ok (.getfield 35, 3) := dk_180 0 35 (dk_at dksX0_village_4 16 rfl rfl)
theorem dX0_village_110 : decode cX0_village 110 = .ok (.iload_n 3, 1) := dk_29 (dk_at dksX0_village_4 19 rfl rfl)
theorem dX0_village_111 : decode cX0_village 111 = .ok (.iastore, 1) := dk_79 (dk_at dksX0_village_4 20 rfl rfl)
theorem dX0_village_112 : decode cX0_village 112 = .ok (.aload_n 0, 1) := dk_42 (dk_at dksX0_village_4 21 rfl rfl)
theorem dX0_village_113 : decode cX0_village 113 = .ok (.getfield 19, 3) := dk_180 0 19 (dk_at dksX0_village_5 0 rfl rfl)
theorem dX0_village_116 : decode cX0_village 116 = .ok (.dup, 1) := dk_89 (dk_at dksX0_village_5 3 rfl rfl)
theorem dX0_village_117 : decode cX0_village 117 = .ok (.getfield 35, 3) := dk_180 0 35 (dk_at dksX0_village_5 4 rfl rfl)
theorem dX0_village_120 : decode cX0_village 120 = .ok (.iconst 1, 1) := dk_4 (dk_at dksX0_village_5 7 rfl rfl)
theorem dX0_village_121 : decode cX0_village 121 = .ok (.iadd, 1) := dk_96 (dk_at dksX0_village_5 8 rfl rfl)
theorem dX0_village_122 : decode cX0_village 122 = .ok (.putfield 35, 3) := dk_181 0 35 (dk_at dksX0_village_5 9 rfl rfl)
theorem dX0_village_125 : decode cX0_village 125 = .ok (.aload_n 0, 1) := dk_42 (dk_at dksX0_village_5 12 rfl rfl)
theorem dX0_village_126 : decode cX0_village 126 = .ok (.getfield 19, 3) := dk_180 0 19 (dk_at dksX0_village_5 13 rfl rfl)
theorem dX0_village_129 : decode cX0_village 129 = .ok (.getfield 35, 3) := dk_180 0 35 (dk_at dksX0_village_5 16 rfl rfl)
theorem dX0_village_132 : decode cX0_village 132 = .ok (.iconst 1, 1) := dk_4 (dk_at dksX0_village_5 19 rfl rfl)
theorem dX0_village_133 : decode cX0_village 133 = .ok (.isub, 1) := dk_100 (dk_at dksX0_village_5 20 rfl rfl)
theorem dX0_village_134 : decode cX0_village 134 = .ok (.ireturn, 1) := dk_172 (dk_at dksX0_village_5 21 rfl rfl)
abbrev cX0_people : ByteArray := prog_1_method_22_code
def yX0_people : MethodName := ⟨RX0, "people", "(III)I"⟩
def dkwX0_people_3 : List UInt8 := [180, 0, 220, 27, 29, 79, 21, 4, 172]
abbrev dktX0_people_3 : List UInt8 := dkwX0_people_3 ++ []
def dkwX0_people_2 : List UInt8 := [180, 0, 19, 180, 0, 217, 27, 46, 54, 4, 42, 180, 0, 19, 180, 0, 217, 27, 28, 79, 42, 180, 0, 19]
abbrev dktX0_people_2 : List UInt8 := dkwX0_people_2 ++ dktX0_people_3
def dkwX0_people_1 : List UInt8 := [153, 0, 15, 29, 133, 9, 20, 0, 112, 184, 0, 31, 154, 0, 10, 42, 16, 249, 182, 0, 118, 172, 42]
abbrev dktX0_people_1 : List UInt8 := dkwX0_people_1 ++ dktX0_people_2
def dkwX0_people_0 : List UInt8 := [42, 27, 182, 0, 223, 154, 0, 10, 42, 16, 253, 182, 0, 118, 172, 28, 133, 9, 20, 0, 112, 184, 0, 31]
abbrev dktX0_people_0 : List UInt8 := dkwX0_people_0 ++ dktX0_people_1
theorem dksX0_people_0 : cX0_people.data.toList.drop 0 = dktX0_people_0 := by decide +kernel
theorem dksX0_people_1 : cX0_people.data.toList.drop 24 = dktX0_people_1 := dk_seg dksX0_people_0 24 rfl rfl
theorem dksX0_people_2 : cX0_people.data.toList.drop 47 = dktX0_people_2 := dk_seg dksX0_people_1 23 rfl rfl
theorem dksX0_people_3 : cX0_people.data.toList.drop 71 = dktX0_people_3 := dk_seg dksX0_people_2 24 rfl rfl
theorem dX0_people_0 : decode cX0_people 0 = .ok (.aload_n 0, 1) := dk_42 (dk_at dksX0_people_0 0 rfl rfl)
theorem dX0_people_1 : decode cX0_people 1 = .ok (.iload_n 1, 1) := dk_27 (dk_at dksX0_people_0 1 rfl rfl)
theorem dX0_people_2 : decode cX0_people 2 = .ok (.invokevirtual 223, 3) := dk_182 0 223 (dk_at dksX0_people_0 2 rfl rfl)
theorem dX0_people_5 : decode cX0_people 5 = .ok (.ifCond .ne 10, 3) := dk_154 0 10 (dk_at dksX0_people_0 5 rfl rfl)
theorem dX0_people_8 : decode cX0_people 8 = .ok (.aload_n 0, 1) := dk_42 (dk_at dksX0_people_0 8 rfl rfl)
theorem dX0_people_9 : decode cX0_people 9 = .ok (.bipush (-3), 2) := dk_16 253 (dk_at dksX0_people_0 9 rfl rfl)
theorem dX0_people_11 : decode cX0_people 11 = .ok (.invokevirtual 118, 3) := dk_182 0 118 (dk_at dksX0_people_0 11 rfl rfl)
theorem dX0_people_14 : decode cX0_people 14 = .ok (.ireturn, 1) := dk_172 (dk_at dksX0_people_0 14 rfl rfl)
theorem dX0_people_15 : decode cX0_people 15 = .ok (.iload_n 2, 1) := dk_28 (dk_at dksX0_people_0 15 rfl rfl)
theorem dX0_people_16 : decode cX0_people 16 = .ok (.i2l, 1) := dk_133 (dk_at dksX0_people_0 16 rfl rfl)
theorem dX0_people_17 : decode cX0_people 17 = .ok (.lconst 0, 1) := dk_9 (dk_at dksX0_people_0 17 rfl rfl)
theorem dX0_people_18 : decode cX0_people 18 = .ok (.ldc2_w 112, 3) := dk_20 0 112 (dk_at dksX0_people_0 18 rfl rfl)
theorem dX0_people_21 : decode cX0_people 21 = .ok (.invokestatic 31, 3) := dk_184 0 31 (dk_at dksX0_people_0 21 rfl rfl)
theorem dX0_people_24 : decode cX0_people 24 = .ok (.ifCond .eq 15, 3) := dk_153 0 15 (dk_at dksX0_people_1 0 rfl rfl)
theorem dX0_people_27 : decode cX0_people 27 = .ok (.iload_n 3, 1) := dk_29 (dk_at dksX0_people_1 3 rfl rfl)
theorem dX0_people_28 : decode cX0_people 28 = .ok (.i2l, 1) := dk_133 (dk_at dksX0_people_1 4 rfl rfl)
theorem dX0_people_29 : decode cX0_people 29 = .ok (.lconst 0, 1) := dk_9 (dk_at dksX0_people_1 5 rfl rfl)
theorem dX0_people_30 : decode cX0_people 30 = .ok (.ldc2_w 112, 3) := dk_20 0 112 (dk_at dksX0_people_1 6 rfl rfl)
theorem dX0_people_33 : decode cX0_people 33 = .ok (.invokestatic 31, 3) := dk_184 0 31 (dk_at dksX0_people_1 9 rfl rfl)
theorem dX0_people_36 : decode cX0_people 36 = .ok (.ifCond .ne 10, 3) := dk_154 0 10 (dk_at dksX0_people_1 12 rfl rfl)
theorem dX0_people_39 : decode cX0_people 39 = .ok (.aload_n 0, 1) := dk_42 (dk_at dksX0_people_1 15 rfl rfl)
theorem dX0_people_40 : decode cX0_people 40 = .ok (.bipush (-7), 2) := dk_16 249 (dk_at dksX0_people_1 16 rfl rfl)
theorem dX0_people_42 : decode cX0_people 42 = .ok (.invokevirtual 118, 3) := dk_182 0 118 (dk_at dksX0_people_1 18 rfl rfl)
theorem dX0_people_45 : decode cX0_people 45 = .ok (.ireturn, 1) := dk_172 (dk_at dksX0_people_1 21 rfl rfl)
theorem dX0_people_46 : decode cX0_people 46 = .ok (.aload_n 0, 1) := dk_42 (dk_at dksX0_people_1 22 rfl rfl)
theorem dX0_people_47 : decode cX0_people 47 = .ok (.getfield 19, 3) := dk_180 0 19 (dk_at dksX0_people_2 0 rfl rfl)
theorem dX0_people_50 : decode cX0_people 50 = .ok (.getfield 217, 3) := dk_180 0 217 (dk_at dksX0_people_2 3 rfl rfl)
theorem dX0_people_53 : decode cX0_people 53 = .ok (.iload_n 1, 1) := dk_27 (dk_at dksX0_people_2 6 rfl rfl)
theorem dX0_people_54 : decode cX0_people 54 = .ok (.iaload, 1) := dk_46 (dk_at dksX0_people_2 7 rfl rfl)
theorem dX0_people_55 : decode cX0_people 55 = .ok (.istore 4, 2) := dk_54 4 (dk_at dksX0_people_2 8 rfl rfl)
theorem dX0_people_57 : decode cX0_people 57 = .ok (.aload_n 0, 1) := dk_42 (dk_at dksX0_people_2 10 rfl rfl)
theorem dX0_people_58 : decode cX0_people 58 = .ok (.getfield 19, 3) := dk_180 0 19 (dk_at dksX0_people_2 11 rfl rfl)
theorem dX0_people_61 : decode cX0_people 61 = .ok (.getfield 217, 3) := dk_180 0 217 (dk_at dksX0_people_2 14 rfl rfl)
theorem dX0_people_64 : decode cX0_people 64 = .ok (.iload_n 1, 1) := dk_27 (dk_at dksX0_people_2 17 rfl rfl)
theorem dX0_people_65 : decode cX0_people 65 = .ok (.iload_n 2, 1) := dk_28 (dk_at dksX0_people_2 18 rfl rfl)
theorem dX0_people_66 : decode cX0_people 66 = .ok (.iastore, 1) := dk_79 (dk_at dksX0_people_2 19 rfl rfl)
theorem dX0_people_67 : decode cX0_people 67 = .ok (.aload_n 0, 1) := dk_42 (dk_at dksX0_people_2 20 rfl rfl)
theorem dX0_people_68 : decode cX0_people 68 = .ok (.getfield 19, 3) := dk_180 0 19 (dk_at dksX0_people_2 21 rfl rfl)
theorem dX0_people_71 : decode cX0_people 71 = .ok (.getfield 220, 3) := dk_180 0 220 (dk_at dksX0_people_3 0 rfl rfl)
theorem dX0_people_74 : decode cX0_people 74 = .ok (.iload_n 1, 1) := dk_27 (dk_at dksX0_people_3 3 rfl rfl)
theorem dX0_people_75 : decode cX0_people 75 = .ok (.iload_n 3, 1) := dk_29 (dk_at dksX0_people_3 4 rfl rfl)
theorem dX0_people_76 : decode cX0_people 76 = .ok (.iastore, 1) := dk_79 (dk_at dksX0_people_3 5 rfl rfl)
theorem dX0_people_77 : decode cX0_people 77 = .ok (.iload 4, 2) := dk_21 4 (dk_at dksX0_people_3 6 rfl rfl)
theorem dX0_people_79 : decode cX0_people 79 = .ok (.ireturn, 1) := dk_172 (dk_at dksX0_people_3 8 rfl rfl)
abbrev cX0_isVillage : ByteArray := prog_1_method_10_code
def yX0_isVillage : MethodName := ⟨RX0, "isVillage", "(I)Z"⟩
def dkwX0_isVillage_0 : List UInt8 := [27, 155, 0, 18, 27, 42, 180, 0, 19, 180, 0, 35, 162, 0, 7, 4, 167, 0, 4, 3, 172]
abbrev dktX0_isVillage_0 : List UInt8 := dkwX0_isVillage_0 ++ []
theorem dksX0_isVillage_0 : cX0_isVillage.data.toList.drop 0 = dktX0_isVillage_0 := by decide +kernel
theorem dX0_isVillage_0 : decode cX0_isVillage 0 = .ok (.iload_n 1, 1) := dk_27 (dk_at dksX0_isVillage_0 0 rfl rfl)
theorem dX0_isVillage_1 : decode cX0_isVillage 1 = .ok (.ifCond .lt 18, 3) := dk_155 0 18 (dk_at dksX0_isVillage_0 1 rfl rfl)
theorem dX0_isVillage_4 : decode cX0_isVillage 4 = .ok (.iload_n 1, 1) := dk_27 (dk_at dksX0_isVillage_0 4 rfl rfl)
theorem dX0_isVillage_5 : decode cX0_isVillage 5 = .ok (.aload_n 0, 1) := dk_42 (dk_at dksX0_isVillage_0 5 rfl rfl)
theorem dX0_isVillage_6 : decode cX0_isVillage 6 = .ok (.getfield 19, 3) := dk_180 0 19 (dk_at dksX0_isVillage_0 6 rfl rfl)
theorem dX0_isVillage_9 : decode cX0_isVillage 9 = .ok (.getfield 35, 3) := dk_180 0 35 (dk_at dksX0_isVillage_0 9 rfl rfl)
theorem dX0_isVillage_12 : decode cX0_isVillage 12 = .ok (.if_icmp .ge 7, 3) := dk_162 0 7 (dk_at dksX0_isVillage_0 12 rfl rfl)
theorem dX0_isVillage_15 : decode cX0_isVillage 15 = .ok (.iconst 1, 1) := dk_4 (dk_at dksX0_isVillage_0 15 rfl rfl)
theorem dX0_isVillage_16 : decode cX0_isVillage 16 = .ok (.goto 4, 3) := dk_167 0 4 (dk_at dksX0_isVillage_0 16 rfl rfl)
theorem dX0_isVillage_19 : decode cX0_isVillage 19 = .ok (.iconst 0, 1) := dk_3 (dk_at dksX0_isVillage_0 19 rfl rfl)
theorem dX0_isVillage_20 : decode cX0_isVillage 20 = .ok (.ireturn, 1) := dk_172 (dk_at dksX0_isVillage_0 20 rfl rfl)
abbrev cX0_of : ByteArray := prog_1_method_24_code
def yX0_of : MethodName := ⟨RX0, "of", "(II)I"⟩
def dkwX0_of_4 : List UInt8 := [16, 249, 182, 0, 118, 172]
abbrev dktX0_of_4 : List UInt8 := dkwX0_of_4 ++ []
def dkwX0_of_3 : List UInt8 := [180, 0, 220, 27, 46, 172, 42, 180, 0, 19, 180, 0, 238, 27, 46, 172, 42, 27, 182, 0, 241, 172, 42]
abbrev dktX0_of_3 : List UInt8 := dkwX0_of_3 ++ dktX0_of_4
def dkwX0_of_2 : List UInt8 := [42, 180, 0, 19, 180, 0, 214, 27, 46, 172, 42, 180, 0, 19, 180, 0, 217, 27, 46, 172, 42, 180, 0, 19]
abbrev dktX0_of_2 : List UInt8 := dkwX0_of_2 ++ dktX0_of_3
def dkwX0_of_1 : List UInt8 := [170, 0, 0, 0, 0, 0, 0, 82, 0, 0, 0, 0, 0, 0, 0, 4, 0, 0, 0, 36, 0, 0, 0, 46, 0, 0, 0, 56, 0, 0, 0, 66, 0, 0, 0, 76]
abbrev dktX0_of_1 : List UInt8 := dkwX0_of_1 ++ dktX0_of_2
def dkwX0_of_0 : List UInt8 := [42, 27, 182, 0, 223, 154, 0, 10, 42, 16, 253, 182, 0, 118, 172, 28]
abbrev dktX0_of_0 : List UInt8 := dkwX0_of_0 ++ dktX0_of_1
theorem dksX0_of_0 : cX0_of.data.toList.drop 0 = dktX0_of_0 := by decide +kernel
theorem dksX0_of_1 : cX0_of.data.toList.drop 16 = dktX0_of_1 := dk_seg dksX0_of_0 16 rfl rfl
theorem dksX0_of_2 : cX0_of.data.toList.drop 52 = dktX0_of_2 := dk_seg dksX0_of_1 36 rfl rfl
theorem dksX0_of_3 : cX0_of.data.toList.drop 76 = dktX0_of_3 := dk_seg dksX0_of_2 24 rfl rfl
theorem dksX0_of_4 : cX0_of.data.toList.drop 99 = dktX0_of_4 := dk_seg dksX0_of_3 23 rfl rfl
theorem dX0_of_0 : decode cX0_of 0 = .ok (.aload_n 0, 1) := dk_42 (dk_at dksX0_of_0 0 rfl rfl)
theorem dX0_of_1 : decode cX0_of 1 = .ok (.iload_n 1, 1) := dk_27 (dk_at dksX0_of_0 1 rfl rfl)
theorem dX0_of_2 : decode cX0_of 2 = .ok (.invokevirtual 223, 3) := dk_182 0 223 (dk_at dksX0_of_0 2 rfl rfl)
theorem dX0_of_5 : decode cX0_of 5 = .ok (.ifCond .ne 10, 3) := dk_154 0 10 (dk_at dksX0_of_0 5 rfl rfl)
theorem dX0_of_8 : decode cX0_of 8 = .ok (.aload_n 0, 1) := dk_42 (dk_at dksX0_of_0 8 rfl rfl)
theorem dX0_of_9 : decode cX0_of 9 = .ok (.bipush (-3), 2) := dk_16 253 (dk_at dksX0_of_0 9 rfl rfl)
theorem dX0_of_11 : decode cX0_of 11 = .ok (.invokevirtual 118, 3) := dk_182 0 118 (dk_at dksX0_of_0 11 rfl rfl)
theorem dX0_of_14 : decode cX0_of 14 = .ok (.ireturn, 1) := dk_172 (dk_at dksX0_of_0 14 rfl rfl)
theorem dX0_of_15 : decode cX0_of 15 = .ok (.iload_n 2, 1) := dk_28 (dk_at dksX0_of_0 15 rfl rfl)
theorem dX0_of_16 : decode cX0_of 16 = .ok (.tableswitch 82 0 4 #[36, 46, 56, 66, 76], 36) := by decide +kernel
theorem dX0_of_52 : decode cX0_of 52 = .ok (.aload_n 0, 1) := dk_42 (dk_at dksX0_of_2 0 rfl rfl)
theorem dX0_of_53 : decode cX0_of 53 = .ok (.getfield 19, 3) := dk_180 0 19 (dk_at dksX0_of_2 1 rfl rfl)
theorem dX0_of_56 : decode cX0_of 56 = .ok (.getfield 214, 3) := dk_180 0 214 (dk_at dksX0_of_2 4 rfl rfl)
theorem dX0_of_59 : decode cX0_of 59 = .ok (.iload_n 1, 1) := dk_27 (dk_at dksX0_of_2 7 rfl rfl)
theorem dX0_of_60 : decode cX0_of 60 = .ok (.iaload, 1) := dk_46 (dk_at dksX0_of_2 8 rfl rfl)
theorem dX0_of_61 : decode cX0_of 61 = .ok (.ireturn, 1) := dk_172 (dk_at dksX0_of_2 9 rfl rfl)
theorem dX0_of_62 : decode cX0_of 62 = .ok (.aload_n 0, 1) := dk_42 (dk_at dksX0_of_2 10 rfl rfl)
theorem dX0_of_63 : decode cX0_of 63 = .ok (.getfield 19, 3) := dk_180 0 19 (dk_at dksX0_of_2 11 rfl rfl)
theorem dX0_of_66 : decode cX0_of 66 = .ok (.getfield 217, 3) := dk_180 0 217 (dk_at dksX0_of_2 14 rfl rfl)
theorem dX0_of_69 : decode cX0_of 69 = .ok (.iload_n 1, 1) := dk_27 (dk_at dksX0_of_2 17 rfl rfl)
theorem dX0_of_70 : decode cX0_of 70 = .ok (.iaload, 1) := dk_46 (dk_at dksX0_of_2 18 rfl rfl)
theorem dX0_of_71 : decode cX0_of 71 = .ok (.ireturn, 1) := dk_172 (dk_at dksX0_of_2 19 rfl rfl)
theorem dX0_of_72 : decode cX0_of 72 = .ok (.aload_n 0, 1) := dk_42 (dk_at dksX0_of_2 20 rfl rfl)
theorem dX0_of_73 : decode cX0_of 73 = .ok (.getfield 19, 3) := dk_180 0 19 (dk_at dksX0_of_2 21 rfl rfl)
theorem dX0_of_76 : decode cX0_of 76 = .ok (.getfield 220, 3) := dk_180 0 220 (dk_at dksX0_of_3 0 rfl rfl)
theorem dX0_of_79 : decode cX0_of 79 = .ok (.iload_n 1, 1) := dk_27 (dk_at dksX0_of_3 3 rfl rfl)
theorem dX0_of_80 : decode cX0_of 80 = .ok (.iaload, 1) := dk_46 (dk_at dksX0_of_3 4 rfl rfl)
theorem dX0_of_81 : decode cX0_of 81 = .ok (.ireturn, 1) := dk_172 (dk_at dksX0_of_3 5 rfl rfl)
theorem dX0_of_82 : decode cX0_of 82 = .ok (.aload_n 0, 1) := dk_42 (dk_at dksX0_of_3 6 rfl rfl)
theorem dX0_of_83 : decode cX0_of 83 = .ok (.getfield 19, 3) := dk_180 0 19 (dk_at dksX0_of_3 7 rfl rfl)
theorem dX0_of_86 : decode cX0_of 86 = .ok (.getfield 238, 3) := dk_180 0 238 (dk_at dksX0_of_3 10 rfl rfl)
theorem dX0_of_89 : decode cX0_of 89 = .ok (.iload_n 1, 1) := dk_27 (dk_at dksX0_of_3 13 rfl rfl)
theorem dX0_of_90 : decode cX0_of 90 = .ok (.iaload, 1) := dk_46 (dk_at dksX0_of_3 14 rfl rfl)
theorem dX0_of_91 : decode cX0_of 91 = .ok (.ireturn, 1) := dk_172 (dk_at dksX0_of_3 15 rfl rfl)
theorem dX0_of_92 : decode cX0_of 92 = .ok (.aload_n 0, 1) := dk_42 (dk_at dksX0_of_3 16 rfl rfl)
theorem dX0_of_93 : decode cX0_of 93 = .ok (.iload_n 1, 1) := dk_27 (dk_at dksX0_of_3 17 rfl rfl)
theorem dX0_of_94 : decode cX0_of 94 = .ok (.invokevirtual 241, 3) := dk_182 0 241 (dk_at dksX0_of_3 18 rfl rfl)
theorem dX0_of_97 : decode cX0_of 97 = .ok (.ireturn, 1) := dk_172 (dk_at dksX0_of_3 21 rfl rfl)
theorem dX0_of_98 : decode cX0_of 98 = .ok (.aload_n 0, 1) := dk_42 (dk_at dksX0_of_3 22 rfl rfl)
theorem dX0_of_99 : decode cX0_of 99 = .ok (.bipush (-7), 2) := dk_16 249 (dk_at dksX0_of_4 0 rfl rfl)
theorem dX0_of_101 : decode cX0_of 101 = .ok (.invokevirtual 118, 3) := dk_182 0 118 (dk_at dksX0_of_4 2 rfl rfl)
theorem dX0_of_104 : decode cX0_of 104 = .ok (.ireturn, 1) := dk_172 (dk_at dksX0_of_4 5 rfl rfl)
abbrev cX0_mastOf : ByteArray := prog_1_method_23_code
def yX0_mastOf : MethodName := ⟨RX0, "mastOf", "(I)I"⟩
def dkwX0_mastOf_6 : List UInt8 := [180, 0, 220, 27, 46, 133, 184, 0, 232, 136, 172]
abbrev dktX0_mastOf_6 : List UInt8 := dkwX0_mastOf_6 ++ []
def dkwX0_mastOf_5 : List UInt8 := [182, 0, 226, 17, 39, 16, 182, 0, 229, 133, 105, 20, 0, 116, 109, 55, 4, 22, 4, 42, 180, 0, 19]
abbrev dktX0_mastOf_5 : List UInt8 := dkwX0_mastOf_5 ++ dktX0_mastOf_6
def dkwX0_mastOf_4 : List UInt8 := [97, 65, 132, 4, 1, 167, 255, 160, 32, 42, 180, 0, 19, 42, 180, 0, 19, 8, 16, 100, 27, 96]
abbrev dktX0_mastOf_4 : List UInt8 := dkwX0_mastOf_4 ++ dktX0_mastOf_5
def dkwX0_mastOf_3 : List UInt8 := [3, 54, 5, 32, 21, 5, 153, 0, 17, 42, 180, 0, 19, 180, 0, 133, 21, 4, 46, 133, 167, 0, 4, 9]
abbrev dktX0_mastOf_3 : List UInt8 := dkwX0_mastOf_3 ++ dktX0_mastOf_4
def dkwX0_mastOf_2 : List UInt8 := [46, 5, 161, 0, 22, 42, 180, 0, 19, 180, 0, 136, 21, 4, 46, 16, 60, 161, 0, 7, 4, 167, 0, 4]
abbrev dktX0_mastOf_2 : List UInt8 := dkwX0_mastOf_2 ++ dktX0_mastOf_3
def dkwX0_mastOf_1 : List UInt8 := [21, 4, 46, 42, 180, 0, 19, 180, 0, 214, 27, 46, 160, 0, 36, 42, 180, 0, 19, 180, 0, 130, 21, 4]
abbrev dktX0_mastOf_1 : List UInt8 := dkwX0_mastOf_1 ++ dktX0_mastOf_2
def dkwX0_mastOf_0 : List UInt8 := [9, 65, 3, 54, 4, 21, 4, 42, 180, 0, 19, 180, 0, 23, 162, 0, 90, 42, 180, 0, 19, 180, 0, 124]
abbrev dktX0_mastOf_0 : List UInt8 := dkwX0_mastOf_0 ++ dktX0_mastOf_1
theorem dksX0_mastOf_0 : cX0_mastOf.data.toList.drop 0 = dktX0_mastOf_0 := by decide +kernel
theorem dksX0_mastOf_1 : cX0_mastOf.data.toList.drop 24 = dktX0_mastOf_1 := dk_seg dksX0_mastOf_0 24 rfl rfl
theorem dksX0_mastOf_2 : cX0_mastOf.data.toList.drop 48 = dktX0_mastOf_2 := dk_seg dksX0_mastOf_1 24 rfl rfl
theorem dksX0_mastOf_3 : cX0_mastOf.data.toList.drop 72 = dktX0_mastOf_3 := dk_seg dksX0_mastOf_2 24 rfl rfl
theorem dksX0_mastOf_4 : cX0_mastOf.data.toList.drop 96 = dktX0_mastOf_4 := dk_seg dksX0_mastOf_3 24 rfl rfl
theorem dksX0_mastOf_5 : cX0_mastOf.data.toList.drop 118 = dktX0_mastOf_5 := dk_seg dksX0_mastOf_4 22 rfl rfl
theorem dksX0_mastOf_6 : cX0_mastOf.data.toList.drop 141 = dktX0_mastOf_6 := dk_seg dksX0_mastOf_5 23 rfl rfl
theorem dX0_mastOf_0 : decode cX0_mastOf 0 = .ok (.lconst 0, 1) := dk_9 (dk_at dksX0_mastOf_0 0 rfl rfl)
theorem dX0_mastOf_1 : decode cX0_mastOf 1 = .ok (.lstore_n 2, 1) := dk_65 (dk_at dksX0_mastOf_0 1 rfl rfl)
theorem dX0_mastOf_2 : decode cX0_mastOf 2 = .ok (.iconst 0, 1) := dk_3 (dk_at dksX0_mastOf_0 2 rfl rfl)
theorem dX0_mastOf_3 : decode cX0_mastOf 3 = .ok (.istore 4, 2) := dk_54 4 (dk_at dksX0_mastOf_0 3 rfl rfl)
theorem dX0_mastOf_5 : decode cX0_mastOf 5 = .ok (.iload 4, 2) := dk_21 4 (dk_at dksX0_mastOf_0 5 rfl rfl)
theorem dX0_mastOf_7 : decode cX0_mastOf 7 = .ok (.aload_n 0, 1) := dk_42 (dk_at dksX0_mastOf_0 7 rfl rfl)
theorem dX0_mastOf_8 : decode cX0_mastOf 8 = .ok (.getfield 19, 3) := dk_180 0 19 (dk_at dksX0_mastOf_0 8 rfl rfl)
theorem dX0_mastOf_11 : decode cX0_mastOf 11 = .ok (.getfield 23, 3) := dk_180 0 23 (dk_at dksX0_mastOf_0 11 rfl rfl)
theorem dX0_mastOf_14 : decode cX0_mastOf 14 = .ok (.if_icmp .ge 90, 3) := dk_162 0 90 (dk_at dksX0_mastOf_0 14 rfl rfl)
theorem dX0_mastOf_17 : decode cX0_mastOf 17 = .ok (.aload_n 0, 1) := dk_42 (dk_at dksX0_mastOf_0 17 rfl rfl)
theorem dX0_mastOf_18 : decode cX0_mastOf 18 = .ok (.getfield 19, 3) := dk_180 0 19 (dk_at dksX0_mastOf_0 18 rfl rfl)
theorem dX0_mastOf_21 : decode cX0_mastOf 21 = .ok (.getfield 124, 3) := dk_180 0 124 (dk_at dksX0_mastOf_0 21 rfl rfl)
theorem dX0_mastOf_24 : decode cX0_mastOf 24 = .ok (.iload 4, 2) := dk_21 4 (dk_at dksX0_mastOf_1 0 rfl rfl)
theorem dX0_mastOf_26 : decode cX0_mastOf 26 = .ok (.iaload, 1) := dk_46 (dk_at dksX0_mastOf_1 2 rfl rfl)
theorem dX0_mastOf_27 : decode cX0_mastOf 27 = .ok (.aload_n 0, 1) := dk_42 (dk_at dksX0_mastOf_1 3 rfl rfl)
theorem dX0_mastOf_28 : decode cX0_mastOf 28 = .ok (.getfield 19, 3) := dk_180 0 19 (dk_at dksX0_mastOf_1 4 rfl rfl)
theorem dX0_mastOf_31 : decode cX0_mastOf 31 = .ok (.getfield 214, 3) := dk_180 0 214 (dk_at dksX0_mastOf_1 7 rfl rfl)
theorem dX0_mastOf_34 : decode cX0_mastOf 34 = .ok (.iload_n 1, 1) := dk_27 (dk_at dksX0_mastOf_1 10 rfl rfl)
theorem dX0_mastOf_35 : decode cX0_mastOf 35 = .ok (.iaload, 1) := dk_46 (dk_at dksX0_mastOf_1 11 rfl rfl)
theorem dX0_mastOf_36 : decode cX0_mastOf 36 = .ok (.if_icmp .ne 36, 3) := dk_160 0 36 (dk_at dksX0_mastOf_1 12 rfl rfl)
theorem dX0_mastOf_39 : decode cX0_mastOf 39 = .ok (.aload_n 0, 1) := dk_42 (dk_at dksX0_mastOf_1 15 rfl rfl)
theorem dX0_mastOf_40 : decode cX0_mastOf 40 = .ok (.getfield 19, 3) := dk_180 0 19 (dk_at dksX0_mastOf_1 16 rfl rfl)
theorem dX0_mastOf_43 : decode cX0_mastOf 43 = .ok (.getfield 130, 3) := dk_180 0 130 (dk_at dksX0_mastOf_1 19 rfl rfl)
theorem dX0_mastOf_46 : decode cX0_mastOf 46 = .ok (.iload 4, 2) := dk_21 4 (dk_at dksX0_mastOf_1 22 rfl rfl)
theorem dX0_mastOf_48 : decode cX0_mastOf 48 = .ok (.iaload, 1) := dk_46 (dk_at dksX0_mastOf_2 0 rfl rfl)
theorem dX0_mastOf_49 : decode cX0_mastOf 49 = .ok (.iconst 2, 1) := dk_5 (dk_at dksX0_mastOf_2 1 rfl rfl)
theorem dX0_mastOf_50 : decode cX0_mastOf 50 = .ok (.if_icmp .lt 22, 3) := dk_161 0 22 (dk_at dksX0_mastOf_2 2 rfl rfl)
theorem dX0_mastOf_53 : decode cX0_mastOf 53 = .ok (.aload_n 0, 1) := dk_42 (dk_at dksX0_mastOf_2 5 rfl rfl)
theorem dX0_mastOf_54 : decode cX0_mastOf 54 = .ok (.getfield 19, 3) := dk_180 0 19 (dk_at dksX0_mastOf_2 6 rfl rfl)
theorem dX0_mastOf_57 : decode cX0_mastOf 57 = .ok (.getfield 136, 3) := dk_180 0 136 (dk_at dksX0_mastOf_2 9 rfl rfl)
theorem dX0_mastOf_60 : decode cX0_mastOf 60 = .ok (.iload 4, 2) := dk_21 4 (dk_at dksX0_mastOf_2 12 rfl rfl)
theorem dX0_mastOf_62 : decode cX0_mastOf 62 = .ok (.iaload, 1) := dk_46 (dk_at dksX0_mastOf_2 14 rfl rfl)
theorem dX0_mastOf_63 : decode cX0_mastOf 63 = .ok (.bipush 60, 2) := dk_16 60 (dk_at dksX0_mastOf_2 15 rfl rfl)
theorem dX0_mastOf_65 : decode cX0_mastOf 65 = .ok (.if_icmp .lt 7, 3) := dk_161 0 7 (dk_at dksX0_mastOf_2 17 rfl rfl)
theorem dX0_mastOf_68 : decode cX0_mastOf 68 = .ok (.iconst 1, 1) := dk_4 (dk_at dksX0_mastOf_2 20 rfl rfl)
theorem dX0_mastOf_69 : decode cX0_mastOf 69 = .ok (.goto 4, 3) := dk_167 0 4 (dk_at dksX0_mastOf_2 21 rfl rfl)
theorem dX0_mastOf_72 : decode cX0_mastOf 72 = .ok (.iconst 0, 1) := dk_3 (dk_at dksX0_mastOf_3 0 rfl rfl)
theorem dX0_mastOf_73 : decode cX0_mastOf 73 = .ok (.istore 5, 2) := dk_54 5 (dk_at dksX0_mastOf_3 1 rfl rfl)
theorem dX0_mastOf_75 : decode cX0_mastOf 75 = .ok (.lload_n 2, 1) := dk_32 (dk_at dksX0_mastOf_3 3 rfl rfl)
theorem dX0_mastOf_76 : decode cX0_mastOf 76 = .ok (.iload 5, 2) := dk_21 5 (dk_at dksX0_mastOf_3 4 rfl rfl)
theorem dX0_mastOf_78 : decode cX0_mastOf 78 = .ok (.ifCond .eq 17, 3) := dk_153 0 17 (dk_at dksX0_mastOf_3 6 rfl rfl)
theorem dX0_mastOf_81 : decode cX0_mastOf 81 = .ok (.aload_n 0, 1) := dk_42 (dk_at dksX0_mastOf_3 9 rfl rfl)
theorem dX0_mastOf_82 : decode cX0_mastOf 82 = .ok (.getfield 19, 3) := dk_180 0 19 (dk_at dksX0_mastOf_3 10 rfl rfl)
theorem dX0_mastOf_85 : decode cX0_mastOf 85 = .ok (.getfield 133, 3) := dk_180 0 133 (dk_at dksX0_mastOf_3 13 rfl rfl)
theorem dX0_mastOf_88 : decode cX0_mastOf 88 = .ok (.iload 4, 2) := dk_21 4 (dk_at dksX0_mastOf_3 16 rfl rfl)
theorem dX0_mastOf_90 : decode cX0_mastOf 90 = .ok (.iaload, 1) := dk_46 (dk_at dksX0_mastOf_3 18 rfl rfl)
theorem dX0_mastOf_91 : decode cX0_mastOf 91 = .ok (.i2l, 1) := dk_133 (dk_at dksX0_mastOf_3 19 rfl rfl)
theorem dX0_mastOf_92 : decode cX0_mastOf 92 = .ok (.goto 4, 3) := dk_167 0 4 (dk_at dksX0_mastOf_3 20 rfl rfl)
theorem dX0_mastOf_95 : decode cX0_mastOf 95 = .ok (.lconst 0, 1) := dk_9 (dk_at dksX0_mastOf_3 23 rfl rfl)
theorem dX0_mastOf_96 : decode cX0_mastOf 96 = .ok (.ladd, 1) := dk_97 (dk_at dksX0_mastOf_4 0 rfl rfl)
theorem dX0_mastOf_97 : decode cX0_mastOf 97 = .ok (.lstore_n 2, 1) := dk_65 (dk_at dksX0_mastOf_4 1 rfl rfl)
theorem dX0_mastOf_98 : decode cX0_mastOf 98 = .ok (.iinc 4 1, 3) := dk_132 4 1 (dk_at dksX0_mastOf_4 2 rfl rfl)
theorem dX0_mastOf_101 : decode cX0_mastOf 101 = .ok (.goto (-96), 3) := dk_167 255 160 (dk_at dksX0_mastOf_4 5 rfl rfl)
theorem dX0_mastOf_104 : decode cX0_mastOf 104 = .ok (.lload_n 2, 1) := dk_32 (dk_at dksX0_mastOf_4 8 rfl rfl)
theorem dX0_mastOf_105 : decode cX0_mastOf 105 = .ok (.aload_n 0, 1) := dk_42 (dk_at dksX0_mastOf_4 9 rfl rfl)
theorem dX0_mastOf_106 : decode cX0_mastOf 106 = .ok (.getfield 19, 3) := dk_180 0 19 (dk_at dksX0_mastOf_4 10 rfl rfl)
theorem dX0_mastOf_109 : decode cX0_mastOf 109 = .ok (.aload_n 0, 1) := dk_42 (dk_at dksX0_mastOf_4 13 rfl rfl)
theorem dX0_mastOf_110 : decode cX0_mastOf 110 = .ok (.getfield 19, 3) := dk_180 0 19 (dk_at dksX0_mastOf_4 14 rfl rfl)
theorem dX0_mastOf_113 : decode cX0_mastOf 113 = .ok (.iconst 5, 1) := dk_8 (dk_at dksX0_mastOf_4 17 rfl rfl)
theorem dX0_mastOf_114 : decode cX0_mastOf 114 = .ok (.bipush 100, 2) := dk_16 100 (dk_at dksX0_mastOf_4 18 rfl rfl)
theorem dX0_mastOf_116 : decode cX0_mastOf 116 = .ok (.iload_n 1, 1) := dk_27 (dk_at dksX0_mastOf_4 20 rfl rfl)
theorem dX0_mastOf_117 : decode cX0_mastOf 117 = .ok (.iadd, 1) := dk_96 (dk_at dksX0_mastOf_4 21 rfl rfl)
theorem dX0_mastOf_118 : decode cX0_mastOf 118 = .ok (.invokevirtual 226, 3) := dk_182 0 226 (dk_at dksX0_mastOf_5 0 rfl rfl)
theorem dX0_mastOf_121 : decode cX0_mastOf 121 = .ok (.sipush 10000, 3) := dk_17 39 16 (dk_at dksX0_mastOf_5 3 rfl rfl)
theorem dX0_mastOf_124 : decode cX0_mastOf 124 = .ok (.invokevirtual 229, 3) := dk_182 0 229 (dk_at dksX0_mastOf_5 6 rfl rfl)
theorem dX0_mastOf_127 : decode cX0_mastOf 127 = .ok (.i2l, 1) := dk_133 (dk_at dksX0_mastOf_5 9 rfl rfl)
theorem dX0_mastOf_128 : decode cX0_mastOf 128 = .ok (.lmul, 1) := dk_105 (dk_at dksX0_mastOf_5 10 rfl rfl)
theorem dX0_mastOf_129 : decode cX0_mastOf 129 = .ok (.ldc2_w 116, 3) := dk_20 0 116 (dk_at dksX0_mastOf_5 11 rfl rfl)
theorem dX0_mastOf_132 : decode cX0_mastOf 132 = .ok (.ldiv, 1) := dk_109 (dk_at dksX0_mastOf_5 14 rfl rfl)
theorem dX0_mastOf_133 : decode cX0_mastOf 133 = .ok (.lstore 4, 2) := dk_55 4 (dk_at dksX0_mastOf_5 15 rfl rfl)
theorem dX0_mastOf_135 : decode cX0_mastOf 135 = .ok (.lload 4, 2) := dk_22 4 (dk_at dksX0_mastOf_5 17 rfl rfl)
theorem dX0_mastOf_137 : decode cX0_mastOf 137 = .ok (.aload_n 0, 1) := dk_42 (dk_at dksX0_mastOf_5 19 rfl rfl)
theorem dX0_mastOf_138 : decode cX0_mastOf 138 = .ok (.getfield 19, 3) := dk_180 0 19 (dk_at dksX0_mastOf_5 20 rfl rfl)
theorem dX0_mastOf_141 : decode cX0_mastOf 141 = .ok (.getfield 220, 3) := dk_180 0 220 (dk_at dksX0_mastOf_6 0 rfl rfl)
theorem dX0_mastOf_144 : decode cX0_mastOf 144 = .ok (.iload_n 1, 1) := dk_27 (dk_at dksX0_mastOf_6 3 rfl rfl)
theorem dX0_mastOf_145 : decode cX0_mastOf 145 = .ok (.iaload, 1) := dk_46 (dk_at dksX0_mastOf_6 4 rfl rfl)
theorem dX0_mastOf_146 : decode cX0_mastOf 146 = .ok (.i2l, 1) := dk_133 (dk_at dksX0_mastOf_6 5 rfl rfl)
theorem dX0_mastOf_147 : decode cX0_mastOf 147 = .ok (.invokestatic 232, 3) := dk_184 0 232 (dk_at dksX0_mastOf_6 6 rfl rfl)
theorem dX0_mastOf_150 : decode cX0_mastOf 150 = .ok (.l2i, 1) := dk_136 (dk_at dksX0_mastOf_6 9 rfl rfl)
theorem dX0_mastOf_151 : decode cX0_mastOf 151 = .ok (.ireturn, 1) := dk_172 (dk_at dksX0_mastOf_6 10 rfl rfl)
abbrev cX0_parcel : ByteArray := prog_1_method_25_code
def yX0_parcel : MethodName := ⟨RX0, "parcel", "(II)I"⟩
def dkwX0_parcel_4 : List UInt8 := [172, 42, 16, 249, 182, 0, 118, 172]
abbrev dktX0_parcel_4 : List UInt8 := dkwX0_parcel_4 ++ []
def dkwX0_parcel_3 : List UInt8 := [45, 182, 0, 251, 172, 45, 180, 1, 1, 172, 45, 180, 1, 4, 172, 45, 180, 1, 7, 172, 45, 182, 1, 10]
abbrev dktX0_parcel_3 : List UInt8 := dkwX0_parcel_3 ++ dktX0_parcel_4
def dkwX0_parcel_2 : List UInt8 := [170, 0, 0, 0, 0, 0, 60, 0, 0, 0, 0, 0, 0, 0, 4, 0, 0, 0, 35, 0, 0, 0, 40, 0, 0, 0, 45, 0, 0, 0, 50, 0, 0, 0, 55]
abbrev dktX0_parcel_2 : List UInt8 := dkwX0_parcel_2 ++ dktX0_parcel_3
def dkwX0_parcel_1 : List UInt8 := [28]
abbrev dktX0_parcel_1 : List UInt8 := dkwX0_parcel_1 ++ dktX0_parcel_2
def dkwX0_parcel_0 : List UInt8 := [42, 27, 182, 0, 244, 154, 0, 10, 42, 16, 253, 182, 0, 118, 172, 42, 180, 0, 19, 27, 182, 0, 247, 78]
abbrev dktX0_parcel_0 : List UInt8 := dkwX0_parcel_0 ++ dktX0_parcel_1
theorem dksX0_parcel_0 : cX0_parcel.data.toList.drop 0 = dktX0_parcel_0 := by decide +kernel
theorem dksX0_parcel_1 : cX0_parcel.data.toList.drop 24 = dktX0_parcel_1 := dk_seg dksX0_parcel_0 24 rfl rfl
theorem dksX0_parcel_2 : cX0_parcel.data.toList.drop 25 = dktX0_parcel_2 := dk_seg dksX0_parcel_1 1 rfl rfl
theorem dksX0_parcel_3 : cX0_parcel.data.toList.drop 60 = dktX0_parcel_3 := dk_seg dksX0_parcel_2 35 rfl rfl
theorem dksX0_parcel_4 : cX0_parcel.data.toList.drop 84 = dktX0_parcel_4 := dk_seg dksX0_parcel_3 24 rfl rfl
theorem dX0_parcel_0 : decode cX0_parcel 0 = .ok (.aload_n 0, 1) := dk_42 (dk_at dksX0_parcel_0 0 rfl rfl)
theorem dX0_parcel_1 : decode cX0_parcel 1 = .ok (.iload_n 1, 1) := dk_27 (dk_at dksX0_parcel_0 1 rfl rfl)
theorem dX0_parcel_2 : decode cX0_parcel 2 = .ok (.invokevirtual 244, 3) := dk_182 0 244 (dk_at dksX0_parcel_0 2 rfl rfl)
theorem dX0_parcel_5 : decode cX0_parcel 5 = .ok (.ifCond .ne 10, 3) := dk_154 0 10 (dk_at dksX0_parcel_0 5 rfl rfl)
theorem dX0_parcel_8 : decode cX0_parcel 8 = .ok (.aload_n 0, 1) := dk_42 (dk_at dksX0_parcel_0 8 rfl rfl)
theorem dX0_parcel_9 : decode cX0_parcel 9 = .ok (.bipush (-3), 2) := dk_16 253 (dk_at dksX0_parcel_0 9 rfl rfl)
theorem dX0_parcel_11 : decode cX0_parcel 11 = .ok (.invokevirtual 118, 3) := dk_182 0 118 (dk_at dksX0_parcel_0 11 rfl rfl)
theorem dX0_parcel_14 : decode cX0_parcel 14 = .ok (.ireturn, 1) := dk_172 (dk_at dksX0_parcel_0 14 rfl rfl)
theorem dX0_parcel_15 : decode cX0_parcel 15 = .ok (.aload_n 0, 1) := dk_42 (dk_at dksX0_parcel_0 15 rfl rfl)
theorem dX0_parcel_16 : decode cX0_parcel 16 = .ok (.getfield 19, 3) := dk_180 0 19 (dk_at dksX0_parcel_0 16 rfl rfl)
theorem dX0_parcel_19 : decode cX0_parcel 19 = .ok (.iload_n 1, 1) := dk_27 (dk_at dksX0_parcel_0 19 rfl rfl)
theorem dX0_parcel_20 : decode cX0_parcel 20 = .ok (.invokevirtual 247, 3) := dk_182 0 247 (dk_at dksX0_parcel_0 20 rfl rfl)
theorem dX0_parcel_23 : decode cX0_parcel 23 = .ok (.astore_n 3, 1) := dk_78 (dk_at dksX0_parcel_0 23 rfl rfl)
theorem dX0_parcel_24 : decode cX0_parcel 24 = .ok (.iload_n 2, 1) := dk_28 (dk_at dksX0_parcel_1 0 rfl rfl)
theorem dX0_parcel_25 : decode cX0_parcel 25 = .ok (.tableswitch 60 0 4 #[35, 40, 45, 50, 55], 35) := by decide +kernel
theorem dX0_parcel_60 : decode cX0_parcel 60 = .ok (.aload_n 3, 1) := dk_45 (dk_at dksX0_parcel_3 0 rfl rfl)
theorem dX0_parcel_61 : decode cX0_parcel 61 = .ok (.invokevirtual 251, 3) := dk_182 0 251 (dk_at dksX0_parcel_3 1 rfl rfl)
theorem dX0_parcel_64 : decode cX0_parcel 64 = .ok (.ireturn, 1) := dk_172 (dk_at dksX0_parcel_3 4 rfl rfl)
theorem dX0_parcel_65 : decode cX0_parcel 65 = .ok (.aload_n 3, 1) := dk_45 (dk_at dksX0_parcel_3 5 rfl rfl)
theorem dX0_parcel_66 : decode cX0_parcel 66 = .ok (.getfield 257, 3) := dk_180 1 1 (dk_at dksX0_parcel_3 6 rfl rfl)
theorem dX0_parcel_69 : decode cX0_parcel 69 = .ok (.ireturn, 1) := dk_172 (dk_at dksX0_parcel_3 9 rfl rfl)
theorem dX0_parcel_70 : decode cX0_parcel 70 = .ok (.aload_n 3, 1) := dk_45 (dk_at dksX0_parcel_3 10 rfl rfl)
theorem dX0_parcel_71 : decode cX0_parcel 71 = .ok (.getfield 260, 3) := dk_180 1 4 (dk_at dksX0_parcel_3 11 rfl rfl)
theorem dX0_parcel_74 : decode cX0_parcel 74 = .ok (.ireturn, 1) := dk_172 (dk_at dksX0_parcel_3 14 rfl rfl)
theorem dX0_parcel_75 : decode cX0_parcel 75 = .ok (.aload_n 3, 1) := dk_45 (dk_at dksX0_parcel_3 15 rfl rfl)
theorem dX0_parcel_76 : decode cX0_parcel 76 = .ok (.getfield 263, 3) := dk_180 1 7 (dk_at dksX0_parcel_3 16 rfl rfl)
theorem dX0_parcel_79 : decode cX0_parcel 79 = .ok (.ireturn, 1) := dk_172 (dk_at dksX0_parcel_3 19 rfl rfl)
theorem dX0_parcel_80 : decode cX0_parcel 80 = .ok (.aload_n 3, 1) := dk_45 (dk_at dksX0_parcel_3 20 rfl rfl)
theorem dX0_parcel_81 : decode cX0_parcel 81 = .ok (.invokevirtual 266, 3) := dk_182 1 10 (dk_at dksX0_parcel_3 21 rfl rfl)
theorem dX0_parcel_84 : decode cX0_parcel 84 = .ok (.ireturn, 1) := dk_172 (dk_at dksX0_parcel_4 0 rfl rfl)
theorem dX0_parcel_85 : decode cX0_parcel 85 = .ok (.aload_n 0, 1) := dk_42 (dk_at dksX0_parcel_4 1 rfl rfl)
theorem dX0_parcel_86 : decode cX0_parcel 86 = .ok (.bipush (-7), 2) := dk_16 249 (dk_at dksX0_parcel_4 2 rfl rfl)
theorem dX0_parcel_88 : decode cX0_parcel 88 = .ok (.invokevirtual 118, 3) := dk_182 0 118 (dk_at dksX0_parcel_4 4 rfl rfl)
theorem dX0_parcel_91 : decode cX0_parcel 91 = .ok (.ireturn, 1) := dk_172 (dk_at dksX0_parcel_4 7 rfl rfl)
abbrev cX0_isParcel : ByteArray := prog_1_method_11_code
def yX0_isParcel : MethodName := ⟨RX0, "isParcel", "(I)Z"⟩
def dkwX0_isParcel_1 : List UInt8 := [198, 0, 7, 4, 167, 0, 4, 3, 172]
abbrev dktX0_isParcel_1 : List UInt8 := dkwX0_isParcel_1 ++ []
def dkwX0_isParcel_0 : List UInt8 := [27, 133, 9, 20, 0, 38, 184, 0, 31, 153, 0, 22, 42, 180, 0, 19, 180, 0, 40, 27, 50, 180, 0, 44]
abbrev dktX0_isParcel_0 : List UInt8 := dkwX0_isParcel_0 ++ dktX0_isParcel_1
theorem dksX0_isParcel_0 : cX0_isParcel.data.toList.drop 0 = dktX0_isParcel_0 := by decide +kernel
theorem dksX0_isParcel_1 : cX0_isParcel.data.toList.drop 24 = dktX0_isParcel_1 := dk_seg dksX0_isParcel_0 24 rfl rfl
theorem dX0_isParcel_0 : decode cX0_isParcel 0 = .ok (.iload_n 1, 1) := dk_27 (dk_at dksX0_isParcel_0 0 rfl rfl)
theorem dX0_isParcel_1 : decode cX0_isParcel 1 = .ok (.i2l, 1) := dk_133 (dk_at dksX0_isParcel_0 1 rfl rfl)
theorem dX0_isParcel_2 : decode cX0_isParcel 2 = .ok (.lconst 0, 1) := dk_9 (dk_at dksX0_isParcel_0 2 rfl rfl)
theorem dX0_isParcel_3 : decode cX0_isParcel 3 = .ok (.ldc2_w 38, 3) := dk_20 0 38 (dk_at dksX0_isParcel_0 3 rfl rfl)
theorem dX0_isParcel_6 : decode cX0_isParcel 6 = .ok (.invokestatic 31, 3) := dk_184 0 31 (dk_at dksX0_isParcel_0 6 rfl rfl)
theorem dX0_isParcel_9 : decode cX0_isParcel 9 = .ok (.ifCond .eq 22, 3) := dk_153 0 22 (dk_at dksX0_isParcel_0 9 rfl rfl)
theorem dX0_isParcel_12 : decode cX0_isParcel 12 = .ok (.aload_n 0, 1) := dk_42 (dk_at dksX0_isParcel_0 12 rfl rfl)
theorem dX0_isParcel_13 : decode cX0_isParcel 13 = .ok (.getfield 19, 3) := dk_180 0 19 (dk_at dksX0_isParcel_0 13 rfl rfl)
theorem dX0_isParcel_16 : decode cX0_isParcel 16 = .ok (.getfield 40, 3) := dk_180 0 40 (dk_at dksX0_isParcel_0 16 rfl rfl)
theorem dX0_isParcel_19 : decode cX0_isParcel 19 = .ok (.iload_n 1, 1) := dk_27 (dk_at dksX0_isParcel_0 19 rfl rfl)
theorem dX0_isParcel_20 : decode cX0_isParcel 20 = .ok (.aaload, 1) := dk_50 (dk_at dksX0_isParcel_0 20 rfl rfl)
theorem dX0_isParcel_21 : decode cX0_isParcel 21 = .ok (.getfield 44, 3) := dk_180 0 44 (dk_at dksX0_isParcel_0 21 rfl rfl)
theorem dX0_isParcel_24 : decode cX0_isParcel 24 = .ok (.ifnull 7, 3) := dk_198 0 7 (dk_at dksX0_isParcel_1 0 rfl rfl)
theorem dX0_isParcel_27 : decode cX0_isParcel 27 = .ok (.iconst 1, 1) := dk_4 (dk_at dksX0_isParcel_1 3 rfl rfl)
theorem dX0_isParcel_28 : decode cX0_isParcel 28 = .ok (.goto 4, 3) := dk_167 0 4 (dk_at dksX0_isParcel_1 4 rfl rfl)
theorem dX0_isParcel_31 : decode cX0_isParcel 31 = .ok (.iconst 0, 1) := dk_3 (dk_at dksX0_isParcel_1 7 rfl rfl)
theorem dX0_isParcel_32 : decode cX0_isParcel 32 = .ok (.ireturn, 1) := dk_172 (dk_at dksX0_isParcel_1 8 rfl rfl)
abbrev cX0_sell : ByteArray := prog_1_method_28_code
def yX0_sell : MethodName := ⟨RX0, "sell", "(II)I"⟩
def dkwX0_sell_0 : List UInt8 := [42, 27, 28, 182, 1, 29, 172, 78, 42, 45, 180, 1, 32, 182, 0, 118, 172]
abbrev dktX0_sell_0 : List UInt8 := dkwX0_sell_0 ++ []
theorem dksX0_sell_0 : cX0_sell.data.toList.drop 0 = dktX0_sell_0 := by decide +kernel
theorem dX0_sell_0 : decode cX0_sell 0 = .ok (.aload_n 0, 1) := dk_42 (dk_at dksX0_sell_0 0 rfl rfl)
theorem dX0_sell_1 : decode cX0_sell 1 = .ok (.iload_n 1, 1) := dk_27 (dk_at dksX0_sell_0 1 rfl rfl)
theorem dX0_sell_2 : decode cX0_sell 2 = .ok (.iload_n 2, 1) := dk_28 (dk_at dksX0_sell_0 2 rfl rfl)
theorem dX0_sell_3 : decode cX0_sell 3 = .ok (.invokevirtual 285, 3) := dk_182 1 29 (dk_at dksX0_sell_0 3 rfl rfl)
theorem dX0_sell_6 : decode cX0_sell 6 = .ok (.ireturn, 1) := dk_172 (dk_at dksX0_sell_0 6 rfl rfl)
theorem dX0_sell_7 : decode cX0_sell 7 = .ok (.astore_n 3, 1) := dk_78 (dk_at dksX0_sell_0 7 rfl rfl)
theorem dX0_sell_8 : decode cX0_sell 8 = .ok (.aload_n 0, 1) := dk_42 (dk_at dksX0_sell_0 8 rfl rfl)
theorem dX0_sell_9 : decode cX0_sell 9 = .ok (.aload_n 3, 1) := dk_45 (dk_at dksX0_sell_0 9 rfl rfl)
theorem dX0_sell_10 : decode cX0_sell 10 = .ok (.getfield 288, 3) := dk_180 1 32 (dk_at dksX0_sell_0 10 rfl rfl)
theorem dX0_sell_13 : decode cX0_sell 13 = .ok (.invokevirtual 118, 3) := dk_182 0 118 (dk_at dksX0_sell_0 13 rfl rfl)
theorem dX0_sell_16 : decode cX0_sell 16 = .ok (.ireturn, 1) := dk_172 (dk_at dksX0_sell_0 16 rfl rfl)
abbrev cX0_sold : ByteArray := prog_1_method_27_code
def yX0_sold : MethodName := ⟨RX0, "sold", "(II)I"⟩
def dkwX0_sold_5 : List UInt8 := [109, 97, 80, 42, 27, 182, 1, 26, 172]
abbrev dktX0_sold_5 : List UInt8 := dkwX0_sold_5 ++ []
def dkwX0_sold_4 : List UInt8 := [180, 1, 16, 16, 7, 92, 47, 45, 180, 1, 1, 133, 28, 21, 4, 16, 10, 108, 100, 133, 105, 20, 0, 116]
abbrev dktX0_sold_4 : List UInt8 := dkwX0_sold_4 ++ dktX0_sold_5
def dkwX0_sold_3 : List UInt8 := [153, 0, 14, 21, 4, 18, 213, 162, 0, 7, 4, 167, 0, 4, 3, 16, 249, 182, 1, 20, 42, 180, 0, 19]
abbrev dktX0_sold_3 : List UInt8 := dkwX0_sold_3 ++ dktX0_sold_4
def dkwX0_sold_2 : List UInt8 := [180, 0, 19, 180, 0, 124, 45, 180, 1, 4, 46, 46, 54, 4, 42, 28, 133, 9, 20, 1, 24, 184, 0, 31]
abbrev dktX0_sold_2 : List UInt8 := dkwX0_sold_2 ++ dktX0_sold_3
def dkwX0_sold_1 : List UInt8 := [182, 0, 251, 154, 0, 7, 4, 167, 0, 4, 3, 16, 251, 182, 1, 20, 42, 180, 0, 19, 180, 0, 210, 42]
abbrev dktX0_sold_1 : List UInt8 := dkwX0_sold_1 ++ dktX0_sold_2
def dkwX0_sold_0 : List UInt8 := [42, 42, 27, 182, 0, 244, 16, 253, 182, 1, 20, 42, 180, 0, 19, 27, 182, 0, 247, 78, 42, 45]
abbrev dktX0_sold_0 : List UInt8 := dkwX0_sold_0 ++ dktX0_sold_1
theorem dksX0_sold_0 : cX0_sold.data.toList.drop 0 = dktX0_sold_0 := by decide +kernel
theorem dksX0_sold_1 : cX0_sold.data.toList.drop 22 = dktX0_sold_1 := dk_seg dksX0_sold_0 22 rfl rfl
theorem dksX0_sold_2 : cX0_sold.data.toList.drop 46 = dktX0_sold_2 := dk_seg dksX0_sold_1 24 rfl rfl
theorem dksX0_sold_3 : cX0_sold.data.toList.drop 70 = dktX0_sold_3 := dk_seg dksX0_sold_2 24 rfl rfl
theorem dksX0_sold_4 : cX0_sold.data.toList.drop 94 = dktX0_sold_4 := dk_seg dksX0_sold_3 24 rfl rfl
theorem dksX0_sold_5 : cX0_sold.data.toList.drop 118 = dktX0_sold_5 := dk_seg dksX0_sold_4 24 rfl rfl
theorem dX0_sold_0 : decode cX0_sold 0 = .ok (.aload_n 0, 1) := dk_42 (dk_at dksX0_sold_0 0 rfl rfl)
theorem dX0_sold_1 : decode cX0_sold 1 = .ok (.aload_n 0, 1) := dk_42 (dk_at dksX0_sold_0 1 rfl rfl)
theorem dX0_sold_2 : decode cX0_sold 2 = .ok (.iload_n 1, 1) := dk_27 (dk_at dksX0_sold_0 2 rfl rfl)
theorem dX0_sold_3 : decode cX0_sold 3 = .ok (.invokevirtual 244, 3) := dk_182 0 244 (dk_at dksX0_sold_0 3 rfl rfl)
theorem dX0_sold_6 : decode cX0_sold 6 = .ok (.bipush (-3), 2) := dk_16 253 (dk_at dksX0_sold_0 6 rfl rfl)
theorem dX0_sold_8 : decode cX0_sold 8 = .ok (.invokevirtual 276, 3) := dk_182 1 20 (dk_at dksX0_sold_0 8 rfl rfl)
theorem dX0_sold_11 : decode cX0_sold 11 = .ok (.aload_n 0, 1) := dk_42 (dk_at dksX0_sold_0 11 rfl rfl)
theorem dX0_sold_12 : decode cX0_sold 12 = .ok (.getfield 19, 3) := dk_180 0 19 (dk_at dksX0_sold_0 12 rfl rfl)
theorem dX0_sold_15 : decode cX0_sold 15 = .ok (.iload_n 1, 1) := dk_27 (dk_at dksX0_sold_0 15 rfl rfl)
theorem dX0_sold_16 : decode cX0_sold 16 = .ok (.invokevirtual 247, 3) := dk_182 0 247 (dk_at dksX0_sold_0 16 rfl rfl)
theorem dX0_sold_19 : decode cX0_sold 19 = .ok (.astore_n 3, 1) := dk_78 (dk_at dksX0_sold_0 19 rfl rfl)
theorem dX0_sold_20 : decode cX0_sold 20 = .ok (.aload_n 0, 1) := dk_42 (dk_at dksX0_sold_0 20 rfl rfl)
theorem dX0_sold_21 : decode cX0_sold 21 = .ok (.aload_n 3, 1) := dk_45 (dk_at dksX0_sold_0 21 rfl rfl)
theorem dX0_sold_22 : decode cX0_sold 22 = .ok (.invokevirtual 251, 3) := dk_182 0 251 (dk_at dksX0_sold_1 0 rfl rfl)
theorem dX0_sold_25 : decode cX0_sold 25 = .ok (.ifCond .ne 7, 3) := dk_154 0 7 (dk_at dksX0_sold_1 3 rfl rfl)
theorem dX0_sold_28 : decode cX0_sold 28 = .ok (.iconst 1, 1) := dk_4 (dk_at dksX0_sold_1 6 rfl rfl)
theorem dX0_sold_29 : decode cX0_sold 29 = .ok (.goto 4, 3) := dk_167 0 4 (dk_at dksX0_sold_1 7 rfl rfl)
theorem dX0_sold_32 : decode cX0_sold 32 = .ok (.iconst 0, 1) := dk_3 (dk_at dksX0_sold_1 10 rfl rfl)
theorem dX0_sold_33 : decode cX0_sold 33 = .ok (.bipush (-5), 2) := dk_16 251 (dk_at dksX0_sold_1 11 rfl rfl)
theorem dX0_sold_35 : decode cX0_sold 35 = .ok (.invokevirtual 276, 3) := dk_182 1 20 (dk_at dksX0_sold_1 13 rfl rfl)
theorem dX0_sold_38 : decode cX0_sold 38 = .ok (.aload_n 0, 1) := dk_42 (dk_at dksX0_sold_1 16 rfl rfl)
theorem dX0_sold_39 : decode cX0_sold 39 = .ok (.getfield 19, 3) := dk_180 0 19 (dk_at dksX0_sold_1 17 rfl rfl)
theorem dX0_sold_42 : decode cX0_sold 42 = .ok (.getfield 210, 3) := dk_180 0 210 (dk_at dksX0_sold_1 20 rfl rfl)
theorem dX0_sold_45 : decode cX0_sold 45 = .ok (.aload_n 0, 1) := dk_42 (dk_at dksX0_sold_1 23 rfl rfl)
theorem dX0_sold_46 : decode cX0_sold 46 = .ok (.getfield 19, 3) := dk_180 0 19 (dk_at dksX0_sold_2 0 rfl rfl)
theorem dX0_sold_49 : decode cX0_sold 49 = .ok (.getfield 124, 3) := dk_180 0 124 (dk_at dksX0_sold_2 3 rfl rfl)
theorem dX0_sold_52 : decode cX0_sold 52 = .ok (.aload_n 3, 1) := dk_45 (dk_at dksX0_sold_2 6 rfl rfl)
theorem dX0_sold_53 : decode cX0_sold 53 = .ok (.getfield 260, 3) := dk_180 1 4 (dk_at dksX0_sold_2 7 rfl rfl)
theorem dX0_sold_56 : decode cX0_sold 56 = .ok (.iaload, 1) := dk_46 (dk_at dksX0_sold_2 10 rfl rfl)
theorem dX0_sold_57 : decode cX0_sold 57 = .ok (.iaload, 1) := dk_46 (dk_at dksX0_sold_2 11 rfl rfl)
theorem dX0_sold_58 : decode cX0_sold 58 = .ok (.istore 4, 2) := dk_54 4 (dk_at dksX0_sold_2 12 rfl rfl)
theorem dX0_sold_60 : decode cX0_sold 60 = .ok (.aload_n 0, 1) := dk_42 (dk_at dksX0_sold_2 14 rfl rfl)
theorem dX0_sold_61 : decode cX0_sold 61 = .ok (.iload_n 2, 1) := dk_28 (dk_at dksX0_sold_2 15 rfl rfl)
theorem dX0_sold_62 : decode cX0_sold 62 = .ok (.i2l, 1) := dk_133 (dk_at dksX0_sold_2 16 rfl rfl)
theorem dX0_sold_63 : decode cX0_sold 63 = .ok (.lconst 0, 1) := dk_9 (dk_at dksX0_sold_2 17 rfl rfl)
theorem dX0_sold_64 : decode cX0_sold 64 = .ok (.ldc2_w 280, 3) := dk_20 1 24 (dk_at dksX0_sold_2 18 rfl rfl)
theorem dX0_sold_67 : decode cX0_sold 67 = .ok (.invokestatic 31, 3) := dk_184 0 31 (dk_at dksX0_sold_2 21 rfl rfl)
theorem dX0_sold_70 : decode cX0_sold 70 = .ok (.ifCond .eq 14, 3) := dk_153 0 14 (dk_at dksX0_sold_3 0 rfl rfl)
theorem dX0_sold_73 : decode cX0_sold 73 = .ok (.iload 4, 2) := dk_21 4 (dk_at dksX0_sold_3 3 rfl rfl)
theorem dX0_sold_75 : decode cX0_sold 75 = .ok (.ldc 213, 2) := dk_18 213 (dk_at dksX0_sold_3 5 rfl rfl)
theorem dX0_sold_77 : decode cX0_sold 77 = .ok (.if_icmp .ge 7, 3) := dk_162 0 7 (dk_at dksX0_sold_3 7 rfl rfl)
theorem dX0_sold_80 : decode cX0_sold 80 = .ok (.iconst 1, 1) := dk_4 (dk_at dksX0_sold_3 10 rfl rfl)
theorem dX0_sold_81 : decode cX0_sold 81 = .ok (.goto 4, 3) := dk_167 0 4 (dk_at dksX0_sold_3 11 rfl rfl)
theorem dX0_sold_84 : decode cX0_sold 84 = .ok (.iconst 0, 1) := dk_3 (dk_at dksX0_sold_3 14 rfl rfl)
theorem dX0_sold_85 : decode cX0_sold 85 = .ok (.bipush (-7), 2) := dk_16 249 (dk_at dksX0_sold_3 15 rfl rfl)
theorem dX0_sold_87 : decode cX0_sold 87 = .ok (.invokevirtual 276, 3) := dk_182 1 20 (dk_at dksX0_sold_3 17 rfl rfl)
theorem dX0_sold_90 : decode cX0_sold 90 = .ok (.aload_n 0, 1) := dk_42 (dk_at dksX0_sold_3 20 rfl rfl)
theorem dX0_sold_91 : decode cX0_sold 91 = .ok (.getfield 19, 3) := dk_180 0 19 (dk_at dksX0_sold_3 21 rfl rfl)
theorem dX0_sold_94 : decode cX0_sold 94 = .ok (.getfield 272, 3) := dk_180 1 16 (dk_at dksX0_sold_4 0 rfl rfl)
theorem dX0_sold_97 : decode cX0_sold 97 = .ok (.bipush 7, 2) := dk_16 7 (dk_at dksX0_sold_4 3 rfl rfl)
theorem dX0_sold_99 : decode cX0_sold 99 = .ok (.dup2, 1) := dk_92 (dk_at dksX0_sold_4 5 rfl rfl)
theorem dX0_sold_100 : decode cX0_sold 100 = .ok (.laload, 1) := dk_47 (dk_at dksX0_sold_4 6 rfl rfl)
theorem dX0_sold_101 : decode cX0_sold 101 = .ok (.aload_n 3, 1) := dk_45 (dk_at dksX0_sold_4 7 rfl rfl)
theorem dX0_sold_102 : decode cX0_sold 102 = .ok (.getfield 257, 3) := dk_180 1 1 (dk_at dksX0_sold_4 8 rfl rfl)
theorem dX0_sold_105 : decode cX0_sold 105 = .ok (.i2l, 1) := dk_133 (dk_at dksX0_sold_4 11 rfl rfl)
theorem dX0_sold_106 : decode cX0_sold 106 = .ok (.iload_n 2, 1) := dk_28 (dk_at dksX0_sold_4 12 rfl rfl)
theorem dX0_sold_107 : decode cX0_sold 107 = .ok (.iload 4, 2) := dk_21 4 (dk_at dksX0_sold_4 13 rfl rfl)
theorem dX0_sold_109 : decode cX0_sold 109 = .ok (.bipush 10, 2) := dk_16 10 (dk_at dksX0_sold_4 15 rfl rfl)
theorem dX0_sold_111 : decode cX0_sold 111 = .ok (.idiv, 1) := dk_108 (dk_at dksX0_sold_4 17 rfl rfl)
theorem dX0_sold_112 : decode cX0_sold 112 = .ok (.isub, 1) := dk_100 (dk_at dksX0_sold_4 18 rfl rfl)
theorem dX0_sold_113 : decode cX0_sold 113 = .ok (.i2l, 1) := dk_133 (dk_at dksX0_sold_4 19 rfl rfl)
theorem dX0_sold_114 : decode cX0_sold 114 = .ok (.lmul, 1) := dk_105 (dk_at dksX0_sold_4 20 rfl rfl)
theorem dX0_sold_115 : decode cX0_sold 115 = .ok (.ldc2_w 116, 3) := dk_20 0 116 (dk_at dksX0_sold_4 21 rfl rfl)
theorem dX0_sold_118 : decode cX0_sold 118 = .ok (.ldiv, 1) := dk_109 (dk_at dksX0_sold_5 0 rfl rfl)
theorem dX0_sold_119 : decode cX0_sold 119 = .ok (.ladd, 1) := dk_97 (dk_at dksX0_sold_5 1 rfl rfl)
theorem dX0_sold_120 : decode cX0_sold 120 = .ok (.lastore, 1) := dk_80 (dk_at dksX0_sold_5 2 rfl rfl)
theorem dX0_sold_121 : decode cX0_sold 121 = .ok (.aload_n 0, 1) := dk_42 (dk_at dksX0_sold_5 3 rfl rfl)
theorem dX0_sold_122 : decode cX0_sold 122 = .ok (.iload_n 1, 1) := dk_27 (dk_at dksX0_sold_5 4 rfl rfl)
theorem dX0_sold_123 : decode cX0_sold 123 = .ok (.invokevirtual 282, 3) := dk_182 1 26 (dk_at dksX0_sold_5 5 rfl rfl)
theorem dX0_sold_126 : decode cX0_sold 126 = .ok (.ireturn, 1) := dk_172 (dk_at dksX0_sold_5 8 rfl rfl)
abbrev cX0_need : ByteArray := prog_1_method_3_code
def yX0_need : MethodName := ⟨RX0, "need", "(ZI)V"⟩
def dkwX0_need_0 : List UInt8 := [27, 154, 0, 11, 42, 180, 0, 7, 28, 116, 50, 191, 177]
abbrev dktX0_need_0 : List UInt8 := dkwX0_need_0 ++ []
theorem dksX0_need_0 : cX0_need.data.toList.drop 0 = dktX0_need_0 := by decide +kernel
theorem dX0_need_0 : decode cX0_need 0 = .ok (.iload_n 1, 1) := dk_27 (dk_at dksX0_need_0 0 rfl rfl)
theorem dX0_need_1 : decode cX0_need 1 = .ok (.ifCond .ne 11, 3) := dk_154 0 11 (dk_at dksX0_need_0 1 rfl rfl)
theorem dX0_need_4 : decode cX0_need 4 = .ok (.aload_n 0, 1) := dk_42 (dk_at dksX0_need_0 4 rfl rfl)
theorem dX0_need_5 : decode cX0_need 5 = .ok (.getfield 7, 3) := dk_180 0 7 (dk_at dksX0_need_0 5 rfl rfl)
theorem dX0_need_8 : decode cX0_need 8 = .ok (.iload_n 2, 1) := dk_28 (dk_at dksX0_need_0 8 rfl rfl)
theorem dX0_need_9 : decode cX0_need 9 = .ok (.ineg, 1) := dk_116 (dk_at dksX0_need_0 9 rfl rfl)
theorem dX0_need_10 : decode cX0_need 10 = .ok (.aaload, 1) := dk_50 (dk_at dksX0_need_0 10 rfl rfl)
theorem dX0_need_11 : decode cX0_need 11 = .ok (.athrow, 1) := dk_191 (dk_at dksX0_need_0 11 rfl rfl)
theorem dX0_need_12 : decode cX0_need 12 = .ok (.return_, 1) := dk_177 (dk_at dksX0_need_0 12 rfl rfl)
abbrev cX0_end : ByteArray := prog_1_method_26_code
def yX0_end : MethodName := ⟨RX0, "end", "(I)I"⟩
def dkwX0_end_2 : List UInt8 := [181, 0, 44, 44, 180, 1, 1, 172]
abbrev dktX0_end_2 : List UInt8 := dkwX0_end_2 ++ []
def dkwX0_end_1 : List UInt8 := [44, 182, 1, 13, 92, 47, 44, 180, 1, 1, 133, 97, 80, 42, 180, 0, 19, 180, 0, 40, 27, 50, 1]
abbrev dktX0_end_1 : List UInt8 := dkwX0_end_1 ++ dktX0_end_2
def dkwX0_end_0 : List UInt8 := [42, 180, 0, 19, 27, 182, 0, 247, 77, 44, 182, 1, 13, 2, 159, 0, 23, 42, 180, 0, 19, 180, 1, 16]
abbrev dktX0_end_0 : List UInt8 := dkwX0_end_0 ++ dktX0_end_1
theorem dksX0_end_0 : cX0_end.data.toList.drop 0 = dktX0_end_0 := by decide +kernel
theorem dksX0_end_1 : cX0_end.data.toList.drop 24 = dktX0_end_1 := dk_seg dksX0_end_0 24 rfl rfl
theorem dksX0_end_2 : cX0_end.data.toList.drop 47 = dktX0_end_2 := dk_seg dksX0_end_1 23 rfl rfl
theorem dX0_end_0 : decode cX0_end 0 = .ok (.aload_n 0, 1) := dk_42 (dk_at dksX0_end_0 0 rfl rfl)
theorem dX0_end_1 : decode cX0_end 1 = .ok (.getfield 19, 3) := dk_180 0 19 (dk_at dksX0_end_0 1 rfl rfl)
theorem dX0_end_4 : decode cX0_end 4 = .ok (.iload_n 1, 1) := dk_27 (dk_at dksX0_end_0 4 rfl rfl)
theorem dX0_end_5 : decode cX0_end 5 = .ok (.invokevirtual 247, 3) := dk_182 0 247 (dk_at dksX0_end_0 5 rfl rfl)
theorem dX0_end_8 : decode cX0_end 8 = .ok (.astore_n 2, 1) := dk_77 (dk_at dksX0_end_0 8 rfl rfl)
theorem dX0_end_9 : decode cX0_end 9 = .ok (.aload_n 2, 1) := dk_44 (dk_at dksX0_end_0 9 rfl rfl)
theorem dX0_end_10 : decode cX0_end 10 = .ok (.invokevirtual 269, 3) := dk_182 1 13 (dk_at dksX0_end_0 10 rfl rfl)
theorem dX0_end_13 : decode cX0_end 13 = .ok (.iconst (-1), 1) := dk_2 (dk_at dksX0_end_0 13 rfl rfl)
theorem dX0_end_14 : decode cX0_end 14 = .ok (.if_icmp .eq 23, 3) := dk_159 0 23 (dk_at dksX0_end_0 14 rfl rfl)
theorem dX0_end_17 : decode cX0_end 17 = .ok (.aload_n 0, 1) := dk_42 (dk_at dksX0_end_0 17 rfl rfl)
theorem dX0_end_18 : decode cX0_end 18 = .ok (.getfield 19, 3) := dk_180 0 19 (dk_at dksX0_end_0 18 rfl rfl)
theorem dX0_end_21 : decode cX0_end 21 = .ok (.getfield 272, 3) := dk_180 1 16 (dk_at dksX0_end_0 21 rfl rfl)
theorem dX0_end_24 : decode cX0_end 24 = .ok (.aload_n 2, 1) := dk_44 (dk_at dksX0_end_1 0 rfl rfl)
theorem dX0_end_25 : decode cX0_end 25 = .ok (.invokevirtual 269, 3) := dk_182 1 13 (dk_at dksX0_end_1 1 rfl rfl)
theorem dX0_end_28 : decode cX0_end 28 = .ok (.dup2, 1) := dk_92 (dk_at dksX0_end_1 4 rfl rfl)
theorem dX0_end_29 : decode cX0_end 29 = .ok (.laload, 1) := dk_47 (dk_at dksX0_end_1 5 rfl rfl)
theorem dX0_end_30 : decode cX0_end 30 = .ok (.aload_n 2, 1) := dk_44 (dk_at dksX0_end_1 6 rfl rfl)
theorem dX0_end_31 : decode cX0_end 31 = .ok (.getfield 257, 3) := dk_180 1 1 (dk_at dksX0_end_1 7 rfl rfl)
theorem dX0_end_34 : decode cX0_end 34 = .ok (.i2l, 1) := dk_133 (dk_at dksX0_end_1 10 rfl rfl)
theorem dX0_end_35 : decode cX0_end 35 = .ok (.ladd, 1) := dk_97 (dk_at dksX0_end_1 11 rfl rfl)
theorem dX0_end_36 : decode cX0_end 36 = .ok (.lastore, 1) := dk_80 (dk_at dksX0_end_1 12 rfl rfl)
theorem dX0_end_37 : decode cX0_end 37 = .ok (.aload_n 0, 1) := dk_42 (dk_at dksX0_end_1 13 rfl rfl)
theorem dX0_end_38 : decode cX0_end 38 = .ok (.getfield 19, 3) := dk_180 0 19 (dk_at dksX0_end_1 14 rfl rfl)
theorem dX0_end_41 : decode cX0_end 41 = .ok (.getfield 40, 3) := dk_180 0 40 (dk_at dksX0_end_1 17 rfl rfl)
theorem dX0_end_44 : decode cX0_end 44 = .ok (.iload_n 1, 1) := dk_27 (dk_at dksX0_end_1 20 rfl rfl)
theorem dX0_end_45 : decode cX0_end 45 = .ok (.aaload, 1) := dk_50 (dk_at dksX0_end_1 21 rfl rfl)
theorem dX0_end_46 : decode cX0_end 46 = .ok (.aconst_null, 1) := dk_1 (dk_at dksX0_end_1 22 rfl rfl)
theorem dX0_end_47 : decode cX0_end 47 = .ok (.putfield 44, 3) := dk_181 0 44 (dk_at dksX0_end_2 0 rfl rfl)
theorem dX0_end_50 : decode cX0_end 50 = .ok (.aload_n 2, 1) := dk_44 (dk_at dksX0_end_2 3 rfl rfl)
theorem dX0_end_51 : decode cX0_end 51 = .ok (.getfield 257, 3) := dk_180 1 1 (dk_at dksX0_end_2 4 rfl rfl)
theorem dX0_end_54 : decode cX0_end 54 = .ok (.ireturn, 1) := dk_172 (dk_at dksX0_end_2 7 rfl rfl)
abbrev cX0_fetch : ByteArray := prog_1_method_29_code
def yX0_fetch : MethodName := ⟨RX0, "fetch", "(I)I"⟩
def dkwX0_fetch_1 : List UInt8 := [180, 0, 44, 192, 1, 35, 77, 42, 27, 182, 1, 26, 172, 77, 42, 16, 251, 182, 0, 118, 172]
abbrev dktX0_fetch_1 : List UInt8 := dkwX0_fetch_1 ++ []
def dkwX0_fetch_0 : List UInt8 := [42, 27, 182, 0, 244, 154, 0, 10, 42, 16, 253, 182, 0, 118, 172, 42, 180, 0, 19, 180, 0, 40, 27, 50]
abbrev dktX0_fetch_0 : List UInt8 := dkwX0_fetch_0 ++ dktX0_fetch_1
theorem dksX0_fetch_0 : cX0_fetch.data.toList.drop 0 = dktX0_fetch_0 := by decide +kernel
theorem dksX0_fetch_1 : cX0_fetch.data.toList.drop 24 = dktX0_fetch_1 := dk_seg dksX0_fetch_0 24 rfl rfl
theorem dX0_fetch_0 : decode cX0_fetch 0 = .ok (.aload_n 0, 1) := dk_42 (dk_at dksX0_fetch_0 0 rfl rfl)
theorem dX0_fetch_1 : decode cX0_fetch 1 = .ok (.iload_n 1, 1) := dk_27 (dk_at dksX0_fetch_0 1 rfl rfl)
theorem dX0_fetch_2 : decode cX0_fetch 2 = .ok (.invokevirtual 244, 3) := dk_182 0 244 (dk_at dksX0_fetch_0 2 rfl rfl)
theorem dX0_fetch_5 : decode cX0_fetch 5 = .ok (.ifCond .ne 10, 3) := dk_154 0 10 (dk_at dksX0_fetch_0 5 rfl rfl)
theorem dX0_fetch_8 : decode cX0_fetch 8 = .ok (.aload_n 0, 1) := dk_42 (dk_at dksX0_fetch_0 8 rfl rfl)
theorem dX0_fetch_9 : decode cX0_fetch 9 = .ok (.bipush (-3), 2) := dk_16 253 (dk_at dksX0_fetch_0 9 rfl rfl)
theorem dX0_fetch_11 : decode cX0_fetch 11 = .ok (.invokevirtual 118, 3) := dk_182 0 118 (dk_at dksX0_fetch_0 11 rfl rfl)
theorem dX0_fetch_14 : decode cX0_fetch 14 = .ok (.ireturn, 1) := dk_172 (dk_at dksX0_fetch_0 14 rfl rfl)
theorem dX0_fetch_15 : decode cX0_fetch 15 = .ok (.aload_n 0, 1) := dk_42 (dk_at dksX0_fetch_0 15 rfl rfl)
theorem dX0_fetch_16 : decode cX0_fetch 16 = .ok (.getfield 19, 3) := dk_180 0 19 (dk_at dksX0_fetch_0 16 rfl rfl)
theorem dX0_fetch_19 : decode cX0_fetch 19 = .ok (.getfield 40, 3) := dk_180 0 40 (dk_at dksX0_fetch_0 19 rfl rfl)
theorem dX0_fetch_22 : decode cX0_fetch 22 = .ok (.iload_n 1, 1) := dk_27 (dk_at dksX0_fetch_0 22 rfl rfl)
theorem dX0_fetch_23 : decode cX0_fetch 23 = .ok (.aaload, 1) := dk_50 (dk_at dksX0_fetch_0 23 rfl rfl)
theorem dX0_fetch_24 : decode cX0_fetch 24 = .ok (.getfield 44, 3) := dk_180 0 44 (dk_at dksX0_fetch_1 0 rfl rfl)
theorem dX0_fetch_27 : decode cX0_fetch 27 = .ok (.checkcast 291, 3) := dk_192 1 35 (dk_at dksX0_fetch_1 3 rfl rfl)
theorem dX0_fetch_30 : decode cX0_fetch 30 = .ok (.astore_n 2, 1) := dk_77 (dk_at dksX0_fetch_1 6 rfl rfl)
theorem dX0_fetch_31 : decode cX0_fetch 31 = .ok (.aload_n 0, 1) := dk_42 (dk_at dksX0_fetch_1 7 rfl rfl)
theorem dX0_fetch_32 : decode cX0_fetch 32 = .ok (.iload_n 1, 1) := dk_27 (dk_at dksX0_fetch_1 8 rfl rfl)
theorem dX0_fetch_33 : decode cX0_fetch 33 = .ok (.invokevirtual 282, 3) := dk_182 1 26 (dk_at dksX0_fetch_1 9 rfl rfl)
theorem dX0_fetch_36 : decode cX0_fetch 36 = .ok (.ireturn, 1) := dk_172 (dk_at dksX0_fetch_1 12 rfl rfl)
theorem dX0_fetch_37 : decode cX0_fetch 37 = .ok (.astore_n 2, 1) := dk_77 (dk_at dksX0_fetch_1 13 rfl rfl)
theorem dX0_fetch_38 : decode cX0_fetch 38 = .ok (.aload_n 0, 1) := dk_42 (dk_at dksX0_fetch_1 14 rfl rfl)
theorem dX0_fetch_39 : decode cX0_fetch 39 = .ok (.bipush (-5), 2) := dk_16 251 (dk_at dksX0_fetch_1 15 rfl rfl)
theorem dX0_fetch_41 : decode cX0_fetch 41 = .ok (.invokevirtual 118, 3) := dk_182 0 118 (dk_at dksX0_fetch_1 17 rfl rfl)
theorem dX0_fetch_44 : decode cX0_fetch 44 = .ok (.ireturn, 1) := dk_172 (dk_at dksX0_fetch_1 20 rfl rfl)
abbrev cX0_loss : ByteArray := prog_1_method_30_code
def yX0_loss : MethodName := ⟨RX0, "loss", "(I)I"⟩
def dkwX0_loss_3 : List UInt8 := [167, 0, 19, 42, 180, 0, 19, 187, 1, 45, 89, 183, 1, 47, 27, 28, 182, 1, 48, 172]
abbrev dktX0_loss_3 : List UInt8 := dkwX0_loss_3 ++ []
def dkwX0_loss_2 : List UInt8 := [42, 16, 249, 182, 0, 118, 172, 42, 180, 0, 19, 182, 1, 42, 2, 160, 0, 12, 42, 16, 248, 182, 0, 118]
abbrev dktX0_loss_2 : List UInt8 := dkwX0_loss_2 ++ dktX0_loss_3
def dkwX0_loss_1 : List UInt8 := [5, 162, 0, 10, 42, 16, 254, 182, 0, 118, 172, 42, 180, 0, 19, 27, 182, 1, 39, 61, 28, 154, 0, 10]
abbrev dktX0_loss_1 : List UInt8 := dkwX0_loss_1 ++ dktX0_loss_2
def dkwX0_loss_0 : List UInt8 := [42, 27, 182, 0, 148, 154, 0, 10, 42, 16, 253, 182, 0, 118, 172, 42, 180, 0, 19, 180, 0, 173, 27, 46]
abbrev dktX0_loss_0 : List UInt8 := dkwX0_loss_0 ++ dktX0_loss_1
theorem dksX0_loss_0 : cX0_loss.data.toList.drop 0 = dktX0_loss_0 := by decide +kernel
theorem dksX0_loss_1 : cX0_loss.data.toList.drop 24 = dktX0_loss_1 := dk_seg dksX0_loss_0 24 rfl rfl
theorem dksX0_loss_2 : cX0_loss.data.toList.drop 48 = dktX0_loss_2 := dk_seg dksX0_loss_1 24 rfl rfl
theorem dksX0_loss_3 : cX0_loss.data.toList.drop 72 = dktX0_loss_3 := dk_seg dksX0_loss_2 24 rfl rfl
theorem dX0_loss_0 : decode cX0_loss 0 = .ok (.aload_n 0, 1) := dk_42 (dk_at dksX0_loss_0 0 rfl rfl)
theorem dX0_loss_1 : decode cX0_loss 1 = .ok (.iload_n 1, 1) := dk_27 (dk_at dksX0_loss_0 1 rfl rfl)
theorem dX0_loss_2 : decode cX0_loss 2 = .ok (.invokevirtual 148, 3) := dk_182 0 148 (dk_at dksX0_loss_0 2 rfl rfl)
theorem dX0_loss_5 : decode cX0_loss 5 = .ok (.ifCond .ne 10, 3) := dk_154 0 10 (dk_at dksX0_loss_0 5 rfl rfl)
theorem dX0_loss_8 : decode cX0_loss 8 = .ok (.aload_n 0, 1) := dk_42 (dk_at dksX0_loss_0 8 rfl rfl)
theorem dX0_loss_9 : decode cX0_loss 9 = .ok (.bipush (-3), 2) := dk_16 253 (dk_at dksX0_loss_0 9 rfl rfl)
theorem dX0_loss_11 : decode cX0_loss 11 = .ok (.invokevirtual 118, 3) := dk_182 0 118 (dk_at dksX0_loss_0 11 rfl rfl)
theorem dX0_loss_14 : decode cX0_loss 14 = .ok (.ireturn, 1) := dk_172 (dk_at dksX0_loss_0 14 rfl rfl)
theorem dX0_loss_15 : decode cX0_loss 15 = .ok (.aload_n 0, 1) := dk_42 (dk_at dksX0_loss_0 15 rfl rfl)
theorem dX0_loss_16 : decode cX0_loss 16 = .ok (.getfield 19, 3) := dk_180 0 19 (dk_at dksX0_loss_0 16 rfl rfl)
theorem dX0_loss_19 : decode cX0_loss 19 = .ok (.getfield 173, 3) := dk_180 0 173 (dk_at dksX0_loss_0 19 rfl rfl)
theorem dX0_loss_22 : decode cX0_loss 22 = .ok (.iload_n 1, 1) := dk_27 (dk_at dksX0_loss_0 22 rfl rfl)
theorem dX0_loss_23 : decode cX0_loss 23 = .ok (.iaload, 1) := dk_46 (dk_at dksX0_loss_0 23 rfl rfl)
theorem dX0_loss_24 : decode cX0_loss 24 = .ok (.iconst 2, 1) := dk_5 (dk_at dksX0_loss_1 0 rfl rfl)
theorem dX0_loss_25 : decode cX0_loss 25 = .ok (.if_icmp .ge 10, 3) := dk_162 0 10 (dk_at dksX0_loss_1 1 rfl rfl)
theorem dX0_loss_28 : decode cX0_loss 28 = .ok (.aload_n 0, 1) := dk_42 (dk_at dksX0_loss_1 4 rfl rfl)
theorem dX0_loss_29 : decode cX0_loss 29 = .ok (.bipush (-2), 2) := dk_16 254 (dk_at dksX0_loss_1 5 rfl rfl)
theorem dX0_loss_31 : decode cX0_loss 31 = .ok (.invokevirtual 118, 3) := dk_182 0 118 (dk_at dksX0_loss_1 7 rfl rfl)
theorem dX0_loss_34 : decode cX0_loss 34 = .ok (.ireturn, 1) := dk_172 (dk_at dksX0_loss_1 10 rfl rfl)
theorem dX0_loss_35 : decode cX0_loss 35 = .ok (.aload_n 0, 1) := dk_42 (dk_at dksX0_loss_1 11 rfl rfl)
theorem dX0_loss_36 : decode cX0_loss 36 = .ok (.getfield 19, 3) := dk_180 0 19 (dk_at dksX0_loss_1 12 rfl rfl)
theorem dX0_loss_39 : decode cX0_loss 39 = .ok (.iload_n 1, 1) := dk_27 (dk_at dksX0_loss_1 15 rfl rfl)
theorem dX0_loss_40 : decode cX0_loss 40 = .ok (.invokevirtual 295, 3) := dk_182 1 39 (dk_at dksX0_loss_1 16 rfl rfl)
theorem dX0_loss_43 : decode cX0_loss 43 = .ok (.istore_n 2, 1) := dk_61 (dk_at dksX0_loss_1 19 rfl rfl)
theorem dX0_loss_44 : decode cX0_loss 44 = .ok (.iload_n 2, 1) := dk_28 (dk_at dksX0_loss_1 20 rfl rfl)
theorem dX0_loss_45 : decode cX0_loss 45 = .ok (.ifCond .ne 10, 3) := dk_154 0 10 (dk_at dksX0_loss_1 21 rfl rfl)
theorem dX0_loss_48 : decode cX0_loss 48 = .ok (.aload_n 0, 1) := dk_42 (dk_at dksX0_loss_2 0 rfl rfl)
theorem dX0_loss_49 : decode cX0_loss 49 = .ok (.bipush (-7), 2) := dk_16 249 (dk_at dksX0_loss_2 1 rfl rfl)
theorem dX0_loss_51 : decode cX0_loss 51 = .ok (.invokevirtual 118, 3) := dk_182 0 118 (dk_at dksX0_loss_2 3 rfl rfl)
theorem dX0_loss_54 : decode cX0_loss 54 = .ok (.ireturn, 1) := dk_172 (dk_at dksX0_loss_2 6 rfl rfl)
theorem dX0_loss_55 : decode cX0_loss 55 = .ok (.aload_n 0, 1) := dk_42 (dk_at dksX0_loss_2 7 rfl rfl)
theorem dX0_loss_56 : decode cX0_loss 56 = .ok (.getfield 19, 3) := dk_180 0 19 (dk_at dksX0_loss_2 8 rfl rfl)
theorem dX0_loss_59 : decode cX0_loss 59 = .ok (.invokevirtual 298, 3) := dk_182 1 42 (dk_at dksX0_loss_2 11 rfl rfl)
theorem dX0_loss_62 : decode cX0_loss 62 = .ok (.iconst (-1), 1) := dk_2 (dk_at dksX0_loss_2 14 rfl rfl)
theorem dX0_loss_63 : decode cX0_loss 63 = .ok (.if_icmp .ne 12, 3) := dk_160 0 12 (dk_at dksX0_loss_2 15 rfl rfl)
theorem dX0_loss_66 : decode cX0_loss 66 = .ok (.aload_n 0, 1) := dk_42 (dk_at dksX0_loss_2 18 rfl rfl)
theorem dX0_loss_67 : decode cX0_loss 67 = .ok (.bipush (-8), 2) := dk_16 248 (dk_at dksX0_loss_2 19 rfl rfl)
theorem dX0_loss_69 : decode cX0_loss 69 = .ok (.invokevirtual 118, 3) := dk_182 0 118 (dk_at dksX0_loss_2 21 rfl rfl)
theorem dX0_loss_72 : decode cX0_loss 72 = .ok (.goto 19, 3) := dk_167 0 19 (dk_at dksX0_loss_3 0 rfl rfl)
theorem dX0_loss_75 : decode cX0_loss 75 = .ok (.aload_n 0, 1) := dk_42 (dk_at dksX0_loss_3 3 rfl rfl)
theorem dX0_loss_76 : decode cX0_loss 76 = .ok (.getfield 19, 3) := dk_180 0 19 (dk_at dksX0_loss_3 4 rfl rfl)
theorem dX0_loss_79 : decode cX0_loss 79 = .ok (.new 301, 3) := dk_187 1 45 (dk_at dksX0_loss_3 7 rfl rfl)
theorem dX0_loss_82 : decode cX0_loss 82 = .ok (.dup, 1) := dk_89 (dk_at dksX0_loss_3 10 rfl rfl)
theorem dX0_loss_83 : decode cX0_loss 83 = .ok (.invokespecial 303, 3) := dk_183 1 47 (dk_at dksX0_loss_3 11 rfl rfl)
theorem dX0_loss_86 : decode cX0_loss 86 = .ok (.iload_n 1, 1) := dk_27 (dk_at dksX0_loss_3 14 rfl rfl)
theorem dX0_loss_87 : decode cX0_loss 87 = .ok (.iload_n 2, 1) := dk_28 (dk_at dksX0_loss_3 15 rfl rfl)
theorem dX0_loss_88 : decode cX0_loss 88 = .ok (.invokevirtual 304, 3) := dk_182 1 48 (dk_at dksX0_loss_3 16 rfl rfl)
theorem dX0_loss_91 : decode cX0_loss 91 = .ok (.ireturn, 1) := dk_172 (dk_at dksX0_loss_3 19 rfl rfl)
abbrev cX0_settle : ByteArray := prog_1_method_31_code
def yX0_settle : MethodName := ⟨RX0, "settle", "(IZ)I"⟩
def dkwX0_settle_4 : List UInt8 := [78, 42, 16, 251, 182, 0, 118, 172]
abbrev dktX0_settle_4 : List UInt8 := dkwX0_settle_4 ++ []
def dkwX0_settle_3 : List UInt8 := [180, 1, 53, 133, 21, 4, 133, 105, 20, 0, 116, 109, 167, 0, 4, 9, 97, 80, 42, 27, 182, 1, 26, 172]
abbrev dktX0_settle_3 : List UInt8 := dkwX0_settle_3 ++ dktX0_settle_4
def dkwX0_settle_2 : List UInt8 := [17, 39, 16, 182, 0, 229, 54, 4, 42, 180, 0, 19, 180, 1, 16, 16, 7, 92, 47, 28, 153, 0, 19, 45]
abbrev dktX0_settle_2 : List UInt8 := dkwX0_settle_2 ++ dktX0_settle_3
def dkwX0_settle_1 : List UInt8 := [180, 0, 44, 192, 1, 45, 78, 42, 180, 0, 19, 42, 180, 0, 19, 16, 6, 45, 180, 1, 52, 182, 0, 226]
abbrev dktX0_settle_1 : List UInt8 := dkwX0_settle_1 ++ dktX0_settle_2
def dkwX0_settle_0 : List UInt8 := [42, 27, 182, 0, 244, 154, 0, 10, 42, 16, 253, 182, 0, 118, 172, 42, 180, 0, 19, 180, 0, 40, 27, 50]
abbrev dktX0_settle_0 : List UInt8 := dkwX0_settle_0 ++ dktX0_settle_1
theorem dksX0_settle_0 : cX0_settle.data.toList.drop 0 = dktX0_settle_0 := by decide +kernel
theorem dksX0_settle_1 : cX0_settle.data.toList.drop 24 = dktX0_settle_1 := dk_seg dksX0_settle_0 24 rfl rfl
theorem dksX0_settle_2 : cX0_settle.data.toList.drop 48 = dktX0_settle_2 := dk_seg dksX0_settle_1 24 rfl rfl
theorem dksX0_settle_3 : cX0_settle.data.toList.drop 72 = dktX0_settle_3 := dk_seg dksX0_settle_2 24 rfl rfl
theorem dksX0_settle_4 : cX0_settle.data.toList.drop 96 = dktX0_settle_4 := dk_seg dksX0_settle_3 24 rfl rfl
theorem dX0_settle_0 : decode cX0_settle 0 = .ok (.aload_n 0, 1) := dk_42 (dk_at dksX0_settle_0 0 rfl rfl)
theorem dX0_settle_1 : decode cX0_settle 1 = .ok (.iload_n 1, 1) := dk_27 (dk_at dksX0_settle_0 1 rfl rfl)
theorem dX0_settle_2 : decode cX0_settle 2 = .ok (.invokevirtual 244, 3) := dk_182 0 244 (dk_at dksX0_settle_0 2 rfl rfl)
theorem dX0_settle_5 : decode cX0_settle 5 = .ok (.ifCond .ne 10, 3) := dk_154 0 10 (dk_at dksX0_settle_0 5 rfl rfl)
theorem dX0_settle_8 : decode cX0_settle 8 = .ok (.aload_n 0, 1) := dk_42 (dk_at dksX0_settle_0 8 rfl rfl)
theorem dX0_settle_9 : decode cX0_settle 9 = .ok (.bipush (-3), 2) := dk_16 253 (dk_at dksX0_settle_0 9 rfl rfl)
theorem dX0_settle_11 : decode cX0_settle 11 = .ok (.invokevirtual 118, 3) := dk_182 0 118 (dk_at dksX0_settle_0 11 rfl rfl)
theorem dX0_settle_14 : decode cX0_settle 14 = .ok (.ireturn, 1) := dk_172 (dk_at dksX0_settle_0 14 rfl rfl)
theorem dX0_settle_15 : decode cX0_settle 15 = .ok (.aload_n 0, 1) := dk_42 (dk_at dksX0_settle_0 15 rfl rfl)
theorem dX0_settle_16 : decode cX0_settle 16 = .ok (.getfield 19, 3) := dk_180 0 19 (dk_at dksX0_settle_0 16 rfl rfl)
theorem dX0_settle_19 : decode cX0_settle 19 = .ok (.getfield 40, 3) := dk_180 0 40 (dk_at dksX0_settle_0 19 rfl rfl)
theorem dX0_settle_22 : decode cX0_settle 22 = .ok (.iload_n 1, 1) := dk_27 (dk_at dksX0_settle_0 22 rfl rfl)
theorem dX0_settle_23 : decode cX0_settle 23 = .ok (.aaload, 1) := dk_50 (dk_at dksX0_settle_0 23 rfl rfl)
theorem dX0_settle_24 : decode cX0_settle 24 = .ok (.getfield 44, 3) := dk_180 0 44 (dk_at dksX0_settle_1 0 rfl rfl)
theorem dX0_settle_27 : decode cX0_settle 27 = .ok (.checkcast 301, 3) := dk_192 1 45 (dk_at dksX0_settle_1 3 rfl rfl)
theorem dX0_settle_30 : decode cX0_settle 30 = .ok (.astore_n 3, 1) := dk_78 (dk_at dksX0_settle_1 6 rfl rfl)
theorem dX0_settle_31 : decode cX0_settle 31 = .ok (.aload_n 0, 1) := dk_42 (dk_at dksX0_settle_1 7 rfl rfl)
theorem dX0_settle_32 : decode cX0_settle 32 = .ok (.getfield 19, 3) := dk_180 0 19 (dk_at dksX0_settle_1 8 rfl rfl)
theorem dX0_settle_35 : decode cX0_settle 35 = .ok (.aload_n 0, 1) := dk_42 (dk_at dksX0_settle_1 11 rfl rfl)
theorem dX0_settle_36 : decode cX0_settle 36 = .ok (.getfield 19, 3) := dk_180 0 19 (dk_at dksX0_settle_1 12 rfl rfl)
theorem dX0_settle_39 : decode cX0_settle 39 = .ok (.bipush 6, 2) := dk_16 6 (dk_at dksX0_settle_1 15 rfl rfl)
theorem dX0_settle_41 : decode cX0_settle 41 = .ok (.aload_n 3, 1) := dk_45 (dk_at dksX0_settle_1 17 rfl rfl)
theorem dX0_settle_42 : decode cX0_settle 42 = .ok (.getfield 308, 3) := dk_180 1 52 (dk_at dksX0_settle_1 18 rfl rfl)
theorem dX0_settle_45 : decode cX0_settle 45 = .ok (.invokevirtual 226, 3) := dk_182 0 226 (dk_at dksX0_settle_1 21 rfl rfl)
theorem dX0_settle_48 : decode cX0_settle 48 = .ok (.sipush 10000, 3) := dk_17 39 16 (dk_at dksX0_settle_2 0 rfl rfl)
theorem dX0_settle_51 : decode cX0_settle 51 = .ok (.invokevirtual 229, 3) := dk_182 0 229 (dk_at dksX0_settle_2 3 rfl rfl)
theorem dX0_settle_54 : decode cX0_settle 54 = .ok (.istore 4, 2) := dk_54 4 (dk_at dksX0_settle_2 6 rfl rfl)
theorem dX0_settle_56 : decode cX0_settle 56 = .ok (.aload_n 0, 1) := dk_42 (dk_at dksX0_settle_2 8 rfl rfl)
theorem dX0_settle_57 : decode cX0_settle 57 = .ok (.getfield 19, 3) := dk_180 0 19 (dk_at dksX0_settle_2 9 rfl rfl)
theorem dX0_settle_60 : decode cX0_settle 60 = .ok (.getfield 272, 3) := dk_180 1 16 (dk_at dksX0_settle_2 12 rfl rfl)
theorem dX0_settle_63 : decode cX0_settle 63 = .ok (.bipush 7, 2) := dk_16 7 (dk_at dksX0_settle_2 15 rfl rfl)
theorem dX0_settle_65 : decode cX0_settle 65 = .ok (.dup2, 1) := dk_92 (dk_at dksX0_settle_2 17 rfl rfl)
theorem dX0_settle_66 : decode cX0_settle 66 = .ok (.laload, 1) := dk_47 (dk_at dksX0_settle_2 18 rfl rfl)
theorem dX0_settle_67 : decode cX0_settle 67 = .ok (.iload_n 2, 1) := dk_28 (dk_at dksX0_settle_2 19 rfl rfl)
theorem dX0_settle_68 : decode cX0_settle 68 = .ok (.ifCond .eq 19, 3) := dk_153 0 19 (dk_at dksX0_settle_2 20 rfl rfl)
theorem dX0_settle_71 : decode cX0_settle 71 = .ok (.aload_n 3, 1) := dk_45 (dk_at dksX0_settle_2 23 rfl rfl)
theorem dX0_settle_72 : decode cX0_settle 72 = .ok (.getfield 309, 3) := dk_180 1 53 (dk_at dksX0_settle_3 0 rfl rfl)
theorem dX0_settle_75 : decode cX0_settle 75 = .ok (.i2l, 1) := dk_133 (dk_at dksX0_settle_3 3 rfl rfl)
theorem dX0_settle_76 : decode cX0_settle 76 = .ok (.iload 4, 2) := dk_21 4 (dk_at dksX0_settle_3 4 rfl rfl)
theorem dX0_settle_78 : decode cX0_settle 78 = .ok (.i2l, 1) := dk_133 (dk_at dksX0_settle_3 6 rfl rfl)
theorem dX0_settle_79 : decode cX0_settle 79 = .ok (.lmul, 1) := dk_105 (dk_at dksX0_settle_3 7 rfl rfl)
theorem dX0_settle_80 : decode cX0_settle 80 = .ok (.ldc2_w 116, 3) := dk_20 0 116 (dk_at dksX0_settle_3 8 rfl rfl)
theorem dX0_settle_83 : decode cX0_settle 83 = .ok (.ldiv, 1) := dk_109 (dk_at dksX0_settle_3 11 rfl rfl)
theorem dX0_settle_84 : decode cX0_settle 84 = .ok (.goto 4, 3) := dk_167 0 4 (dk_at dksX0_settle_3 12 rfl rfl)
theorem dX0_settle_87 : decode cX0_settle 87 = .ok (.lconst 0, 1) := dk_9 (dk_at dksX0_settle_3 15 rfl rfl)
theorem dX0_settle_88 : decode cX0_settle 88 = .ok (.ladd, 1) := dk_97 (dk_at dksX0_settle_3 16 rfl rfl)
theorem dX0_settle_89 : decode cX0_settle 89 = .ok (.lastore, 1) := dk_80 (dk_at dksX0_settle_3 17 rfl rfl)
theorem dX0_settle_90 : decode cX0_settle 90 = .ok (.aload_n 0, 1) := dk_42 (dk_at dksX0_settle_3 18 rfl rfl)
theorem dX0_settle_91 : decode cX0_settle 91 = .ok (.iload_n 1, 1) := dk_27 (dk_at dksX0_settle_3 19 rfl rfl)
theorem dX0_settle_92 : decode cX0_settle 92 = .ok (.invokevirtual 282, 3) := dk_182 1 26 (dk_at dksX0_settle_3 20 rfl rfl)
theorem dX0_settle_95 : decode cX0_settle 95 = .ok (.ireturn, 1) := dk_172 (dk_at dksX0_settle_3 23 rfl rfl)
theorem dX0_settle_96 : decode cX0_settle 96 = .ok (.astore_n 3, 1) := dk_78 (dk_at dksX0_settle_4 0 rfl rfl)
theorem dX0_settle_97 : decode cX0_settle 97 = .ok (.aload_n 0, 1) := dk_42 (dk_at dksX0_settle_4 1 rfl rfl)
theorem dX0_settle_98 : decode cX0_settle 98 = .ok (.bipush (-5), 2) := dk_16 251 (dk_at dksX0_settle_4 2 rfl rfl)
theorem dX0_settle_100 : decode cX0_settle 100 = .ok (.invokevirtual 118, 3) := dk_182 0 118 (dk_at dksX0_settle_4 4 rfl rfl)
theorem dX0_settle_103 : decode cX0_settle 103 = .ok (.ireturn, 1) := dk_172 (dk_at dksX0_settle_4 7 rfl rfl)
abbrev cX0_book : ByteArray := prog_1_method_32_code
def yX0_book : MethodName := ⟨RX0, "book", "(I)J"⟩
def dkwX0_book_1 : List UInt8 := [42, 16, 253, 182, 1, 56, 133, 173]
abbrev dktX0_book_1 : List UInt8 := dkwX0_book_1 ++ []
def dkwX0_book_0 : List UInt8 := [27, 133, 9, 20, 1, 54, 184, 0, 31, 153, 0, 15, 42, 180, 0, 19, 180, 1, 16, 27, 47, 167, 0, 10]
abbrev dktX0_book_0 : List UInt8 := dkwX0_book_0 ++ dktX0_book_1
theorem dksX0_book_0 : cX0_book.data.toList.drop 0 = dktX0_book_0 := by decide +kernel
theorem dksX0_book_1 : cX0_book.data.toList.drop 24 = dktX0_book_1 := dk_seg dksX0_book_0 24 rfl rfl
theorem dX0_book_0 : decode cX0_book 0 = .ok (.iload_n 1, 1) := dk_27 (dk_at dksX0_book_0 0 rfl rfl)
theorem dX0_book_1 : decode cX0_book 1 = .ok (.i2l, 1) := dk_133 (dk_at dksX0_book_0 1 rfl rfl)
theorem dX0_book_2 : decode cX0_book 2 = .ok (.lconst 0, 1) := dk_9 (dk_at dksX0_book_0 2 rfl rfl)
theorem dX0_book_3 : decode cX0_book 3 = .ok (.ldc2_w 310, 3) := dk_20 1 54 (dk_at dksX0_book_0 3 rfl rfl)
theorem dX0_book_6 : decode cX0_book 6 = .ok (.invokestatic 31, 3) := dk_184 0 31 (dk_at dksX0_book_0 6 rfl rfl)
theorem dX0_book_9 : decode cX0_book 9 = .ok (.ifCond .eq 15, 3) := dk_153 0 15 (dk_at dksX0_book_0 9 rfl rfl)
theorem dX0_book_12 : decode cX0_book 12 = .ok (.aload_n 0, 1) := dk_42 (dk_at dksX0_book_0 12 rfl rfl)
theorem dX0_book_13 : decode cX0_book 13 = .ok (.getfield 19, 3) := dk_180 0 19 (dk_at dksX0_book_0 13 rfl rfl)
theorem dX0_book_16 : decode cX0_book 16 = .ok (.getfield 272, 3) := dk_180 1 16 (dk_at dksX0_book_0 16 rfl rfl)
theorem dX0_book_19 : decode cX0_book 19 = .ok (.iload_n 1, 1) := dk_27 (dk_at dksX0_book_0 19 rfl rfl)
theorem dX0_book_20 : decode cX0_book 20 = .ok (.laload, 1) := dk_47 (dk_at dksX0_book_0 20 rfl rfl)
theorem dX0_book_21 : decode cX0_book 21 = .ok (.goto 10, 3) := dk_167 0 10 (dk_at dksX0_book_0 21 rfl rfl)
theorem dX0_book_24 : decode cX0_book 24 = .ok (.aload_n 0, 1) := dk_42 (dk_at dksX0_book_1 0 rfl rfl)
theorem dX0_book_25 : decode cX0_book 25 = .ok (.bipush (-3), 2) := dk_16 253 (dk_at dksX0_book_1 1 rfl rfl)
theorem dX0_book_27 : decode cX0_book 27 = .ok (.invokevirtual 312, 3) := dk_182 1 56 (dk_at dksX0_book_1 3 rfl rfl)
theorem dX0_book_30 : decode cX0_book 30 = .ok (.i2l, 1) := dk_133 (dk_at dksX0_book_1 6 rfl rfl)
theorem dX0_book_31 : decode cX0_book 31 = .ok (.lreturn, 1) := dk_173 (dk_at dksX0_book_1 7 rfl rfl)
abbrev cX0_refuseAsNought : ByteArray := prog_1_method_2_code
def yX0_refuseAsNought : MethodName := ⟨RX0, "refuseAsNought", "(I)I"⟩
def dkwX0_refuseAsNought_0 : List UInt8 := [42, 180, 0, 1, 27, 116, 92, 46, 4, 96, 79, 3, 172]
abbrev dktX0_refuseAsNought_0 : List UInt8 := dkwX0_refuseAsNought_0 ++ []
theorem dksX0_refuseAsNought_0 : cX0_refuseAsNought.data.toList.drop 0 = dktX0_refuseAsNought_0 := by decide +kernel
theorem dX0_refuseAsNought_0 : decode cX0_refuseAsNought 0 = .ok (.aload_n 0, 1) := dk_42 (dk_at dksX0_refuseAsNought_0 0 rfl rfl)
theorem dX0_refuseAsNought_1 : decode cX0_refuseAsNought 1 = .ok (.getfield 1, 3) := dk_180 0 1 (dk_at dksX0_refuseAsNought_0 1 rfl rfl)
theorem dX0_refuseAsNought_4 : decode cX0_refuseAsNought 4 = .ok (.iload_n 1, 1) := dk_27 (dk_at dksX0_refuseAsNought_0 4 rfl rfl)
theorem dX0_refuseAsNought_5 : decode cX0_refuseAsNought 5 = .ok (.ineg, 1) := dk_116 (dk_at dksX0_refuseAsNought_0 5 rfl rfl)
theorem dX0_refuseAsNought_6 : decode cX0_refuseAsNought 6 = .ok (.dup2, 1) := dk_92 (dk_at dksX0_refuseAsNought_0 6 rfl rfl)
theorem dX0_refuseAsNought_7 : decode cX0_refuseAsNought 7 = .ok (.iaload, 1) := dk_46 (dk_at dksX0_refuseAsNought_0 7 rfl rfl)
theorem dX0_refuseAsNought_8 : decode cX0_refuseAsNought 8 = .ok (.iconst 1, 1) := dk_4 (dk_at dksX0_refuseAsNought_0 8 rfl rfl)
theorem dX0_refuseAsNought_9 : decode cX0_refuseAsNought 9 = .ok (.iadd, 1) := dk_96 (dk_at dksX0_refuseAsNought_0 9 rfl rfl)
theorem dX0_refuseAsNought_10 : decode cX0_refuseAsNought 10 = .ok (.iastore, 1) := dk_79 (dk_at dksX0_refuseAsNought_0 10 rfl rfl)
theorem dX0_refuseAsNought_11 : decode cX0_refuseAsNought 11 = .ok (.iconst 0, 1) := dk_3 (dk_at dksX0_refuseAsNought_0 11 rfl rfl)
theorem dX0_refuseAsNought_12 : decode cX0_refuseAsNought 12 = .ok (.ireturn, 1) := dk_172 (dk_at dksX0_refuseAsNought_0 12 rfl rfl)
abbrev cX0_feed : ByteArray := prog_1_method_33_code
def yX0_feed : MethodName := ⟨RX0, "feed", "(II)I"⟩
def dkwX0_feed_4 : List UInt8 := [180, 0, 68, 180, 1, 59, 172]
abbrev dktX0_feed_4 : List UInt8 := dkwX0_feed_4 ++ []
def dkwX0_feed_3 : List UInt8 := [145, 84, 42, 180, 0, 68, 89, 180, 1, 59, 4, 96, 181, 1, 59, 132, 3, 255, 167, 255, 214, 42]
abbrev dktX0_feed_3 : List UInt8 := dkwX0_feed_3 ++ dktX0_feed_4
def dkwX0_feed_2 : List UInt8 := [29, 155, 0, 44, 42, 180, 0, 68, 180, 1, 62, 42, 180, 0, 68, 180, 1, 59, 27, 16, 8, 29, 104, 122]
abbrev dktX0_feed_2 : List UInt8 := dkwX0_feed_2 ++ dktX0_feed_3
def dkwX0_feed_1 : List UInt8 := [180, 0, 68, 180, 1, 59, 28, 96, 16, 120, 164, 0, 10, 42, 16, 248, 182, 0, 118, 172, 28, 4, 100, 62]
abbrev dktX0_feed_1 : List UInt8 := dkwX0_feed_1 ++ dktX0_feed_2
def dkwX0_feed_0 : List UInt8 := [28, 156, 0, 10, 42, 16, 252, 182, 0, 118, 172, 28, 7, 164, 0, 10, 42, 16, 249, 182, 0, 118, 172, 42]
abbrev dktX0_feed_0 : List UInt8 := dkwX0_feed_0 ++ dktX0_feed_1
theorem dksX0_feed_0 : cX0_feed.data.toList.drop 0 = dktX0_feed_0 := by decide +kernel
theorem dksX0_feed_1 : cX0_feed.data.toList.drop 24 = dktX0_feed_1 := dk_seg dksX0_feed_0 24 rfl rfl
theorem dksX0_feed_2 : cX0_feed.data.toList.drop 48 = dktX0_feed_2 := dk_seg dksX0_feed_1 24 rfl rfl
theorem dksX0_feed_3 : cX0_feed.data.toList.drop 72 = dktX0_feed_3 := dk_seg dksX0_feed_2 24 rfl rfl
theorem dksX0_feed_4 : cX0_feed.data.toList.drop 94 = dktX0_feed_4 := dk_seg dksX0_feed_3 22 rfl rfl
theorem dX0_feed_0 : decode cX0_feed 0 = .ok (.iload_n 2, 1) := dk_28 (dk_at dksX0_feed_0 0 rfl rfl)
theorem dX0_feed_1 : decode cX0_feed 1 = .ok (.ifCond .ge 10, 3) := dk_156 0 10 (dk_at dksX0_feed_0 1 rfl rfl)
theorem dX0_feed_4 : decode cX0_feed 4 = .ok (.aload_n 0, 1) := dk_42 (dk_at dksX0_feed_0 4 rfl rfl)
theorem dX0_feed_5 : decode cX0_feed 5 = .ok (.bipush (-4), 2) := dk_16 252 (dk_at dksX0_feed_0 5 rfl rfl)
theorem dX0_feed_7 : decode cX0_feed 7 = .ok (.invokevirtual 118, 3) := dk_182 0 118 (dk_at dksX0_feed_0 7 rfl rfl)
theorem dX0_feed_10 : decode cX0_feed 10 = .ok (.ireturn, 1) := dk_172 (dk_at dksX0_feed_0 10 rfl rfl)
theorem dX0_feed_11 : decode cX0_feed 11 = .ok (.iload_n 2, 1) := dk_28 (dk_at dksX0_feed_0 11 rfl rfl)
theorem dX0_feed_12 : decode cX0_feed 12 = .ok (.iconst 4, 1) := dk_7 (dk_at dksX0_feed_0 12 rfl rfl)
theorem dX0_feed_13 : decode cX0_feed 13 = .ok (.if_icmp .le 10, 3) := dk_164 0 10 (dk_at dksX0_feed_0 13 rfl rfl)
theorem dX0_feed_16 : decode cX0_feed 16 = .ok (.aload_n 0, 1) := dk_42 (dk_at dksX0_feed_0 16 rfl rfl)
theorem dX0_feed_17 : decode cX0_feed 17 = .ok (.bipush (-7), 2) := dk_16 249 (dk_at dksX0_feed_0 17 rfl rfl)
theorem dX0_feed_19 : decode cX0_feed 19 = .ok (.invokevirtual 118, 3) := dk_182 0 118 (dk_at dksX0_feed_0 19 rfl rfl)
theorem dX0_feed_22 : decode cX0_feed 22 = .ok (.ireturn, 1) := dk_172 (dk_at dksX0_feed_0 22 rfl rfl)
theorem dX0_feed_23 : decode cX0_feed 23 = .ok (.aload_n 0, 1) := dk_42 (dk_at dksX0_feed_0 23 rfl rfl)
theorem dX0_feed_24 : decode cX0_feed 24 = .ok (.getfield 68, 3) := dk_180 0 68 (dk_at dksX0_feed_1 0 rfl rfl)
theorem dX0_feed_27 : decode cX0_feed 27 = .ok (.getfield 315, 3) := dk_180 1 59 (dk_at dksX0_feed_1 3 rfl rfl)
theorem dX0_feed_30 : decode cX0_feed 30 = .ok (.iload_n 2, 1) := dk_28 (dk_at dksX0_feed_1 6 rfl rfl)
theorem dX0_feed_31 : decode cX0_feed 31 = .ok (.iadd, 1) := dk_96 (dk_at dksX0_feed_1 7 rfl rfl)
theorem dX0_feed_32 : decode cX0_feed 32 = .ok (.bipush 120, 2) := dk_16 120 (dk_at dksX0_feed_1 8 rfl rfl)
theorem dX0_feed_34 : decode cX0_feed 34 = .ok (.if_icmp .le 10, 3) := dk_164 0 10 (dk_at dksX0_feed_1 10 rfl rfl)
theorem dX0_feed_37 : decode cX0_feed 37 = .ok (.aload_n 0, 1) := dk_42 (dk_at dksX0_feed_1 13 rfl rfl)
theorem dX0_feed_38 : decode cX0_feed 38 = .ok (.bipush (-8), 2) := dk_16 248 (dk_at dksX0_feed_1 14 rfl rfl)
theorem dX0_feed_40 : decode cX0_feed 40 = .ok (.invokevirtual 118, 3) := dk_182 0 118 (dk_at dksX0_feed_1 16 rfl rfl)
theorem dX0_feed_43 : decode cX0_feed 43 = .ok (.ireturn, 1) := dk_172 (dk_at dksX0_feed_1 19 rfl rfl)
theorem dX0_feed_44 : decode cX0_feed 44 = .ok (.iload_n 2, 1) := dk_28 (dk_at dksX0_feed_1 20 rfl rfl)
theorem dX0_feed_45 : decode cX0_feed 45 = .ok (.iconst 1, 1) := dk_4 (dk_at dksX0_feed_1 21 rfl rfl)
theorem dX0_feed_46 : decode cX0_feed 46 = .ok (.isub, 1) := dk_100 (dk_at dksX0_feed_1 22 rfl rfl)
theorem dX0_feed_47 : decode cX0_feed 47 = .ok (.istore_n 3, 1) := dk_62 (dk_at dksX0_feed_1 23 rfl rfl)
theorem dX0_feed_48 : decode cX0_feed 48 = .ok (.iload_n 3, 1) := dk_29 (dk_at dksX0_feed_2 0 rfl rfl)
theorem dX0_feed_49 : decode cX0_feed 49 = .ok (.ifCond .lt 44, 3) := dk_155 0 44 (dk_at dksX0_feed_2 1 rfl rfl)
theorem dX0_feed_52 : decode cX0_feed 52 = .ok (.aload_n 0, 1) := dk_42 (dk_at dksX0_feed_2 4 rfl rfl)
theorem dX0_feed_53 : decode cX0_feed 53 = .ok (.getfield 68, 3) := dk_180 0 68 (dk_at dksX0_feed_2 5 rfl rfl)
theorem dX0_feed_56 : decode cX0_feed 56 = .ok (.getfield 318, 3) := dk_180 1 62 (dk_at dksX0_feed_2 8 rfl rfl)
theorem dX0_feed_59 : decode cX0_feed 59 = .ok (.aload_n 0, 1) := dk_42 (dk_at dksX0_feed_2 11 rfl rfl)
theorem dX0_feed_60 : decode cX0_feed 60 = .ok (.getfield 68, 3) := dk_180 0 68 (dk_at dksX0_feed_2 12 rfl rfl)
theorem dX0_feed_63 : decode cX0_feed 63 = .ok (.getfield 315, 3) := dk_180 1 59 (dk_at dksX0_feed_2 15 rfl rfl)
theorem dX0_feed_66 : decode cX0_feed 66 = .ok (.iload_n 1, 1) := dk_27 (dk_at dksX0_feed_2 18 rfl rfl)
theorem dX0_feed_67 : decode cX0_feed 67 = .ok (.bipush 8, 2) := dk_16 8 (dk_at dksX0_feed_2 19 rfl rfl)
theorem dX0_feed_69 : decode cX0_feed 69 = .ok (.iload_n 3, 1) := dk_29 (dk_at dksX0_feed_2 21 rfl rfl)
theorem dX0_feed_70 : decode cX0_feed 70 = .ok (.imul, 1) := dk_104 (dk_at dksX0_feed_2 22 rfl rfl)
theorem dX0_feed_71 : decode cX0_feed 71 = .ok (.ishr, 1) := dk_122 (dk_at dksX0_feed_2 23 rfl rfl)
theorem dX0_feed_72 : decode cX0_feed 72 = .ok (.i2b, 1) := dk_145 (dk_at dksX0_feed_3 0 rfl rfl)
theorem dX0_feed_73 : decode cX0_feed 73 = .ok (.bastore, 1) := dk_84 (dk_at dksX0_feed_3 1 rfl rfl)
theorem dX0_feed_74 : decode cX0_feed 74 = .ok (.aload_n 0, 1) := dk_42 (dk_at dksX0_feed_3 2 rfl rfl)
theorem dX0_feed_75 : decode cX0_feed 75 = .ok (.getfield 68, 3) := dk_180 0 68 (dk_at dksX0_feed_3 3 rfl rfl)
theorem dX0_feed_78 : decode cX0_feed 78 = .ok (.dup, 1) := dk_89 (dk_at dksX0_feed_3 6 rfl rfl)
theorem dX0_feed_79 : decode cX0_feed 79 = .ok (.getfield 315, 3) := dk_180 1 59 (dk_at dksX0_feed_3 7 rfl rfl)
theorem dX0_feed_82 : decode cX0_feed 82 = .ok (.iconst 1, 1) := dk_4 (dk_at dksX0_feed_3 10 rfl rfl)
theorem dX0_feed_83 : decode cX0_feed 83 = .ok (.iadd, 1) := dk_96 (dk_at dksX0_feed_3 11 rfl rfl)
theorem dX0_feed_84 : decode cX0_feed 84 = .ok (.putfield 315, 3) := dk_181 1 59 (dk_at dksX0_feed_3 12 rfl rfl)
theorem dX0_feed_87 : decode cX0_feed 87 = .ok (.iinc 3 (-1), 3) := dk_132 3 255 (dk_at dksX0_feed_3 15 rfl rfl)
theorem dX0_feed_90 : decode cX0_feed 90 = .ok (.goto (-42), 3) := dk_167 255 214 (dk_at dksX0_feed_3 18 rfl rfl)
theorem dX0_feed_93 : decode cX0_feed 93 = .ok (.aload_n 0, 1) := dk_42 (dk_at dksX0_feed_3 21 rfl rfl)
theorem dX0_feed_94 : decode cX0_feed 94 = .ok (.getfield 68, 3) := dk_180 0 68 (dk_at dksX0_feed_4 0 rfl rfl)
theorem dX0_feed_97 : decode cX0_feed 97 = .ok (.getfield 315, 3) := dk_180 1 59 (dk_at dksX0_feed_4 3 rfl rfl)
theorem dX0_feed_100 : decode cX0_feed 100 = .ok (.ireturn, 1) := dk_172 (dk_at dksX0_feed_4 6 rfl rfl)
abbrev cX0_wipe : ByteArray := prog_1_method_34_code
def yX0_wipe : MethodName := ⟨RX0, "wipe", "()I"⟩
def dkwX0_wipe_0 : List UInt8 := [42, 180, 0, 68, 180, 1, 59, 60, 42, 180, 0, 68, 3, 181, 1, 59, 27, 172]
abbrev dktX0_wipe_0 : List UInt8 := dkwX0_wipe_0 ++ []
theorem dksX0_wipe_0 : cX0_wipe.data.toList.drop 0 = dktX0_wipe_0 := by decide +kernel
theorem dX0_wipe_0 : decode cX0_wipe 0 = .ok (.aload_n 0, 1) := dk_42 (dk_at dksX0_wipe_0 0 rfl rfl)
theorem dX0_wipe_1 : decode cX0_wipe 1 = .ok (.getfield 68, 3) := dk_180 0 68 (dk_at dksX0_wipe_0 1 rfl rfl)
theorem dX0_wipe_4 : decode cX0_wipe 4 = .ok (.getfield 315, 3) := dk_180 1 59 (dk_at dksX0_wipe_0 4 rfl rfl)
theorem dX0_wipe_7 : decode cX0_wipe 7 = .ok (.istore_n 1, 1) := dk_60 (dk_at dksX0_wipe_0 7 rfl rfl)
theorem dX0_wipe_8 : decode cX0_wipe 8 = .ok (.aload_n 0, 1) := dk_42 (dk_at dksX0_wipe_0 8 rfl rfl)
theorem dX0_wipe_9 : decode cX0_wipe 9 = .ok (.getfield 68, 3) := dk_180 0 68 (dk_at dksX0_wipe_0 9 rfl rfl)
theorem dX0_wipe_12 : decode cX0_wipe 12 = .ok (.iconst 0, 1) := dk_3 (dk_at dksX0_wipe_0 12 rfl rfl)
theorem dX0_wipe_13 : decode cX0_wipe 13 = .ok (.putfield 315, 3) := dk_181 1 59 (dk_at dksX0_wipe_0 13 rfl rfl)
theorem dX0_wipe_16 : decode cX0_wipe 16 = .ok (.iload_n 1, 1) := dk_27 (dk_at dksX0_wipe_0 16 rfl rfl)
theorem dX0_wipe_17 : decode cX0_wipe 17 = .ok (.ireturn, 1) := dk_172 (dk_at dksX0_wipe_0 17 rfl rfl)
abbrev cX0_line : ByteArray := prog_1_method_37_code
def yX0_line : MethodName := ⟨RX0, "line", "()I"⟩
def dkwX0_line_0 : List UInt8 := [42, 182, 1, 92, 172, 76, 42, 43, 180, 1, 32, 182, 0, 118, 172, 76, 16, 246, 43, 180, 1, 97, 100, 172]
abbrev dktX0_line_0 : List UInt8 := dkwX0_line_0 ++ []
theorem dksX0_line_0 : cX0_line.data.toList.drop 0 = dktX0_line_0 := by decide +kernel
theorem dX0_line_0 : decode cX0_line 0 = .ok (.aload_n 0, 1) := dk_42 (dk_at dksX0_line_0 0 rfl rfl)
theorem dX0_line_1 : decode cX0_line 1 = .ok (.invokevirtual 348, 3) := dk_182 1 92 (dk_at dksX0_line_0 1 rfl rfl)
theorem dX0_line_4 : decode cX0_line 4 = .ok (.ireturn, 1) := dk_172 (dk_at dksX0_line_0 4 rfl rfl)
theorem dX0_line_5 : decode cX0_line 5 = .ok (.astore_n 1, 1) := dk_76 (dk_at dksX0_line_0 5 rfl rfl)
theorem dX0_line_6 : decode cX0_line 6 = .ok (.aload_n 0, 1) := dk_42 (dk_at dksX0_line_0 6 rfl rfl)
theorem dX0_line_7 : decode cX0_line 7 = .ok (.aload_n 1, 1) := dk_43 (dk_at dksX0_line_0 7 rfl rfl)
theorem dX0_line_8 : decode cX0_line 8 = .ok (.getfield 288, 3) := dk_180 1 32 (dk_at dksX0_line_0 8 rfl rfl)
theorem dX0_line_11 : decode cX0_line 11 = .ok (.invokevirtual 118, 3) := dk_182 0 118 (dk_at dksX0_line_0 11 rfl rfl)
theorem dX0_line_14 : decode cX0_line 14 = .ok (.ireturn, 1) := dk_172 (dk_at dksX0_line_0 14 rfl rfl)
theorem dX0_line_15 : decode cX0_line 15 = .ok (.astore_n 1, 1) := dk_76 (dk_at dksX0_line_0 15 rfl rfl)
theorem dX0_line_16 : decode cX0_line 16 = .ok (.bipush (-10), 2) := dk_16 246 (dk_at dksX0_line_0 16 rfl rfl)
theorem dX0_line_18 : decode cX0_line 18 = .ok (.aload_n 1, 1) := dk_43 (dk_at dksX0_line_0 18 rfl rfl)
theorem dX0_line_19 : decode cX0_line 19 = .ok (.getfield 353, 3) := dk_180 1 97 (dk_at dksX0_line_0 19 rfl rfl)
theorem dX0_line_22 : decode cX0_line 22 = .ok (.isub, 1) := dk_100 (dk_at dksX0_line_0 22 rfl rfl)
theorem dX0_line_23 : decode cX0_line 23 = .ok (.ireturn, 1) := dk_172 (dk_at dksX0_line_0 23 rfl rfl)
abbrev cX0_lineTold : ByteArray := prog_1_method_36_code
def yX0_lineTold : MethodName := ⟨RX0, "lineTold", "()I"⟩
def dkwX0_lineTold_7 : List UInt8 := [181, 1, 59, 42, 180, 0, 19, 180, 1, 66, 4, 100, 172]
abbrev dktX0_lineTold_7 : List UInt8 := dkwX0_lineTold_7 ++ []
def dkwX0_lineTold_6 : List UInt8 := [180, 1, 66, 2, 79, 42, 180, 0, 19, 89, 180, 1, 66, 4, 96, 181, 1, 66, 42, 180, 0, 68, 3]
abbrev dktX0_lineTold_6 : List UInt8 := dkwX0_lineTold_6 ++ dktX0_lineTold_7
def dkwX0_lineTold_5 : List UInt8 := [180, 1, 66, 42, 180, 0, 19, 180, 1, 88, 79, 42, 180, 0, 19, 180, 1, 69, 42, 180, 0, 19]
abbrev dktX0_lineTold_5 : List UInt8 := dkwX0_lineTold_5 ++ dktX0_lineTold_6
def dkwX0_lineTold_4 : List UInt8 := [180, 1, 72, 42, 180, 0, 19, 180, 1, 66, 43, 83, 42, 180, 0, 19, 180, 1, 89, 42, 180, 0, 19]
abbrev dktX0_lineTold_4 : List UInt8 := dkwX0_lineTold_4 ++ dktX0_lineTold_5
def dkwX0_lineTold_3 : List UInt8 := [180, 0, 19, 180, 1, 69, 43, 180, 1, 76, 42, 180, 0, 19, 180, 1, 88, 79, 42, 180, 0, 19]
abbrev dktX0_lineTold_3 : List UInt8 := dkwX0_lineTold_3 ++ dktX0_lineTold_4
def dkwX0_lineTold_2 : List UInt8 := [153, 0, 7, 4, 167, 0, 4, 3, 16, 249, 182, 1, 20, 43, 180, 1, 76, 2, 159, 0, 22, 42]
abbrev dktX0_lineTold_2 : List UInt8 := dkwX0_lineTold_2 ++ dktX0_lineTold_3
def dkwX0_lineTold_1 : List UInt8 := [180, 0, 68, 182, 1, 81, 76, 42, 43, 180, 1, 76, 2, 159, 0, 14, 42, 43, 180, 1, 76, 182, 1, 85]
abbrev dktX0_lineTold_1 : List UInt8 := dkwX0_lineTold_1 ++ dktX0_lineTold_2
def dkwX0_lineTold_0 : List UInt8 := [42, 42, 180, 0, 19, 180, 1, 66, 16, 16, 162, 0, 7, 4, 167, 0, 4, 3, 16, 248, 182, 1, 20, 42]
abbrev dktX0_lineTold_0 : List UInt8 := dkwX0_lineTold_0 ++ dktX0_lineTold_1
theorem dksX0_lineTold_0 : cX0_lineTold.data.toList.drop 0 = dktX0_lineTold_0 := by decide +kernel
theorem dksX0_lineTold_1 : cX0_lineTold.data.toList.drop 24 = dktX0_lineTold_1 := dk_seg dksX0_lineTold_0 24 rfl rfl
theorem dksX0_lineTold_2 : cX0_lineTold.data.toList.drop 48 = dktX0_lineTold_2 := dk_seg dksX0_lineTold_1 24 rfl rfl
theorem dksX0_lineTold_3 : cX0_lineTold.data.toList.drop 70 = dktX0_lineTold_3 := dk_seg dksX0_lineTold_2 22 rfl rfl
theorem dksX0_lineTold_4 : cX0_lineTold.data.toList.drop 92 = dktX0_lineTold_4 := dk_seg dksX0_lineTold_3 22 rfl rfl
theorem dksX0_lineTold_5 : cX0_lineTold.data.toList.drop 115 = dktX0_lineTold_5 := dk_seg dksX0_lineTold_4 23 rfl rfl
theorem dksX0_lineTold_6 : cX0_lineTold.data.toList.drop 137 = dktX0_lineTold_6 := dk_seg dksX0_lineTold_5 22 rfl rfl
theorem dksX0_lineTold_7 : cX0_lineTold.data.toList.drop 160 = dktX0_lineTold_7 := dk_seg dksX0_lineTold_6 23 rfl rfl
theorem dX0_lineTold_0 : decode cX0_lineTold 0 = .ok (.aload_n 0, 1) := dk_42 (dk_at dksX0_lineTold_0 0 rfl rfl)
theorem dX0_lineTold_1 : decode cX0_lineTold 1 = .ok (.aload_n 0, 1) := dk_42 (dk_at dksX0_lineTold_0 1 rfl rfl)
theorem dX0_lineTold_2 : decode cX0_lineTold 2 = .ok (.getfield 19, 3) := dk_180 0 19 (dk_at dksX0_lineTold_0 2 rfl rfl)
theorem dX0_lineTold_5 : decode cX0_lineTold 5 = .ok (.getfield 322, 3) := dk_180 1 66 (dk_at dksX0_lineTold_0 5 rfl rfl)
theorem dX0_lineTold_8 : decode cX0_lineTold 8 = .ok (.bipush 16, 2) := dk_16 16 (dk_at dksX0_lineTold_0 8 rfl rfl)
theorem dX0_lineTold_10 : decode cX0_lineTold 10 = .ok (.if_icmp .ge 7, 3) := dk_162 0 7 (dk_at dksX0_lineTold_0 10 rfl rfl)
theorem dX0_lineTold_13 : decode cX0_lineTold 13 = .ok (.iconst 1, 1) := dk_4 (dk_at dksX0_lineTold_0 13 rfl rfl)
theorem dX0_lineTold_14 : decode cX0_lineTold 14 = .ok (.goto 4, 3) := dk_167 0 4 (dk_at dksX0_lineTold_0 14 rfl rfl)
theorem dX0_lineTold_17 : decode cX0_lineTold 17 = .ok (.iconst 0, 1) := dk_3 (dk_at dksX0_lineTold_0 17 rfl rfl)
theorem dX0_lineTold_18 : decode cX0_lineTold 18 = .ok (.bipush (-8), 2) := dk_16 248 (dk_at dksX0_lineTold_0 18 rfl rfl)
theorem dX0_lineTold_20 : decode cX0_lineTold 20 = .ok (.invokevirtual 276, 3) := dk_182 1 20 (dk_at dksX0_lineTold_0 20 rfl rfl)
theorem dX0_lineTold_23 : decode cX0_lineTold 23 = .ok (.aload_n 0, 1) := dk_42 (dk_at dksX0_lineTold_0 23 rfl rfl)
theorem dX0_lineTold_24 : decode cX0_lineTold 24 = .ok (.getfield 68, 3) := dk_180 0 68 (dk_at dksX0_lineTold_1 0 rfl rfl)
theorem dX0_lineTold_27 : decode cX0_lineTold 27 = .ok (.invokevirtual 337, 3) := dk_182 1 81 (dk_at dksX0_lineTold_1 3 rfl rfl)
theorem dX0_lineTold_30 : decode cX0_lineTold 30 = .ok (.astore_n 1, 1) := dk_76 (dk_at dksX0_lineTold_1 6 rfl rfl)
theorem dX0_lineTold_31 : decode cX0_lineTold 31 = .ok (.aload_n 0, 1) := dk_42 (dk_at dksX0_lineTold_1 7 rfl rfl)
theorem dX0_lineTold_32 : decode cX0_lineTold 32 = .ok (.aload_n 1, 1) := dk_43 (dk_at dksX0_lineTold_1 8 rfl rfl)
theorem dX0_lineTold_33 : decode cX0_lineTold 33 = .ok (.getfield 332, 3) := dk_180 1 76 (dk_at dksX0_lineTold_1 9 rfl rfl)
theorem dX0_lineTold_36 : decode cX0_lineTold 36 = .ok (.iconst (-1), 1) := dk_2 (dk_at dksX0_lineTold_1 12 rfl rfl)
theorem dX0_lineTold_37 : decode cX0_lineTold 37 = .ok (.if_icmp .eq 14, 3) := dk_159 0 14 (dk_at dksX0_lineTold_1 13 rfl rfl)
theorem dX0_lineTold_40 : decode cX0_lineTold 40 = .ok (.aload_n 0, 1) := dk_42 (dk_at dksX0_lineTold_1 16 rfl rfl)
theorem dX0_lineTold_41 : decode cX0_lineTold 41 = .ok (.aload_n 1, 1) := dk_43 (dk_at dksX0_lineTold_1 17 rfl rfl)
theorem dX0_lineTold_42 : decode cX0_lineTold 42 = .ok (.getfield 332, 3) := dk_180 1 76 (dk_at dksX0_lineTold_1 18 rfl rfl)
theorem dX0_lineTold_45 : decode cX0_lineTold 45 = .ok (.invokevirtual 341, 3) := dk_182 1 85 (dk_at dksX0_lineTold_1 21 rfl rfl)
theorem dX0_lineTold_48 : decode cX0_lineTold 48 = .ok (.ifCond .eq 7, 3) := dk_153 0 7 (dk_at dksX0_lineTold_2 0 rfl rfl)
theorem dX0_lineTold_51 : decode cX0_lineTold 51 = .ok (.iconst 1, 1) := dk_4 (dk_at dksX0_lineTold_2 3 rfl rfl)
theorem dX0_lineTold_52 : decode cX0_lineTold 52 = .ok (.goto 4, 3) := dk_167 0 4 (dk_at dksX0_lineTold_2 4 rfl rfl)
theorem dX0_lineTold_55 : decode cX0_lineTold 55 = .ok (.iconst 0, 1) := dk_3 (dk_at dksX0_lineTold_2 7 rfl rfl)
theorem dX0_lineTold_56 : decode cX0_lineTold 56 = .ok (.bipush (-7), 2) := dk_16 249 (dk_at dksX0_lineTold_2 8 rfl rfl)
theorem dX0_lineTold_58 : decode cX0_lineTold 58 = .ok (.invokevirtual 276, 3) := dk_182 1 20 (dk_at dksX0_lineTold_2 10 rfl rfl)
theorem dX0_lineTold_61 : decode cX0_lineTold 61 = .ok (.aload_n 1, 1) := dk_43 (dk_at dksX0_lineTold_2 13 rfl rfl)
theorem dX0_lineTold_62 : decode cX0_lineTold 62 = .ok (.getfield 332, 3) := dk_180 1 76 (dk_at dksX0_lineTold_2 14 rfl rfl)
theorem dX0_lineTold_65 : decode cX0_lineTold 65 = .ok (.iconst (-1), 1) := dk_2 (dk_at dksX0_lineTold_2 17 rfl rfl)
theorem dX0_lineTold_66 : decode cX0_lineTold 66 = .ok (.if_icmp .eq 22, 3) := dk_159 0 22 (dk_at dksX0_lineTold_2 18 rfl rfl)
theorem dX0_lineTold_69 : decode cX0_lineTold 69 = .ok (.aload_n 0, 1) := dk_42 (dk_at dksX0_lineTold_2 21 rfl rfl)
theorem dX0_lineTold_70 : decode cX0_lineTold 70 = .ok (.getfield 19, 3) := dk_180 0 19 (dk_at dksX0_lineTold_3 0 rfl rfl)
theorem dX0_lineTold_73 : decode cX0_lineTold 73 = .ok (.getfield 325, 3) := dk_180 1 69 (dk_at dksX0_lineTold_3 3 rfl rfl)
theorem dX0_lineTold_76 : decode cX0_lineTold 76 = .ok (.aload_n 1, 1) := dk_43 (dk_at dksX0_lineTold_3 6 rfl rfl)
theorem dX0_lineTold_77 : decode cX0_lineTold 77 = .ok (.getfield 332, 3) := dk_180 1 76 (dk_at dksX0_lineTold_3 7 rfl rfl)
theorem dX0_lineTold_80 : decode cX0_lineTold 80 = .ok (.aload_n 0, 1) := dk_42 (dk_at dksX0_lineTold_3 10 rfl rfl)
theorem dX0_lineTold_81 : decode cX0_lineTold 81 = .ok (.getfield 19, 3) := dk_180 0 19 (dk_at dksX0_lineTold_3 11 rfl rfl)
theorem dX0_lineTold_84 : decode cX0_lineTold 84 = .ok (.getfield 344, 3) := dk_180 1 88 (dk_at dksX0_lineTold_3 14 rfl rfl)
theorem dX0_lineTold_87 : decode cX0_lineTold 87 = .ok (.iastore, 1) := dk_79 (dk_at dksX0_lineTold_3 17 rfl rfl)
theorem dX0_lineTold_88 : decode cX0_lineTold 88 = .ok (.aload_n 0, 1) := dk_42 (dk_at dksX0_lineTold_3 18 rfl rfl)
theorem dX0_lineTold_89 : decode cX0_lineTold 89 = .ok (.getfield 19, 3) := dk_180 0 19 (dk_at dksX0_lineTold_3 19 rfl rfl)
theorem dX0_lineTold_92 : decode cX0_lineTold 92 = .ok (.getfield 328, 3) := dk_180 1 72 (dk_at dksX0_lineTold_4 0 rfl rfl)
theorem dX0_lineTold_95 : decode cX0_lineTold 95 = .ok (.aload_n 0, 1) := dk_42 (dk_at dksX0_lineTold_4 3 rfl rfl)
theorem dX0_lineTold_96 : decode cX0_lineTold 96 = .ok (.getfield 19, 3) := dk_180 0 19 (dk_at dksX0_lineTold_4 4 rfl rfl)
theorem dX0_lineTold_99 : decode cX0_lineTold 99 = .ok (.getfield 322, 3) := dk_180 1 66 (dk_at dksX0_lineTold_4 7 rfl rfl)
theorem dX0_lineTold_102 : decode cX0_lineTold 102 = .ok (.aload_n 1, 1) := dk_43 (dk_at dksX0_lineTold_4 10 rfl rfl)
theorem dX0_lineTold_103 : decode cX0_lineTold 103 = .ok (.aastore, 1) := dk_83 (dk_at dksX0_lineTold_4 11 rfl rfl)
theorem dX0_lineTold_104 : decode cX0_lineTold 104 = .ok (.aload_n 0, 1) := dk_42 (dk_at dksX0_lineTold_4 12 rfl rfl)
theorem dX0_lineTold_105 : decode cX0_lineTold 105 = .ok (.getfield 19, 3) := dk_180 0 19 (dk_at dksX0_lineTold_4 13 rfl rfl)
theorem dX0_lineTold_108 : decode cX0_lineTold 108 = .ok (.getfield 345, 3) := dk_180 1 89 (dk_at dksX0_lineTold_4 16 rfl rfl)
theorem dX0_lineTold_111 : decode cX0_lineTold 111 = .ok (.aload_n 0, 1) := dk_42 (dk_at dksX0_lineTold_4 19 rfl rfl)
theorem dX0_lineTold_112 : decode cX0_lineTold 112 = .ok (.getfield 19, 3) := dk_180 0 19 (dk_at dksX0_lineTold_4 20 rfl rfl)
theorem dX0_lineTold_115 : decode cX0_lineTold 115 = .ok (.getfield 322, 3) := dk_180 1 66 (dk_at dksX0_lineTold_5 0 rfl rfl)
theorem dX0_lineTold_118 : decode cX0_lineTold 118 = .ok (.aload_n 0, 1) := dk_42 (dk_at dksX0_lineTold_5 3 rfl rfl)
theorem dX0_lineTold_119 : decode cX0_lineTold 119 = .ok (.getfield 19, 3) := dk_180 0 19 (dk_at dksX0_lineTold_5 4 rfl rfl)
theorem dX0_lineTold_122 : decode cX0_lineTold 122 = .ok (.getfield 344, 3) := dk_180 1 88 (dk_at dksX0_lineTold_5 7 rfl rfl)
theorem dX0_lineTold_125 : decode cX0_lineTold 125 = .ok (.iastore, 1) := dk_79 (dk_at dksX0_lineTold_5 10 rfl rfl)
theorem dX0_lineTold_126 : decode cX0_lineTold 126 = .ok (.aload_n 0, 1) := dk_42 (dk_at dksX0_lineTold_5 11 rfl rfl)
theorem dX0_lineTold_127 : decode cX0_lineTold 127 = .ok (.getfield 19, 3) := dk_180 0 19 (dk_at dksX0_lineTold_5 12 rfl rfl)
theorem dX0_lineTold_130 : decode cX0_lineTold 130 = .ok (.getfield 325, 3) := dk_180 1 69 (dk_at dksX0_lineTold_5 15 rfl rfl)
theorem dX0_lineTold_133 : decode cX0_lineTold 133 = .ok (.aload_n 0, 1) := dk_42 (dk_at dksX0_lineTold_5 18 rfl rfl)
theorem dX0_lineTold_134 : decode cX0_lineTold 134 = .ok (.getfield 19, 3) := dk_180 0 19 (dk_at dksX0_lineTold_5 19 rfl rfl)
theorem dX0_lineTold_137 : decode cX0_lineTold 137 = .ok (.getfield 322, 3) := dk_180 1 66 (dk_at dksX0_lineTold_6 0 rfl rfl)
theorem dX0_lineTold_140 : decode cX0_lineTold 140 = .ok (.iconst (-1), 1) := dk_2 (dk_at dksX0_lineTold_6 3 rfl rfl)
theorem dX0_lineTold_141 : decode cX0_lineTold 141 = .ok (.iastore, 1) := dk_79 (dk_at dksX0_lineTold_6 4 rfl rfl)
theorem dX0_lineTold_142 : decode cX0_lineTold 142 = .ok (.aload_n 0, 1) := dk_42 (dk_at dksX0_lineTold_6 5 rfl rfl)
theorem dX0_lineTold_143 : decode cX0_lineTold 143 = .ok (.getfield 19, 3) := dk_180 0 19 (dk_at dksX0_lineTold_6 6 rfl rfl)
theorem dX0_lineTold_146 : decode cX0_lineTold 146 = .ok (.dup, 1) := dk_89 (dk_at dksX0_lineTold_6 9 rfl rfl)
theorem dX0_lineTold_147 : decode cX0_lineTold 147 = .ok (.getfield 322, 3) := dk_180 1 66 (dk_at dksX0_lineTold_6 10 rfl rfl)
theorem dX0_lineTold_150 : decode cX0_lineTold 150 = .ok (.iconst 1, 1) := dk_4 (dk_at dksX0_lineTold_6 13 rfl rfl)
theorem dX0_lineTold_151 : decode cX0_lineTold 151 = .ok (.iadd, 1) := dk_96 (dk_at dksX0_lineTold_6 14 rfl rfl)
theorem dX0_lineTold_152 : decode cX0_lineTold 152 = .ok (.putfield 322, 3) := dk_181 1 66 (dk_at dksX0_lineTold_6 15 rfl rfl)
theorem dX0_lineTold_155 : decode cX0_lineTold 155 = .ok (.aload_n 0, 1) := dk_42 (dk_at dksX0_lineTold_6 18 rfl rfl)
theorem dX0_lineTold_156 : decode cX0_lineTold 156 = .ok (.getfield 68, 3) := dk_180 0 68 (dk_at dksX0_lineTold_6 19 rfl rfl)
theorem dX0_lineTold_159 : decode cX0_lineTold 159 = .ok (.iconst 0, 1) := dk_3 (dk_at dksX0_lineTold_6 22 rfl rfl)
theorem dX0_lineTold_160 : decode cX0_lineTold 160 = .ok (.putfield 315, 3) := dk_181 1 59 (dk_at dksX0_lineTold_7 0 rfl rfl)
theorem dX0_lineTold_163 : decode cX0_lineTold 163 = .ok (.aload_n 0, 1) := dk_42 (dk_at dksX0_lineTold_7 3 rfl rfl)
theorem dX0_lineTold_164 : decode cX0_lineTold 164 = .ok (.getfield 19, 3) := dk_180 0 19 (dk_at dksX0_lineTold_7 4 rfl rfl)
theorem dX0_lineTold_167 : decode cX0_lineTold 167 = .ok (.getfield 322, 3) := dk_180 1 66 (dk_at dksX0_lineTold_7 7 rfl rfl)
theorem dX0_lineTold_170 : decode cX0_lineTold 170 = .ok (.iconst 1, 1) := dk_4 (dk_at dksX0_lineTold_7 10 rfl rfl)
theorem dX0_lineTold_171 : decode cX0_lineTold 171 = .ok (.isub, 1) := dk_100 (dk_at dksX0_lineTold_7 11 rfl rfl)
theorem dX0_lineTold_172 : decode cX0_lineTold 172 = .ok (.ireturn, 1) := dk_172 (dk_at dksX0_lineTold_7 12 rfl rfl)
abbrev cX0_mayStrike : ByteArray := prog_1_method_35_code
def yX0_mayStrike : MethodName := ⟨RX0, "mayStrike", "(I)Z"⟩
def dkwX0_mayStrike_1 : List UInt8 := [42, 180, 0, 19, 180, 1, 72, 27, 50, 180, 1, 76, 2, 160, 0, 7, 4, 167, 0, 4, 3, 172]
abbrev dktX0_mayStrike_1 : List UInt8 := dkwX0_mayStrike_1 ++ []
def dkwX0_mayStrike_0 : List UInt8 := [27, 42, 180, 0, 19, 180, 1, 66, 162, 0, 36, 42, 180, 0, 19, 180, 1, 69, 27, 46, 2, 160, 0, 23]
abbrev dktX0_mayStrike_0 : List UInt8 := dkwX0_mayStrike_0 ++ dktX0_mayStrike_1
theorem dksX0_mayStrike_0 : cX0_mayStrike.data.toList.drop 0 = dktX0_mayStrike_0 := by decide +kernel
theorem dksX0_mayStrike_1 : cX0_mayStrike.data.toList.drop 24 = dktX0_mayStrike_1 := dk_seg dksX0_mayStrike_0 24 rfl rfl
theorem dX0_mayStrike_0 : decode cX0_mayStrike 0 = .ok (.iload_n 1, 1) := dk_27 (dk_at dksX0_mayStrike_0 0 rfl rfl)
theorem dX0_mayStrike_1 : decode cX0_mayStrike 1 = .ok (.aload_n 0, 1) := dk_42 (dk_at dksX0_mayStrike_0 1 rfl rfl)
theorem dX0_mayStrike_2 : decode cX0_mayStrike 2 = .ok (.getfield 19, 3) := dk_180 0 19 (dk_at dksX0_mayStrike_0 2 rfl rfl)
theorem dX0_mayStrike_5 : decode cX0_mayStrike 5 = .ok (.getfield 322, 3) := dk_180 1 66 (dk_at dksX0_mayStrike_0 5 rfl rfl)
theorem dX0_mayStrike_8 : decode cX0_mayStrike 8 = .ok (.if_icmp .ge 36, 3) := dk_162 0 36 (dk_at dksX0_mayStrike_0 8 rfl rfl)
theorem dX0_mayStrike_11 : decode cX0_mayStrike 11 = .ok (.aload_n 0, 1) := dk_42 (dk_at dksX0_mayStrike_0 11 rfl rfl)
theorem dX0_mayStrike_12 : decode cX0_mayStrike 12 = .ok (.getfield 19, 3) := dk_180 0 19 (dk_at dksX0_mayStrike_0 12 rfl rfl)
theorem dX0_mayStrike_15 : decode cX0_mayStrike 15 = .ok (.getfield 325, 3) := dk_180 1 69 (dk_at dksX0_mayStrike_0 15 rfl rfl)
theorem dX0_mayStrike_18 : decode cX0_mayStrike 18 = .ok (.iload_n 1, 1) := dk_27 (dk_at dksX0_mayStrike_0 18 rfl rfl)
theorem dX0_mayStrike_19 : decode cX0_mayStrike 19 = .ok (.iaload, 1) := dk_46 (dk_at dksX0_mayStrike_0 19 rfl rfl)
theorem dX0_mayStrike_20 : decode cX0_mayStrike 20 = .ok (.iconst (-1), 1) := dk_2 (dk_at dksX0_mayStrike_0 20 rfl rfl)
theorem dX0_mayStrike_21 : decode cX0_mayStrike 21 = .ok (.if_icmp .ne 23, 3) := dk_160 0 23 (dk_at dksX0_mayStrike_0 21 rfl rfl)
theorem dX0_mayStrike_24 : decode cX0_mayStrike 24 = .ok (.aload_n 0, 1) := dk_42 (dk_at dksX0_mayStrike_1 0 rfl rfl)
theorem dX0_mayStrike_25 : decode cX0_mayStrike 25 = .ok (.getfield 19, 3) := dk_180 0 19 (dk_at dksX0_mayStrike_1 1 rfl rfl)
theorem dX0_mayStrike_28 : decode cX0_mayStrike 28 = .ok (.getfield 328, 3) := dk_180 1 72 (dk_at dksX0_mayStrike_1 4 rfl rfl)
theorem dX0_mayStrike_31 : decode cX0_mayStrike 31 = .ok (.iload_n 1, 1) := dk_27 (dk_at dksX0_mayStrike_1 7 rfl rfl)
theorem dX0_mayStrike_32 : decode cX0_mayStrike 32 = .ok (.aaload, 1) := dk_50 (dk_at dksX0_mayStrike_1 8 rfl rfl)
theorem dX0_mayStrike_33 : decode cX0_mayStrike 33 = .ok (.getfield 332, 3) := dk_180 1 76 (dk_at dksX0_mayStrike_1 9 rfl rfl)
theorem dX0_mayStrike_36 : decode cX0_mayStrike 36 = .ok (.iconst (-1), 1) := dk_2 (dk_at dksX0_mayStrike_1 12 rfl rfl)
theorem dX0_mayStrike_37 : decode cX0_mayStrike 37 = .ok (.if_icmp .ne 7, 3) := dk_160 0 7 (dk_at dksX0_mayStrike_1 13 rfl rfl)
theorem dX0_mayStrike_40 : decode cX0_mayStrike 40 = .ok (.iconst 1, 1) := dk_4 (dk_at dksX0_mayStrike_1 16 rfl rfl)
theorem dX0_mayStrike_41 : decode cX0_mayStrike 41 = .ok (.goto 4, 3) := dk_167 0 4 (dk_at dksX0_mayStrike_1 17 rfl rfl)
theorem dX0_mayStrike_44 : decode cX0_mayStrike 44 = .ok (.iconst 0, 1) := dk_3 (dk_at dksX0_mayStrike_1 20 rfl rfl)
theorem dX0_mayStrike_45 : decode cX0_mayStrike 45 = .ok (.ireturn, 1) := dk_172 (dk_at dksX0_mayStrike_1 21 rfl rfl)
abbrev cX0_lineOf : ByteArray := prog_1_method_38_code
def yX0_lineOf : MethodName := ⟨RX0, "lineOf", "(II)I"⟩
def dkwX0_lineOf_4 : List UInt8 := [16, 249, 182, 0, 118, 172]
abbrev dktX0_lineOf_4 : List UInt8 := dkwX0_lineOf_4 ++ []
def dkwX0_lineOf_3 : List UInt8 := [180, 0, 19, 180, 1, 69, 27, 46, 172, 42, 180, 0, 19, 180, 1, 72, 27, 50, 180, 1, 76, 172, 42]
abbrev dktX0_lineOf_3 : List UInt8 := dkwX0_lineOf_3 ++ dktX0_lineOf_4
def dkwX0_lineOf_2 : List UInt8 := [42, 180, 0, 19, 180, 1, 72, 27, 50, 180, 1, 100, 172, 42, 180, 0, 19, 180, 1, 89, 27, 46, 172, 42]
abbrev dktX0_lineOf_2 : List UInt8 := dkwX0_lineOf_2 ++ dktX0_lineOf_3
def dkwX0_lineOf_1 : List UInt8 := [170, 0, 0, 0, 75, 0, 0, 0, 0, 0, 0, 0, 3, 0, 0, 0, 29, 0, 0, 0, 42, 0, 0, 0, 52, 0, 0, 0, 62]
abbrev dktX0_lineOf_1 : List UInt8 := dkwX0_lineOf_1 ++ dktX0_lineOf_2
def dkwX0_lineOf_0 : List UInt8 := [27, 155, 0, 14, 27, 42, 180, 0, 19, 180, 1, 66, 161, 0, 10, 42, 16, 253, 182, 0, 118, 172, 28]
abbrev dktX0_lineOf_0 : List UInt8 := dkwX0_lineOf_0 ++ dktX0_lineOf_1
theorem dksX0_lineOf_0 : cX0_lineOf.data.toList.drop 0 = dktX0_lineOf_0 := by decide +kernel
theorem dksX0_lineOf_1 : cX0_lineOf.data.toList.drop 23 = dktX0_lineOf_1 := dk_seg dksX0_lineOf_0 23 rfl rfl
theorem dksX0_lineOf_2 : cX0_lineOf.data.toList.drop 52 = dktX0_lineOf_2 := dk_seg dksX0_lineOf_1 29 rfl rfl
theorem dksX0_lineOf_3 : cX0_lineOf.data.toList.drop 76 = dktX0_lineOf_3 := dk_seg dksX0_lineOf_2 24 rfl rfl
theorem dksX0_lineOf_4 : cX0_lineOf.data.toList.drop 99 = dktX0_lineOf_4 := dk_seg dksX0_lineOf_3 23 rfl rfl
theorem dX0_lineOf_0 : decode cX0_lineOf 0 = .ok (.iload_n 1, 1) := dk_27 (dk_at dksX0_lineOf_0 0 rfl rfl)
theorem dX0_lineOf_1 : decode cX0_lineOf 1 = .ok (.ifCond .lt 14, 3) := dk_155 0 14 (dk_at dksX0_lineOf_0 1 rfl rfl)
theorem dX0_lineOf_4 : decode cX0_lineOf 4 = .ok (.iload_n 1, 1) := dk_27 (dk_at dksX0_lineOf_0 4 rfl rfl)
theorem dX0_lineOf_5 : decode cX0_lineOf 5 = .ok (.aload_n 0, 1) := dk_42 (dk_at dksX0_lineOf_0 5 rfl rfl)
theorem dX0_lineOf_6 : decode cX0_lineOf 6 = .ok (.getfield 19, 3) := dk_180 0 19 (dk_at dksX0_lineOf_0 6 rfl rfl)
theorem dX0_lineOf_9 : decode cX0_lineOf 9 = .ok (.getfield 322, 3) := dk_180 1 66 (dk_at dksX0_lineOf_0 9 rfl rfl)
theorem dX0_lineOf_12 : decode cX0_lineOf 12 = .ok (.if_icmp .lt 10, 3) := dk_161 0 10 (dk_at dksX0_lineOf_0 12 rfl rfl)
theorem dX0_lineOf_15 : decode cX0_lineOf 15 = .ok (.aload_n 0, 1) := dk_42 (dk_at dksX0_lineOf_0 15 rfl rfl)
theorem dX0_lineOf_16 : decode cX0_lineOf 16 = .ok (.bipush (-3), 2) := dk_16 253 (dk_at dksX0_lineOf_0 16 rfl rfl)
theorem dX0_lineOf_18 : decode cX0_lineOf 18 = .ok (.invokevirtual 118, 3) := dk_182 0 118 (dk_at dksX0_lineOf_0 18 rfl rfl)
theorem dX0_lineOf_21 : decode cX0_lineOf 21 = .ok (.ireturn, 1) := dk_172 (dk_at dksX0_lineOf_0 21 rfl rfl)
theorem dX0_lineOf_22 : decode cX0_lineOf 22 = .ok (.iload_n 2, 1) := dk_28 (dk_at dksX0_lineOf_0 22 rfl rfl)
theorem dX0_lineOf_23 : decode cX0_lineOf 23 = .ok (.tableswitch 75 0 3 #[29, 42, 52, 62], 29) := by decide +kernel
theorem dX0_lineOf_52 : decode cX0_lineOf 52 = .ok (.aload_n 0, 1) := dk_42 (dk_at dksX0_lineOf_2 0 rfl rfl)
theorem dX0_lineOf_53 : decode cX0_lineOf 53 = .ok (.getfield 19, 3) := dk_180 0 19 (dk_at dksX0_lineOf_2 1 rfl rfl)
theorem dX0_lineOf_56 : decode cX0_lineOf 56 = .ok (.getfield 328, 3) := dk_180 1 72 (dk_at dksX0_lineOf_2 4 rfl rfl)
theorem dX0_lineOf_59 : decode cX0_lineOf 59 = .ok (.iload_n 1, 1) := dk_27 (dk_at dksX0_lineOf_2 7 rfl rfl)
theorem dX0_lineOf_60 : decode cX0_lineOf 60 = .ok (.aaload, 1) := dk_50 (dk_at dksX0_lineOf_2 8 rfl rfl)
theorem dX0_lineOf_61 : decode cX0_lineOf 61 = .ok (.getfield 356, 3) := dk_180 1 100 (dk_at dksX0_lineOf_2 9 rfl rfl)
theorem dX0_lineOf_64 : decode cX0_lineOf 64 = .ok (.ireturn, 1) := dk_172 (dk_at dksX0_lineOf_2 12 rfl rfl)
theorem dX0_lineOf_65 : decode cX0_lineOf 65 = .ok (.aload_n 0, 1) := dk_42 (dk_at dksX0_lineOf_2 13 rfl rfl)
theorem dX0_lineOf_66 : decode cX0_lineOf 66 = .ok (.getfield 19, 3) := dk_180 0 19 (dk_at dksX0_lineOf_2 14 rfl rfl)
theorem dX0_lineOf_69 : decode cX0_lineOf 69 = .ok (.getfield 345, 3) := dk_180 1 89 (dk_at dksX0_lineOf_2 17 rfl rfl)
theorem dX0_lineOf_72 : decode cX0_lineOf 72 = .ok (.iload_n 1, 1) := dk_27 (dk_at dksX0_lineOf_2 20 rfl rfl)
theorem dX0_lineOf_73 : decode cX0_lineOf 73 = .ok (.iaload, 1) := dk_46 (dk_at dksX0_lineOf_2 21 rfl rfl)
theorem dX0_lineOf_74 : decode cX0_lineOf 74 = .ok (.ireturn, 1) := dk_172 (dk_at dksX0_lineOf_2 22 rfl rfl)
theorem dX0_lineOf_75 : decode cX0_lineOf 75 = .ok (.aload_n 0, 1) := dk_42 (dk_at dksX0_lineOf_2 23 rfl rfl)
theorem dX0_lineOf_76 : decode cX0_lineOf 76 = .ok (.getfield 19, 3) := dk_180 0 19 (dk_at dksX0_lineOf_3 0 rfl rfl)
theorem dX0_lineOf_79 : decode cX0_lineOf 79 = .ok (.getfield 325, 3) := dk_180 1 69 (dk_at dksX0_lineOf_3 3 rfl rfl)
theorem dX0_lineOf_82 : decode cX0_lineOf 82 = .ok (.iload_n 1, 1) := dk_27 (dk_at dksX0_lineOf_3 6 rfl rfl)
theorem dX0_lineOf_83 : decode cX0_lineOf 83 = .ok (.iaload, 1) := dk_46 (dk_at dksX0_lineOf_3 7 rfl rfl)
theorem dX0_lineOf_84 : decode cX0_lineOf 84 = .ok (.ireturn, 1) := dk_172 (dk_at dksX0_lineOf_3 8 rfl rfl)
theorem dX0_lineOf_85 : decode cX0_lineOf 85 = .ok (.aload_n 0, 1) := dk_42 (dk_at dksX0_lineOf_3 9 rfl rfl)
theorem dX0_lineOf_86 : decode cX0_lineOf 86 = .ok (.getfield 19, 3) := dk_180 0 19 (dk_at dksX0_lineOf_3 10 rfl rfl)
theorem dX0_lineOf_89 : decode cX0_lineOf 89 = .ok (.getfield 328, 3) := dk_180 1 72 (dk_at dksX0_lineOf_3 13 rfl rfl)
theorem dX0_lineOf_92 : decode cX0_lineOf 92 = .ok (.iload_n 1, 1) := dk_27 (dk_at dksX0_lineOf_3 16 rfl rfl)
theorem dX0_lineOf_93 : decode cX0_lineOf 93 = .ok (.aaload, 1) := dk_50 (dk_at dksX0_lineOf_3 17 rfl rfl)
theorem dX0_lineOf_94 : decode cX0_lineOf 94 = .ok (.getfield 332, 3) := dk_180 1 76 (dk_at dksX0_lineOf_3 18 rfl rfl)
theorem dX0_lineOf_97 : decode cX0_lineOf 97 = .ok (.ireturn, 1) := dk_172 (dk_at dksX0_lineOf_3 21 rfl rfl)
theorem dX0_lineOf_98 : decode cX0_lineOf 98 = .ok (.aload_n 0, 1) := dk_42 (dk_at dksX0_lineOf_3 22 rfl rfl)
theorem dX0_lineOf_99 : decode cX0_lineOf 99 = .ok (.bipush (-7), 2) := dk_16 249 (dk_at dksX0_lineOf_4 0 rfl rfl)
theorem dX0_lineOf_101 : decode cX0_lineOf 101 = .ok (.invokevirtual 118, 3) := dk_182 0 118 (dk_at dksX0_lineOf_4 2 rfl rfl)
theorem dX0_lineOf_104 : decode cX0_lineOf 104 = .ok (.ireturn, 1) := dk_172 (dk_at dksX0_lineOf_4 5 rfl rfl)
abbrev cX0_says : ByteArray := prog_1_method_40_code
def yX0_says : MethodName := ⟨RX0, "says", "(III)I"⟩
def dkwX0_says_2 : List UInt8 := [182, 1, 108, 167, 0, 9, 42, 16, 249, 182, 1, 56, 172]
abbrev dktX0_says_2 : List UInt8 := dkwX0_says_2 ++ []
def dkwX0_says_1 : List UInt8 := [182, 1, 56, 172, 29, 133, 9, 20, 1, 106, 184, 0, 31, 153, 0, 16, 42, 180, 0, 19, 27, 28, 29]
abbrev dktX0_says_1 : List UInt8 := dkwX0_says_1 ++ dktX0_says_2
def dkwX0_says_0 : List UInt8 := [27, 133, 9, 20, 1, 54, 184, 0, 31, 153, 0, 11, 42, 28, 182, 1, 103, 154, 0, 10, 42, 16, 253]
abbrev dktX0_says_0 : List UInt8 := dkwX0_says_0 ++ dktX0_says_1
theorem dksX0_says_0 : cX0_says.data.toList.drop 0 = dktX0_says_0 := by decide +kernel
theorem dksX0_says_1 : cX0_says.data.toList.drop 23 = dktX0_says_1 := dk_seg dksX0_says_0 23 rfl rfl
theorem dksX0_says_2 : cX0_says.data.toList.drop 46 = dktX0_says_2 := dk_seg dksX0_says_1 23 rfl rfl
theorem dX0_says_0 : decode cX0_says 0 = .ok (.iload_n 1, 1) := dk_27 (dk_at dksX0_says_0 0 rfl rfl)
theorem dX0_says_1 : decode cX0_says 1 = .ok (.i2l, 1) := dk_133 (dk_at dksX0_says_0 1 rfl rfl)
theorem dX0_says_2 : decode cX0_says 2 = .ok (.lconst 0, 1) := dk_9 (dk_at dksX0_says_0 2 rfl rfl)
theorem dX0_says_3 : decode cX0_says 3 = .ok (.ldc2_w 310, 3) := dk_20 1 54 (dk_at dksX0_says_0 3 rfl rfl)
theorem dX0_says_6 : decode cX0_says 6 = .ok (.invokestatic 31, 3) := dk_184 0 31 (dk_at dksX0_says_0 6 rfl rfl)
theorem dX0_says_9 : decode cX0_says 9 = .ok (.ifCond .eq 11, 3) := dk_153 0 11 (dk_at dksX0_says_0 9 rfl rfl)
theorem dX0_says_12 : decode cX0_says 12 = .ok (.aload_n 0, 1) := dk_42 (dk_at dksX0_says_0 12 rfl rfl)
theorem dX0_says_13 : decode cX0_says 13 = .ok (.iload_n 2, 1) := dk_28 (dk_at dksX0_says_0 13 rfl rfl)
theorem dX0_says_14 : decode cX0_says 14 = .ok (.invokevirtual 359, 3) := dk_182 1 103 (dk_at dksX0_says_0 14 rfl rfl)
theorem dX0_says_17 : decode cX0_says 17 = .ok (.ifCond .ne 10, 3) := dk_154 0 10 (dk_at dksX0_says_0 17 rfl rfl)
theorem dX0_says_20 : decode cX0_says 20 = .ok (.aload_n 0, 1) := dk_42 (dk_at dksX0_says_0 20 rfl rfl)
theorem dX0_says_21 : decode cX0_says 21 = .ok (.bipush (-3), 2) := dk_16 253 (dk_at dksX0_says_0 21 rfl rfl)
theorem dX0_says_23 : decode cX0_says 23 = .ok (.invokevirtual 312, 3) := dk_182 1 56 (dk_at dksX0_says_1 0 rfl rfl)
theorem dX0_says_26 : decode cX0_says 26 = .ok (.ireturn, 1) := dk_172 (dk_at dksX0_says_1 3 rfl rfl)
theorem dX0_says_27 : decode cX0_says 27 = .ok (.iload_n 3, 1) := dk_29 (dk_at dksX0_says_1 4 rfl rfl)
theorem dX0_says_28 : decode cX0_says 28 = .ok (.i2l, 1) := dk_133 (dk_at dksX0_says_1 5 rfl rfl)
theorem dX0_says_29 : decode cX0_says 29 = .ok (.lconst 0, 1) := dk_9 (dk_at dksX0_says_1 6 rfl rfl)
theorem dX0_says_30 : decode cX0_says 30 = .ok (.ldc2_w 362, 3) := dk_20 1 106 (dk_at dksX0_says_1 7 rfl rfl)
theorem dX0_says_33 : decode cX0_says 33 = .ok (.invokestatic 31, 3) := dk_184 0 31 (dk_at dksX0_says_1 10 rfl rfl)
theorem dX0_says_36 : decode cX0_says 36 = .ok (.ifCond .eq 16, 3) := dk_153 0 16 (dk_at dksX0_says_1 13 rfl rfl)
theorem dX0_says_39 : decode cX0_says 39 = .ok (.aload_n 0, 1) := dk_42 (dk_at dksX0_says_1 16 rfl rfl)
theorem dX0_says_40 : decode cX0_says 40 = .ok (.getfield 19, 3) := dk_180 0 19 (dk_at dksX0_says_1 17 rfl rfl)
theorem dX0_says_43 : decode cX0_says 43 = .ok (.iload_n 1, 1) := dk_27 (dk_at dksX0_says_1 20 rfl rfl)
theorem dX0_says_44 : decode cX0_says 44 = .ok (.iload_n 2, 1) := dk_28 (dk_at dksX0_says_1 21 rfl rfl)
theorem dX0_says_45 : decode cX0_says 45 = .ok (.iload_n 3, 1) := dk_29 (dk_at dksX0_says_1 22 rfl rfl)
theorem dX0_says_46 : decode cX0_says 46 = .ok (.invokevirtual 364, 3) := dk_182 1 108 (dk_at dksX0_says_2 0 rfl rfl)
theorem dX0_says_49 : decode cX0_says 49 = .ok (.goto 9, 3) := dk_167 0 9 (dk_at dksX0_says_2 3 rfl rfl)
theorem dX0_says_52 : decode cX0_says 52 = .ok (.aload_n 0, 1) := dk_42 (dk_at dksX0_says_2 6 rfl rfl)
theorem dX0_says_53 : decode cX0_says 53 = .ok (.bipush (-7), 2) := dk_16 249 (dk_at dksX0_says_2 7 rfl rfl)
theorem dX0_says_55 : decode cX0_says 55 = .ok (.invokevirtual 312, 3) := dk_182 1 56 (dk_at dksX0_says_2 9 rfl rfl)
theorem dX0_says_58 : decode cX0_says 58 = .ok (.ireturn, 1) := dk_172 (dk_at dksX0_says_2 12 rfl rfl)
abbrev cX0_isWho : ByteArray := prog_1_method_39_code
def yX0_isWho : MethodName := ⟨RX0, "isWho", "(I)Z"⟩
def dkwX0_isWho_1 : List UInt8 := [172]
abbrev dktX0_isWho_1 : List UInt8 := dkwX0_isWho_1 ++ []
def dkwX0_isWho_0 : List UInt8 := [42, 27, 182, 0, 148, 154, 0, 14, 42, 27, 16, 100, 100, 182, 0, 223, 153, 0, 7, 4, 167, 0, 4, 3]
abbrev dktX0_isWho_0 : List UInt8 := dkwX0_isWho_0 ++ dktX0_isWho_1
theorem dksX0_isWho_0 : cX0_isWho.data.toList.drop 0 = dktX0_isWho_0 := by decide +kernel
theorem dksX0_isWho_1 : cX0_isWho.data.toList.drop 24 = dktX0_isWho_1 := dk_seg dksX0_isWho_0 24 rfl rfl
theorem dX0_isWho_0 : decode cX0_isWho 0 = .ok (.aload_n 0, 1) := dk_42 (dk_at dksX0_isWho_0 0 rfl rfl)
theorem dX0_isWho_1 : decode cX0_isWho 1 = .ok (.iload_n 1, 1) := dk_27 (dk_at dksX0_isWho_0 1 rfl rfl)
theorem dX0_isWho_2 : decode cX0_isWho 2 = .ok (.invokevirtual 148, 3) := dk_182 0 148 (dk_at dksX0_isWho_0 2 rfl rfl)
theorem dX0_isWho_5 : decode cX0_isWho 5 = .ok (.ifCond .ne 14, 3) := dk_154 0 14 (dk_at dksX0_isWho_0 5 rfl rfl)
theorem dX0_isWho_8 : decode cX0_isWho 8 = .ok (.aload_n 0, 1) := dk_42 (dk_at dksX0_isWho_0 8 rfl rfl)
theorem dX0_isWho_9 : decode cX0_isWho 9 = .ok (.iload_n 1, 1) := dk_27 (dk_at dksX0_isWho_0 9 rfl rfl)
theorem dX0_isWho_10 : decode cX0_isWho 10 = .ok (.bipush 100, 2) := dk_16 100 (dk_at dksX0_isWho_0 10 rfl rfl)
theorem dX0_isWho_12 : decode cX0_isWho 12 = .ok (.isub, 1) := dk_100 (dk_at dksX0_isWho_0 12 rfl rfl)
theorem dX0_isWho_13 : decode cX0_isWho 13 = .ok (.invokevirtual 223, 3) := dk_182 0 223 (dk_at dksX0_isWho_0 13 rfl rfl)
theorem dX0_isWho_16 : decode cX0_isWho 16 = .ok (.ifCond .eq 7, 3) := dk_153 0 7 (dk_at dksX0_isWho_0 16 rfl rfl)
theorem dX0_isWho_19 : decode cX0_isWho 19 = .ok (.iconst 1, 1) := dk_4 (dk_at dksX0_isWho_0 19 rfl rfl)
theorem dX0_isWho_20 : decode cX0_isWho 20 = .ok (.goto 4, 3) := dk_167 0 4 (dk_at dksX0_isWho_0 20 rfl rfl)
theorem dX0_isWho_23 : decode cX0_isWho 23 = .ok (.iconst 0, 1) := dk_3 (dk_at dksX0_isWho_0 23 rfl rfl)
theorem dX0_isWho_24 : decode cX0_isWho 24 = .ok (.ireturn, 1) := dk_172 (dk_at dksX0_isWho_1 0 rfl rfl)
abbrev cX0_why : ByteArray := prog_1_method_41_code
def yX0_why : MethodName := ⟨RX0, "why", "(III)I"⟩
def dkwX0_why_2 : List UInt8 := [182, 1, 111, 167, 0, 9, 42, 16, 249, 182, 0, 118, 172]
abbrev dktX0_why_2 : List UInt8 := dkwX0_why_2 ++ []
def dkwX0_why_1 : List UInt8 := [182, 0, 118, 172, 29, 133, 9, 20, 1, 106, 184, 0, 31, 153, 0, 16, 42, 180, 0, 19, 27, 28, 29]
abbrev dktX0_why_1 : List UInt8 := dkwX0_why_1 ++ dktX0_why_2
def dkwX0_why_0 : List UInt8 := [27, 133, 9, 20, 1, 54, 184, 0, 31, 153, 0, 11, 42, 28, 182, 1, 103, 154, 0, 10, 42, 16, 253]
abbrev dktX0_why_0 : List UInt8 := dkwX0_why_0 ++ dktX0_why_1
theorem dksX0_why_0 : cX0_why.data.toList.drop 0 = dktX0_why_0 := by decide +kernel
theorem dksX0_why_1 : cX0_why.data.toList.drop 23 = dktX0_why_1 := dk_seg dksX0_why_0 23 rfl rfl
theorem dksX0_why_2 : cX0_why.data.toList.drop 46 = dktX0_why_2 := dk_seg dksX0_why_1 23 rfl rfl
theorem dX0_why_0 : decode cX0_why 0 = .ok (.iload_n 1, 1) := dk_27 (dk_at dksX0_why_0 0 rfl rfl)
theorem dX0_why_1 : decode cX0_why 1 = .ok (.i2l, 1) := dk_133 (dk_at dksX0_why_0 1 rfl rfl)
theorem dX0_why_2 : decode cX0_why 2 = .ok (.lconst 0, 1) := dk_9 (dk_at dksX0_why_0 2 rfl rfl)
theorem dX0_why_3 : decode cX0_why 3 = .ok (.ldc2_w 310, 3) := dk_20 1 54 (dk_at dksX0_why_0 3 rfl rfl)
theorem dX0_why_6 : decode cX0_why 6 = .ok (.invokestatic 31, 3) := dk_184 0 31 (dk_at dksX0_why_0 6 rfl rfl)
theorem dX0_why_9 : decode cX0_why 9 = .ok (.ifCond .eq 11, 3) := dk_153 0 11 (dk_at dksX0_why_0 9 rfl rfl)
theorem dX0_why_12 : decode cX0_why 12 = .ok (.aload_n 0, 1) := dk_42 (dk_at dksX0_why_0 12 rfl rfl)
theorem dX0_why_13 : decode cX0_why 13 = .ok (.iload_n 2, 1) := dk_28 (dk_at dksX0_why_0 13 rfl rfl)
theorem dX0_why_14 : decode cX0_why 14 = .ok (.invokevirtual 359, 3) := dk_182 1 103 (dk_at dksX0_why_0 14 rfl rfl)
theorem dX0_why_17 : decode cX0_why 17 = .ok (.ifCond .ne 10, 3) := dk_154 0 10 (dk_at dksX0_why_0 17 rfl rfl)
theorem dX0_why_20 : decode cX0_why 20 = .ok (.aload_n 0, 1) := dk_42 (dk_at dksX0_why_0 20 rfl rfl)
theorem dX0_why_21 : decode cX0_why 21 = .ok (.bipush (-3), 2) := dk_16 253 (dk_at dksX0_why_0 21 rfl rfl)
theorem dX0_why_23 : decode cX0_why 23 = .ok (.invokevirtual 118, 3) := dk_182 0 118 (dk_at dksX0_why_1 0 rfl rfl)
theorem dX0_why_26 : decode cX0_why 26 = .ok (.ireturn, 1) := dk_172 (dk_at dksX0_why_1 3 rfl rfl)
theorem dX0_why_27 : decode cX0_why 27 = .ok (.iload_n 3, 1) := dk_29 (dk_at dksX0_why_1 4 rfl rfl)
theorem dX0_why_28 : decode cX0_why 28 = .ok (.i2l, 1) := dk_133 (dk_at dksX0_why_1 5 rfl rfl)
theorem dX0_why_29 : decode cX0_why 29 = .ok (.lconst 0, 1) := dk_9 (dk_at dksX0_why_1 6 rfl rfl)
theorem dX0_why_30 : decode cX0_why 30 = .ok (.ldc2_w 362, 3) := dk_20 1 106 (dk_at dksX0_why_1 7 rfl rfl)
theorem dX0_why_33 : decode cX0_why 33 = .ok (.invokestatic 31, 3) := dk_184 0 31 (dk_at dksX0_why_1 10 rfl rfl)
theorem dX0_why_36 : decode cX0_why 36 = .ok (.ifCond .eq 16, 3) := dk_153 0 16 (dk_at dksX0_why_1 13 rfl rfl)
theorem dX0_why_39 : decode cX0_why 39 = .ok (.aload_n 0, 1) := dk_42 (dk_at dksX0_why_1 16 rfl rfl)
theorem dX0_why_40 : decode cX0_why 40 = .ok (.getfield 19, 3) := dk_180 0 19 (dk_at dksX0_why_1 17 rfl rfl)
theorem dX0_why_43 : decode cX0_why 43 = .ok (.iload_n 1, 1) := dk_27 (dk_at dksX0_why_1 20 rfl rfl)
theorem dX0_why_44 : decode cX0_why 44 = .ok (.iload_n 2, 1) := dk_28 (dk_at dksX0_why_1 21 rfl rfl)
theorem dX0_why_45 : decode cX0_why 45 = .ok (.iload_n 3, 1) := dk_29 (dk_at dksX0_why_1 22 rfl rfl)
theorem dX0_why_46 : decode cX0_why 46 = .ok (.invokevirtual 367, 3) := dk_182 1 111 (dk_at dksX0_why_2 0 rfl rfl)
theorem dX0_why_49 : decode cX0_why 49 = .ok (.goto 9, 3) := dk_167 0 9 (dk_at dksX0_why_2 3 rfl rfl)
theorem dX0_why_52 : decode cX0_why 52 = .ok (.aload_n 0, 1) := dk_42 (dk_at dksX0_why_2 6 rfl rfl)
theorem dX0_why_53 : decode cX0_why 53 = .ok (.bipush (-7), 2) := dk_16 249 (dk_at dksX0_why_2 7 rfl rfl)
theorem dX0_why_55 : decode cX0_why 55 = .ok (.invokevirtual 118, 3) := dk_182 0 118 (dk_at dksX0_why_2 9 rfl rfl)
theorem dX0_why_58 : decode cX0_why 58 = .ok (.ireturn, 1) := dk_172 (dk_at dksX0_why_2 12 rfl rfl)
abbrev cX0_may : ByteArray := prog_1_method_44_code
def yX0_may : MethodName := ⟨RX0, "may", "(III)I"⟩
def dkwX0_may_0 : List UInt8 := [42, 27, 28, 29, 182, 1, 123, 172, 58, 4, 42, 25, 4, 180, 1, 32, 182, 0, 118, 172]
abbrev dktX0_may_0 : List UInt8 := dkwX0_may_0 ++ []
theorem dksX0_may_0 : cX0_may.data.toList.drop 0 = dktX0_may_0 := by decide +kernel
theorem dX0_may_0 : decode cX0_may 0 = .ok (.aload_n 0, 1) := dk_42 (dk_at dksX0_may_0 0 rfl rfl)
theorem dX0_may_1 : decode cX0_may 1 = .ok (.iload_n 1, 1) := dk_27 (dk_at dksX0_may_0 1 rfl rfl)
theorem dX0_may_2 : decode cX0_may 2 = .ok (.iload_n 2, 1) := dk_28 (dk_at dksX0_may_0 2 rfl rfl)
theorem dX0_may_3 : decode cX0_may 3 = .ok (.iload_n 3, 1) := dk_29 (dk_at dksX0_may_0 3 rfl rfl)
theorem dX0_may_4 : decode cX0_may 4 = .ok (.invokevirtual 379, 3) := dk_182 1 123 (dk_at dksX0_may_0 4 rfl rfl)
theorem dX0_may_7 : decode cX0_may 7 = .ok (.ireturn, 1) := dk_172 (dk_at dksX0_may_0 7 rfl rfl)
theorem dX0_may_8 : decode cX0_may 8 = .ok (.astore 4, 2) := dk_58 4 (dk_at dksX0_may_0 8 rfl rfl)
theorem dX0_may_10 : decode cX0_may 10 = .ok (.aload_n 0, 1) := dk_42 (dk_at dksX0_may_0 10 rfl rfl)
theorem dX0_may_11 : decode cX0_may 11 = .ok (.aload 4, 2) := dk_25 4 (dk_at dksX0_may_0 11 rfl rfl)
theorem dX0_may_13 : decode cX0_may 13 = .ok (.getfield 288, 3) := dk_180 1 32 (dk_at dksX0_may_0 13 rfl rfl)
theorem dX0_may_16 : decode cX0_may 16 = .ok (.invokevirtual 118, 3) := dk_182 0 118 (dk_at dksX0_may_0 16 rfl rfl)
theorem dX0_may_19 : decode cX0_may 19 = .ok (.ireturn, 1) := dk_172 (dk_at dksX0_may_0 19 rfl rfl)
abbrev cX0_mayTold : ByteArray := prog_1_method_43_code
def yX0_mayTold : MethodName := ⟨RX0, "mayTold", "(III)I"⟩
def dkwX0_mayTold_0 : List UInt8 := [42, 27, 28, 29, 182, 1, 116, 42, 180, 0, 19, 27, 28, 29, 182, 1, 120, 172]
abbrev dktX0_mayTold_0 : List UInt8 := dkwX0_mayTold_0 ++ []
theorem dksX0_mayTold_0 : cX0_mayTold.data.toList.drop 0 = dktX0_mayTold_0 := by decide +kernel
theorem dX0_mayTold_0 : decode cX0_mayTold 0 = .ok (.aload_n 0, 1) := dk_42 (dk_at dksX0_mayTold_0 0 rfl rfl)
theorem dX0_mayTold_1 : decode cX0_mayTold 1 = .ok (.iload_n 1, 1) := dk_27 (dk_at dksX0_mayTold_0 1 rfl rfl)
theorem dX0_mayTold_2 : decode cX0_mayTold 2 = .ok (.iload_n 2, 1) := dk_28 (dk_at dksX0_mayTold_0 2 rfl rfl)
theorem dX0_mayTold_3 : decode cX0_mayTold 3 = .ok (.iload_n 3, 1) := dk_29 (dk_at dksX0_mayTold_0 3 rfl rfl)
theorem dX0_mayTold_4 : decode cX0_mayTold 4 = .ok (.invokevirtual 372, 3) := dk_182 1 116 (dk_at dksX0_mayTold_0 4 rfl rfl)
theorem dX0_mayTold_7 : decode cX0_mayTold 7 = .ok (.aload_n 0, 1) := dk_42 (dk_at dksX0_mayTold_0 7 rfl rfl)
theorem dX0_mayTold_8 : decode cX0_mayTold 8 = .ok (.getfield 19, 3) := dk_180 0 19 (dk_at dksX0_mayTold_0 8 rfl rfl)
theorem dX0_mayTold_11 : decode cX0_mayTold 11 = .ok (.iload_n 1, 1) := dk_27 (dk_at dksX0_mayTold_0 11 rfl rfl)
theorem dX0_mayTold_12 : decode cX0_mayTold 12 = .ok (.iload_n 2, 1) := dk_28 (dk_at dksX0_mayTold_0 12 rfl rfl)
theorem dX0_mayTold_13 : decode cX0_mayTold 13 = .ok (.iload_n 3, 1) := dk_29 (dk_at dksX0_mayTold_0 13 rfl rfl)
theorem dX0_mayTold_14 : decode cX0_mayTold 14 = .ok (.invokevirtual 376, 3) := dk_182 1 120 (dk_at dksX0_mayTold_0 14 rfl rfl)
theorem dX0_mayTold_17 : decode cX0_mayTold 17 = .ok (.ireturn, 1) := dk_172 (dk_at dksX0_mayTold_0 17 rfl rfl)
abbrev cX0_needOrder : ByteArray := prog_1_method_42_code
def yX0_needOrder : MethodName := ⟨RX0, "needOrder", "(III)V"⟩
def dkwX0_needOrder_2 : List UInt8 := [167, 0, 6, 20, 0, 182, 184, 0, 31, 16, 249, 182, 1, 20, 177]
abbrev dktX0_needOrder_2 : List UInt8 := dkwX0_needOrder_2 ++ []
def dkwX0_needOrder_1 : List UInt8 := [182, 1, 20, 42, 29, 133, 9, 28, 154, 0, 7, 9, 167, 0, 17, 28, 4, 160, 0, 9, 20, 0, 116]
abbrev dktX0_needOrder_1 : List UInt8 := dkwX0_needOrder_1 ++ dktX0_needOrder_2
def dkwX0_needOrder_0 : List UInt8 := [42, 42, 27, 182, 0, 148, 16, 253, 182, 1, 20, 42, 28, 133, 9, 20, 1, 114, 184, 0, 31, 16, 251]
abbrev dktX0_needOrder_0 : List UInt8 := dkwX0_needOrder_0 ++ dktX0_needOrder_1
theorem dksX0_needOrder_0 : cX0_needOrder.data.toList.drop 0 = dktX0_needOrder_0 := by decide +kernel
theorem dksX0_needOrder_1 : cX0_needOrder.data.toList.drop 23 = dktX0_needOrder_1 := dk_seg dksX0_needOrder_0 23 rfl rfl
theorem dksX0_needOrder_2 : cX0_needOrder.data.toList.drop 46 = dktX0_needOrder_2 := dk_seg dksX0_needOrder_1 23 rfl rfl
theorem dX0_needOrder_0 : decode cX0_needOrder 0 = .ok (.aload_n 0, 1) := dk_42 (dk_at dksX0_needOrder_0 0 rfl rfl)
theorem dX0_needOrder_1 : decode cX0_needOrder 1 = .ok (.aload_n 0, 1) := dk_42 (dk_at dksX0_needOrder_0 1 rfl rfl)
theorem dX0_needOrder_2 : decode cX0_needOrder 2 = .ok (.iload_n 1, 1) := dk_27 (dk_at dksX0_needOrder_0 2 rfl rfl)
theorem dX0_needOrder_3 : decode cX0_needOrder 3 = .ok (.invokevirtual 148, 3) := dk_182 0 148 (dk_at dksX0_needOrder_0 3 rfl rfl)
theorem dX0_needOrder_6 : decode cX0_needOrder 6 = .ok (.bipush (-3), 2) := dk_16 253 (dk_at dksX0_needOrder_0 6 rfl rfl)
theorem dX0_needOrder_8 : decode cX0_needOrder 8 = .ok (.invokevirtual 276, 3) := dk_182 1 20 (dk_at dksX0_needOrder_0 8 rfl rfl)
theorem dX0_needOrder_11 : decode cX0_needOrder 11 = .ok (.aload_n 0, 1) := dk_42 (dk_at dksX0_needOrder_0 11 rfl rfl)
theorem dX0_needOrder_12 : decode cX0_needOrder 12 = .ok (.iload_n 2, 1) := dk_28 (dk_at dksX0_needOrder_0 12 rfl rfl)
theorem dX0_needOrder_13 : decode cX0_needOrder 13 = .ok (.i2l, 1) := dk_133 (dk_at dksX0_needOrder_0 13 rfl rfl)
theorem dX0_needOrder_14 : decode cX0_needOrder 14 = .ok (.lconst 0, 1) := dk_9 (dk_at dksX0_needOrder_0 14 rfl rfl)
theorem dX0_needOrder_15 : decode cX0_needOrder 15 = .ok (.ldc2_w 370, 3) := dk_20 1 114 (dk_at dksX0_needOrder_0 15 rfl rfl)
theorem dX0_needOrder_18 : decode cX0_needOrder 18 = .ok (.invokestatic 31, 3) := dk_184 0 31 (dk_at dksX0_needOrder_0 18 rfl rfl)
theorem dX0_needOrder_21 : decode cX0_needOrder 21 = .ok (.bipush (-5), 2) := dk_16 251 (dk_at dksX0_needOrder_0 21 rfl rfl)
theorem dX0_needOrder_23 : decode cX0_needOrder 23 = .ok (.invokevirtual 276, 3) := dk_182 1 20 (dk_at dksX0_needOrder_1 0 rfl rfl)
theorem dX0_needOrder_26 : decode cX0_needOrder 26 = .ok (.aload_n 0, 1) := dk_42 (dk_at dksX0_needOrder_1 3 rfl rfl)
theorem dX0_needOrder_27 : decode cX0_needOrder 27 = .ok (.iload_n 3, 1) := dk_29 (dk_at dksX0_needOrder_1 4 rfl rfl)
theorem dX0_needOrder_28 : decode cX0_needOrder 28 = .ok (.i2l, 1) := dk_133 (dk_at dksX0_needOrder_1 5 rfl rfl)
theorem dX0_needOrder_29 : decode cX0_needOrder 29 = .ok (.lconst 0, 1) := dk_9 (dk_at dksX0_needOrder_1 6 rfl rfl)
theorem dX0_needOrder_30 : decode cX0_needOrder 30 = .ok (.iload_n 2, 1) := dk_28 (dk_at dksX0_needOrder_1 7 rfl rfl)
theorem dX0_needOrder_31 : decode cX0_needOrder 31 = .ok (.ifCond .ne 7, 3) := dk_154 0 7 (dk_at dksX0_needOrder_1 8 rfl rfl)
theorem dX0_needOrder_34 : decode cX0_needOrder 34 = .ok (.lconst 0, 1) := dk_9 (dk_at dksX0_needOrder_1 11 rfl rfl)
theorem dX0_needOrder_35 : decode cX0_needOrder 35 = .ok (.goto 17, 3) := dk_167 0 17 (dk_at dksX0_needOrder_1 12 rfl rfl)
theorem dX0_needOrder_38 : decode cX0_needOrder 38 = .ok (.iload_n 2, 1) := dk_28 (dk_at dksX0_needOrder_1 15 rfl rfl)
theorem dX0_needOrder_39 : decode cX0_needOrder 39 = .ok (.iconst 1, 1) := dk_4 (dk_at dksX0_needOrder_1 16 rfl rfl)
theorem dX0_needOrder_40 : decode cX0_needOrder 40 = .ok (.if_icmp .ne 9, 3) := dk_160 0 9 (dk_at dksX0_needOrder_1 17 rfl rfl)
theorem dX0_needOrder_43 : decode cX0_needOrder 43 = .ok (.ldc2_w 116, 3) := dk_20 0 116 (dk_at dksX0_needOrder_1 20 rfl rfl)
theorem dX0_needOrder_46 : decode cX0_needOrder 46 = .ok (.goto 6, 3) := dk_167 0 6 (dk_at dksX0_needOrder_2 0 rfl rfl)
theorem dX0_needOrder_49 : decode cX0_needOrder 49 = .ok (.ldc2_w 182, 3) := dk_20 0 182 (dk_at dksX0_needOrder_2 3 rfl rfl)
theorem dX0_needOrder_52 : decode cX0_needOrder 52 = .ok (.invokestatic 31, 3) := dk_184 0 31 (dk_at dksX0_needOrder_2 6 rfl rfl)
theorem dX0_needOrder_55 : decode cX0_needOrder 55 = .ok (.bipush (-7), 2) := dk_16 249 (dk_at dksX0_needOrder_2 9 rfl rfl)
theorem dX0_needOrder_57 : decode cX0_needOrder 57 = .ok (.invokevirtual 276, 3) := dk_182 1 20 (dk_at dksX0_needOrder_2 11 rfl rfl)
theorem dX0_needOrder_60 : decode cX0_needOrder 60 = .ok (.return_, 1) := dk_177 (dk_at dksX0_needOrder_2 14 rfl rfl)
abbrev cX0_order : ByteArray := prog_1_method_46_code
def yX0_order : MethodName := ⟨RX0, "order", "(III)I"⟩
def dkwX0_order_0 : List UInt8 := [42, 27, 28, 29, 182, 1, 141, 172, 58, 4, 42, 25, 4, 180, 1, 32, 182, 0, 118, 172]
abbrev dktX0_order_0 : List UInt8 := dkwX0_order_0 ++ []
theorem dksX0_order_0 : cX0_order.data.toList.drop 0 = dktX0_order_0 := by decide +kernel
theorem dX0_order_0 : decode cX0_order 0 = .ok (.aload_n 0, 1) := dk_42 (dk_at dksX0_order_0 0 rfl rfl)
theorem dX0_order_1 : decode cX0_order 1 = .ok (.iload_n 1, 1) := dk_27 (dk_at dksX0_order_0 1 rfl rfl)
theorem dX0_order_2 : decode cX0_order 2 = .ok (.iload_n 2, 1) := dk_28 (dk_at dksX0_order_0 2 rfl rfl)
theorem dX0_order_3 : decode cX0_order 3 = .ok (.iload_n 3, 1) := dk_29 (dk_at dksX0_order_0 3 rfl rfl)
theorem dX0_order_4 : decode cX0_order 4 = .ok (.invokevirtual 397, 3) := dk_182 1 141 (dk_at dksX0_order_0 4 rfl rfl)
theorem dX0_order_7 : decode cX0_order 7 = .ok (.ireturn, 1) := dk_172 (dk_at dksX0_order_0 7 rfl rfl)
theorem dX0_order_8 : decode cX0_order 8 = .ok (.astore 4, 2) := dk_58 4 (dk_at dksX0_order_0 8 rfl rfl)
theorem dX0_order_10 : decode cX0_order 10 = .ok (.aload_n 0, 1) := dk_42 (dk_at dksX0_order_0 10 rfl rfl)
theorem dX0_order_11 : decode cX0_order 11 = .ok (.aload 4, 2) := dk_25 4 (dk_at dksX0_order_0 11 rfl rfl)
theorem dX0_order_13 : decode cX0_order 13 = .ok (.getfield 288, 3) := dk_180 1 32 (dk_at dksX0_order_0 13 rfl rfl)
theorem dX0_order_16 : decode cX0_order 16 = .ok (.invokevirtual 118, 3) := dk_182 0 118 (dk_at dksX0_order_0 16 rfl rfl)
theorem dX0_order_19 : decode cX0_order 19 = .ok (.ireturn, 1) := dk_172 (dk_at dksX0_order_0 19 rfl rfl)
abbrev cX0_orderTold : ByteArray := prog_1_method_45_code
def yX0_orderTold : MethodName := ⟨RX0, "orderTold", "(III)I"⟩
def dkwX0_orderTold_5 : List UInt8 := [42, 180, 0, 19, 89, 180, 1, 129, 4, 96, 181, 1, 129, 42, 180, 0, 19, 180, 1, 129, 172]
abbrev dktX0_orderTold_5 : List UInt8 := dkwX0_orderTold_5 ++ []
def dkwX0_orderTold_4 : List UInt8 := [180, 0, 19, 180, 1, 129, 28, 79, 42, 180, 0, 19, 180, 1, 138, 42, 180, 0, 19, 180, 1, 129, 29, 79]
abbrev dktX0_orderTold_4 : List UInt8 := dkwX0_orderTold_4 ++ dktX0_orderTold_5
def dkwX0_orderTold_3 : List UInt8 := [180, 0, 19, 180, 1, 132, 42, 180, 0, 19, 180, 1, 129, 27, 79, 42, 180, 0, 19, 180, 1, 135, 42]
abbrev dktX0_orderTold_3 : List UInt8 := dkwX0_orderTold_3 ++ dktX0_orderTold_4
def dkwX0_orderTold_2 : List UInt8 := [180, 0, 19, 180, 1, 129, 16, 30, 162, 0, 7, 4, 167, 0, 4, 3, 16, 248, 182, 1, 20, 42]
abbrev dktX0_orderTold_2 : List UInt8 := dkwX0_orderTold_2 ++ dktX0_orderTold_3
def dkwX0_orderTold_1 : List UInt8 := [180, 0, 19, 27, 28, 182, 1, 126, 154, 0, 7, 4, 167, 0, 4, 3, 16, 249, 182, 1, 20, 42, 42]
abbrev dktX0_orderTold_1 : List UInt8 := dkwX0_orderTold_1 ++ dktX0_orderTold_2
def dkwX0_orderTold_0 : List UInt8 := [42, 27, 28, 29, 182, 1, 116, 42, 42, 180, 0, 19, 27, 28, 29, 182, 1, 120, 154, 0, 19, 42]
abbrev dktX0_orderTold_0 : List UInt8 := dkwX0_orderTold_0 ++ dktX0_orderTold_1
theorem dksX0_orderTold_0 : cX0_orderTold.data.toList.drop 0 = dktX0_orderTold_0 := by decide +kernel
theorem dksX0_orderTold_1 : cX0_orderTold.data.toList.drop 22 = dktX0_orderTold_1 := dk_seg dksX0_orderTold_0 22 rfl rfl
theorem dksX0_orderTold_2 : cX0_orderTold.data.toList.drop 45 = dktX0_orderTold_2 := dk_seg dksX0_orderTold_1 23 rfl rfl
theorem dksX0_orderTold_3 : cX0_orderTold.data.toList.drop 67 = dktX0_orderTold_3 := dk_seg dksX0_orderTold_2 22 rfl rfl
theorem dksX0_orderTold_4 : cX0_orderTold.data.toList.drop 90 = dktX0_orderTold_4 := dk_seg dksX0_orderTold_3 23 rfl rfl
theorem dksX0_orderTold_5 : cX0_orderTold.data.toList.drop 114 = dktX0_orderTold_5 := dk_seg dksX0_orderTold_4 24 rfl rfl
theorem dX0_orderTold_0 : decode cX0_orderTold 0 = .ok (.aload_n 0, 1) := dk_42 (dk_at dksX0_orderTold_0 0 rfl rfl)
theorem dX0_orderTold_1 : decode cX0_orderTold 1 = .ok (.iload_n 1, 1) := dk_27 (dk_at dksX0_orderTold_0 1 rfl rfl)
theorem dX0_orderTold_2 : decode cX0_orderTold 2 = .ok (.iload_n 2, 1) := dk_28 (dk_at dksX0_orderTold_0 2 rfl rfl)
theorem dX0_orderTold_3 : decode cX0_orderTold 3 = .ok (.iload_n 3, 1) := dk_29 (dk_at dksX0_orderTold_0 3 rfl rfl)
theorem dX0_orderTold_4 : decode cX0_orderTold 4 = .ok (.invokevirtual 372, 3) := dk_182 1 116 (dk_at dksX0_orderTold_0 4 rfl rfl)
theorem dX0_orderTold_7 : decode cX0_orderTold 7 = .ok (.aload_n 0, 1) := dk_42 (dk_at dksX0_orderTold_0 7 rfl rfl)
theorem dX0_orderTold_8 : decode cX0_orderTold 8 = .ok (.aload_n 0, 1) := dk_42 (dk_at dksX0_orderTold_0 8 rfl rfl)
theorem dX0_orderTold_9 : decode cX0_orderTold 9 = .ok (.getfield 19, 3) := dk_180 0 19 (dk_at dksX0_orderTold_0 9 rfl rfl)
theorem dX0_orderTold_12 : decode cX0_orderTold 12 = .ok (.iload_n 1, 1) := dk_27 (dk_at dksX0_orderTold_0 12 rfl rfl)
theorem dX0_orderTold_13 : decode cX0_orderTold 13 = .ok (.iload_n 2, 1) := dk_28 (dk_at dksX0_orderTold_0 13 rfl rfl)
theorem dX0_orderTold_14 : decode cX0_orderTold 14 = .ok (.iload_n 3, 1) := dk_29 (dk_at dksX0_orderTold_0 14 rfl rfl)
theorem dX0_orderTold_15 : decode cX0_orderTold 15 = .ok (.invokevirtual 376, 3) := dk_182 1 120 (dk_at dksX0_orderTold_0 15 rfl rfl)
theorem dX0_orderTold_18 : decode cX0_orderTold 18 = .ok (.ifCond .ne 19, 3) := dk_154 0 19 (dk_at dksX0_orderTold_0 18 rfl rfl)
theorem dX0_orderTold_21 : decode cX0_orderTold 21 = .ok (.aload_n 0, 1) := dk_42 (dk_at dksX0_orderTold_0 21 rfl rfl)
theorem dX0_orderTold_22 : decode cX0_orderTold 22 = .ok (.getfield 19, 3) := dk_180 0 19 (dk_at dksX0_orderTold_1 0 rfl rfl)
theorem dX0_orderTold_25 : decode cX0_orderTold 25 = .ok (.iload_n 1, 1) := dk_27 (dk_at dksX0_orderTold_1 3 rfl rfl)
theorem dX0_orderTold_26 : decode cX0_orderTold 26 = .ok (.iload_n 2, 1) := dk_28 (dk_at dksX0_orderTold_1 4 rfl rfl)
theorem dX0_orderTold_27 : decode cX0_orderTold 27 = .ok (.invokevirtual 382, 3) := dk_182 1 126 (dk_at dksX0_orderTold_1 5 rfl rfl)
theorem dX0_orderTold_30 : decode cX0_orderTold 30 = .ok (.ifCond .ne 7, 3) := dk_154 0 7 (dk_at dksX0_orderTold_1 8 rfl rfl)
theorem dX0_orderTold_33 : decode cX0_orderTold 33 = .ok (.iconst 1, 1) := dk_4 (dk_at dksX0_orderTold_1 11 rfl rfl)
theorem dX0_orderTold_34 : decode cX0_orderTold 34 = .ok (.goto 4, 3) := dk_167 0 4 (dk_at dksX0_orderTold_1 12 rfl rfl)
theorem dX0_orderTold_37 : decode cX0_orderTold 37 = .ok (.iconst 0, 1) := dk_3 (dk_at dksX0_orderTold_1 15 rfl rfl)
theorem dX0_orderTold_38 : decode cX0_orderTold 38 = .ok (.bipush (-7), 2) := dk_16 249 (dk_at dksX0_orderTold_1 16 rfl rfl)
theorem dX0_orderTold_40 : decode cX0_orderTold 40 = .ok (.invokevirtual 276, 3) := dk_182 1 20 (dk_at dksX0_orderTold_1 18 rfl rfl)
theorem dX0_orderTold_43 : decode cX0_orderTold 43 = .ok (.aload_n 0, 1) := dk_42 (dk_at dksX0_orderTold_1 21 rfl rfl)
theorem dX0_orderTold_44 : decode cX0_orderTold 44 = .ok (.aload_n 0, 1) := dk_42 (dk_at dksX0_orderTold_1 22 rfl rfl)
theorem dX0_orderTold_45 : decode cX0_orderTold 45 = .ok (.getfield 19, 3) := dk_180 0 19 (dk_at dksX0_orderTold_2 0 rfl rfl)
theorem dX0_orderTold_48 : decode cX0_orderTold 48 = .ok (.getfield 385, 3) := dk_180 1 129 (dk_at dksX0_orderTold_2 3 rfl rfl)
theorem dX0_orderTold_51 : decode cX0_orderTold 51 = .ok (.bipush 30, 2) := dk_16 30 (dk_at dksX0_orderTold_2 6 rfl rfl)
theorem dX0_orderTold_53 : decode cX0_orderTold 53 = .ok (.if_icmp .ge 7, 3) := dk_162 0 7 (dk_at dksX0_orderTold_2 8 rfl rfl)
theorem dX0_orderTold_56 : decode cX0_orderTold 56 = .ok (.iconst 1, 1) := dk_4 (dk_at dksX0_orderTold_2 11 rfl rfl)
theorem dX0_orderTold_57 : decode cX0_orderTold 57 = .ok (.goto 4, 3) := dk_167 0 4 (dk_at dksX0_orderTold_2 12 rfl rfl)
theorem dX0_orderTold_60 : decode cX0_orderTold 60 = .ok (.iconst 0, 1) := dk_3 (dk_at dksX0_orderTold_2 15 rfl rfl)
theorem dX0_orderTold_61 : decode cX0_orderTold 61 = .ok (.bipush (-8), 2) := dk_16 248 (dk_at dksX0_orderTold_2 16 rfl rfl)
theorem dX0_orderTold_63 : decode cX0_orderTold 63 = .ok (.invokevirtual 276, 3) := dk_182 1 20 (dk_at dksX0_orderTold_2 18 rfl rfl)
theorem dX0_orderTold_66 : decode cX0_orderTold 66 = .ok (.aload_n 0, 1) := dk_42 (dk_at dksX0_orderTold_2 21 rfl rfl)
theorem dX0_orderTold_67 : decode cX0_orderTold 67 = .ok (.getfield 19, 3) := dk_180 0 19 (dk_at dksX0_orderTold_3 0 rfl rfl)
theorem dX0_orderTold_70 : decode cX0_orderTold 70 = .ok (.getfield 388, 3) := dk_180 1 132 (dk_at dksX0_orderTold_3 3 rfl rfl)
theorem dX0_orderTold_73 : decode cX0_orderTold 73 = .ok (.aload_n 0, 1) := dk_42 (dk_at dksX0_orderTold_3 6 rfl rfl)
theorem dX0_orderTold_74 : decode cX0_orderTold 74 = .ok (.getfield 19, 3) := dk_180 0 19 (dk_at dksX0_orderTold_3 7 rfl rfl)
theorem dX0_orderTold_77 : decode cX0_orderTold 77 = .ok (.getfield 385, 3) := dk_180 1 129 (dk_at dksX0_orderTold_3 10 rfl rfl)
theorem dX0_orderTold_80 : decode cX0_orderTold 80 = .ok (.iload_n 1, 1) := dk_27 (dk_at dksX0_orderTold_3 13 rfl rfl)
theorem dX0_orderTold_81 : decode cX0_orderTold 81 = .ok (.iastore, 1) := dk_79 (dk_at dksX0_orderTold_3 14 rfl rfl)
theorem dX0_orderTold_82 : decode cX0_orderTold 82 = .ok (.aload_n 0, 1) := dk_42 (dk_at dksX0_orderTold_3 15 rfl rfl)
theorem dX0_orderTold_83 : decode cX0_orderTold 83 = .ok (.getfield 19, 3) := dk_180 0 19 (dk_at dksX0_orderTold_3 16 rfl rfl)
theorem dX0_orderTold_86 : decode cX0_orderTold 86 = .ok (.getfield 391, 3) := dk_180 1 135 (dk_at dksX0_orderTold_3 19 rfl rfl)
theorem dX0_orderTold_89 : decode cX0_orderTold 89 = .ok (.aload_n 0, 1) := dk_42 (dk_at dksX0_orderTold_3 22 rfl rfl)
theorem dX0_orderTold_90 : decode cX0_orderTold 90 = .ok (.getfield 19, 3) := dk_180 0 19 (dk_at dksX0_orderTold_4 0 rfl rfl)
theorem dX0_orderTold_93 : decode cX0_orderTold 93 = .ok (.getfield 385, 3) := dk_180 1 129 (dk_at dksX0_orderTold_4 3 rfl rfl)
theorem dX0_orderTold_96 : decode cX0_orderTold 96 = .ok (.iload_n 2, 1) := dk_28 (dk_at dksX0_orderTold_4 6 rfl rfl)
theorem dX0_orderTold_97 : decode cX0_orderTold 97 = .ok (.iastore, 1) := dk_79 (dk_at dksX0_orderTold_4 7 rfl rfl)
theorem dX0_orderTold_98 : decode cX0_orderTold 98 = .ok (.aload_n 0, 1) := dk_42 (dk_at dksX0_orderTold_4 8 rfl rfl)
theorem dX0_orderTold_99 : decode cX0_orderTold 99 = .ok (.getfield 19, 3) := dk_180 0 19 (dk_at dksX0_orderTold_4 9 rfl rfl)
theorem dX0_orderTold_102 : decode cX0_orderTold 102 = .ok (.getfield 394, 3) := dk_180 1 138 (dk_at dksX0_orderTold_4 12 rfl rfl)
theorem dX0_orderTold_105 : decode cX0_orderTold 105 = .ok (.aload_n 0, 1) := dk_42 (dk_at dksX0_orderTold_4 15 rfl rfl)
theorem dX0_orderTold_106 : decode cX0_orderTold 106 = .ok (.getfield 19, 3) := dk_180 0 19 (dk_at dksX0_orderTold_4 16 rfl rfl)
theorem dX0_orderTold_109 : decode cX0_orderTold 109 = .ok (.getfield 385, 3) := dk_180 1 129 (dk_at dksX0_orderTold_4 19 rfl rfl)
theorem dX0_orderTold_112 : decode cX0_orderTold 112 = .ok (.iload_n 3, 1) := dk_29 (dk_at dksX0_orderTold_4 22 rfl rfl)
theorem dX0_orderTold_113 : decode cX0_orderTold 113 = .ok (.iastore, 1) := dk_79 (dk_at dksX0_orderTold_4 23 rfl rfl)
theorem dX0_orderTold_114 : decode cX0_orderTold 114 = .ok (.aload_n 0, 1) := dk_42 (dk_at dksX0_orderTold_5 0 rfl rfl)
theorem dX0_orderTold_115 : decode cX0_orderTold 115 = .ok (.getfield 19, 3) := dk_180 0 19 (dk_at dksX0_orderTold_5 1 rfl rfl)
theorem dX0_orderTold_118 : decode cX0_orderTold 118 = .ok (.dup, 1) := dk_89 (dk_at dksX0_orderTold_5 4 rfl rfl)
theorem dX0_orderTold_119 : decode cX0_orderTold 119 = .ok (.getfield 385, 3) := dk_180 1 129 (dk_at dksX0_orderTold_5 5 rfl rfl)
theorem dX0_orderTold_122 : decode cX0_orderTold 122 = .ok (.iconst 1, 1) := dk_4 (dk_at dksX0_orderTold_5 8 rfl rfl)
theorem dX0_orderTold_123 : decode cX0_orderTold 123 = .ok (.iadd, 1) := dk_96 (dk_at dksX0_orderTold_5 9 rfl rfl)
theorem dX0_orderTold_124 : decode cX0_orderTold 124 = .ok (.putfield 385, 3) := dk_181 1 129 (dk_at dksX0_orderTold_5 10 rfl rfl)
theorem dX0_orderTold_127 : decode cX0_orderTold 127 = .ok (.aload_n 0, 1) := dk_42 (dk_at dksX0_orderTold_5 13 rfl rfl)
theorem dX0_orderTold_128 : decode cX0_orderTold 128 = .ok (.getfield 19, 3) := dk_180 0 19 (dk_at dksX0_orderTold_5 14 rfl rfl)
theorem dX0_orderTold_131 : decode cX0_orderTold 131 = .ok (.getfield 385, 3) := dk_180 1 129 (dk_at dksX0_orderTold_5 17 rfl rfl)
theorem dX0_orderTold_134 : decode cX0_orderTold 134 = .ok (.ireturn, 1) := dk_172 (dk_at dksX0_orderTold_5 20 rfl rfl)
abbrev cX0_cancel : ByteArray := prog_1_method_48_code
def yX0_cancel : MethodName := ⟨RX0, "cancel", "(I)I"⟩
def dkwX0_cancel_4 : List UInt8 := [180, 1, 138, 28, 4, 96, 46, 79, 132, 2, 1, 167, 255, 182, 42, 180, 0, 19, 180, 1, 129, 172]
abbrev dktX0_cancel_4 : List UInt8 := dkwX0_cancel_4 ++ []
def dkwX0_cancel_3 : List UInt8 := [180, 0, 19, 180, 1, 135, 28, 4, 96, 46, 79, 42, 180, 0, 19, 180, 1, 138, 28, 42, 180, 0, 19]
abbrev dktX0_cancel_3 : List UInt8 := dkwX0_cancel_3 ++ dktX0_cancel_4
def dkwX0_cancel_2 : List UInt8 := [28, 42, 180, 0, 19, 180, 1, 132, 28, 4, 96, 46, 79, 42, 180, 0, 19, 180, 1, 135, 28, 42]
abbrev dktX0_cancel_2 : List UInt8 := dkwX0_cancel_2 ++ dktX0_cancel_3
def dkwX0_cancel_1 : List UInt8 := [100, 181, 1, 129, 27, 61, 28, 42, 180, 0, 19, 180, 1, 129, 162, 0, 69, 42, 180, 0, 19, 180, 1, 132]
abbrev dktX0_cancel_1 : List UInt8 := dkwX0_cancel_1 ++ dktX0_cancel_2
def dkwX0_cancel_0 : List UInt8 := [42, 27, 182, 1, 143, 154, 0, 10, 42, 16, 253, 182, 0, 118, 172, 42, 180, 0, 19, 89, 180, 1, 129, 4]
abbrev dktX0_cancel_0 : List UInt8 := dkwX0_cancel_0 ++ dktX0_cancel_1
theorem dksX0_cancel_0 : cX0_cancel.data.toList.drop 0 = dktX0_cancel_0 := by decide +kernel
theorem dksX0_cancel_1 : cX0_cancel.data.toList.drop 24 = dktX0_cancel_1 := dk_seg dksX0_cancel_0 24 rfl rfl
theorem dksX0_cancel_2 : cX0_cancel.data.toList.drop 48 = dktX0_cancel_2 := dk_seg dksX0_cancel_1 24 rfl rfl
theorem dksX0_cancel_3 : cX0_cancel.data.toList.drop 70 = dktX0_cancel_3 := dk_seg dksX0_cancel_2 22 rfl rfl
theorem dksX0_cancel_4 : cX0_cancel.data.toList.drop 93 = dktX0_cancel_4 := dk_seg dksX0_cancel_3 23 rfl rfl
theorem dX0_cancel_0 : decode cX0_cancel 0 = .ok (.aload_n 0, 1) := dk_42 (dk_at dksX0_cancel_0 0 rfl rfl)
theorem dX0_cancel_1 : decode cX0_cancel 1 = .ok (.iload_n 1, 1) := dk_27 (dk_at dksX0_cancel_0 1 rfl rfl)
theorem dX0_cancel_2 : decode cX0_cancel 2 = .ok (.invokevirtual 399, 3) := dk_182 1 143 (dk_at dksX0_cancel_0 2 rfl rfl)
theorem dX0_cancel_5 : decode cX0_cancel 5 = .ok (.ifCond .ne 10, 3) := dk_154 0 10 (dk_at dksX0_cancel_0 5 rfl rfl)
theorem dX0_cancel_8 : decode cX0_cancel 8 = .ok (.aload_n 0, 1) := dk_42 (dk_at dksX0_cancel_0 8 rfl rfl)
theorem dX0_cancel_9 : decode cX0_cancel 9 = .ok (.bipush (-3), 2) := dk_16 253 (dk_at dksX0_cancel_0 9 rfl rfl)
theorem dX0_cancel_11 : decode cX0_cancel 11 = .ok (.invokevirtual 118, 3) := dk_182 0 118 (dk_at dksX0_cancel_0 11 rfl rfl)
theorem dX0_cancel_14 : decode cX0_cancel 14 = .ok (.ireturn, 1) := dk_172 (dk_at dksX0_cancel_0 14 rfl rfl)
theorem dX0_cancel_15 : decode cX0_cancel 15 = .ok (.aload_n 0, 1) := dk_42 (dk_at dksX0_cancel_0 15 rfl rfl)
theorem dX0_cancel_16 : decode cX0_cancel 16 = .ok (.getfield 19, 3) := dk_180 0 19 (dk_at dksX0_cancel_0 16 rfl rfl)
theorem dX0_cancel_19 : decode cX0_cancel 19 = .ok (.dup, 1) := dk_89 (dk_at dksX0_cancel_0 19 rfl rfl)
theorem dX0_cancel_20 : decode cX0_cancel 20 = .ok (.getfield 385, 3) := dk_180 1 129 (dk_at dksX0_cancel_0 20 rfl rfl)
theorem dX0_cancel_23 : decode cX0_cancel 23 = .ok (.iconst 1, 1) := dk_4 (dk_at dksX0_cancel_0 23 rfl rfl)
theorem dX0_cancel_24 : decode cX0_cancel 24 = .ok (.isub, 1) := dk_100 (dk_at dksX0_cancel_1 0 rfl rfl)
theorem dX0_cancel_25 : decode cX0_cancel 25 = .ok (.putfield 385, 3) := dk_181 1 129 (dk_at dksX0_cancel_1 1 rfl rfl)
theorem dX0_cancel_28 : decode cX0_cancel 28 = .ok (.iload_n 1, 1) := dk_27 (dk_at dksX0_cancel_1 4 rfl rfl)
theorem dX0_cancel_29 : decode cX0_cancel 29 = .ok (.istore_n 2, 1) := dk_61 (dk_at dksX0_cancel_1 5 rfl rfl)
theorem dX0_cancel_30 : decode cX0_cancel 30 = .ok (.iload_n 2, 1) := dk_28 (dk_at dksX0_cancel_1 6 rfl rfl)
theorem dX0_cancel_31 : decode cX0_cancel 31 = .ok (.aload_n 0, 1) := dk_42 (dk_at dksX0_cancel_1 7 rfl rfl)
theorem dX0_cancel_32 : decode cX0_cancel 32 = .ok (.getfield 19, 3) := dk_180 0 19 (dk_at dksX0_cancel_1 8 rfl rfl)
theorem dX0_cancel_35 : decode cX0_cancel 35 = .ok (.getfield 385, 3) := dk_180 1 129 (dk_at dksX0_cancel_1 11 rfl rfl)
theorem dX0_cancel_38 : decode cX0_cancel 38 = .ok (.if_icmp .ge 69, 3) := dk_162 0 69 (dk_at dksX0_cancel_1 14 rfl rfl)
theorem dX0_cancel_41 : decode cX0_cancel 41 = .ok (.aload_n 0, 1) := dk_42 (dk_at dksX0_cancel_1 17 rfl rfl)
theorem dX0_cancel_42 : decode cX0_cancel 42 = .ok (.getfield 19, 3) := dk_180 0 19 (dk_at dksX0_cancel_1 18 rfl rfl)
theorem dX0_cancel_45 : decode cX0_cancel 45 = .ok (.getfield 388, 3) := dk_180 1 132 (dk_at dksX0_cancel_1 21 rfl rfl)
theorem dX0_cancel_48 : decode cX0_cancel 48 = .ok (.iload_n 2, 1) := dk_28 (dk_at dksX0_cancel_2 0 rfl rfl)
theorem dX0_cancel_49 : decode cX0_cancel 49 = .ok (.aload_n 0, 1) := dk_42 (dk_at dksX0_cancel_2 1 rfl rfl)
theorem dX0_cancel_50 : decode cX0_cancel 50 = .ok (.getfield 19, 3) := dk_180 0 19 (dk_at dksX0_cancel_2 2 rfl rfl)
theorem dX0_cancel_53 : decode cX0_cancel 53 = .ok (.getfield 388, 3) := dk_180 1 132 (dk_at dksX0_cancel_2 5 rfl rfl)
theorem dX0_cancel_56 : decode cX0_cancel 56 = .ok (.iload_n 2, 1) := dk_28 (dk_at dksX0_cancel_2 8 rfl rfl)
theorem dX0_cancel_57 : decode cX0_cancel 57 = .ok (.iconst 1, 1) := dk_4 (dk_at dksX0_cancel_2 9 rfl rfl)
theorem dX0_cancel_58 : decode cX0_cancel 58 = .ok (.iadd, 1) := dk_96 (dk_at dksX0_cancel_2 10 rfl rfl)
theorem dX0_cancel_59 : decode cX0_cancel 59 = .ok (.iaload, 1) := dk_46 (dk_at dksX0_cancel_2 11 rfl rfl)
theorem dX0_cancel_60 : decode cX0_cancel 60 = .ok (.iastore, 1) := dk_79 (dk_at dksX0_cancel_2 12 rfl rfl)
theorem dX0_cancel_61 : decode cX0_cancel 61 = .ok (.aload_n 0, 1) := dk_42 (dk_at dksX0_cancel_2 13 rfl rfl)
theorem dX0_cancel_62 : decode cX0_cancel 62 = .ok (.getfield 19, 3) := dk_180 0 19 (dk_at dksX0_cancel_2 14 rfl rfl)
theorem dX0_cancel_65 : decode cX0_cancel 65 = .ok (.getfield 391, 3) := dk_180 1 135 (dk_at dksX0_cancel_2 17 rfl rfl)
theorem dX0_cancel_68 : decode cX0_cancel 68 = .ok (.iload_n 2, 1) := dk_28 (dk_at dksX0_cancel_2 20 rfl rfl)
theorem dX0_cancel_69 : decode cX0_cancel 69 = .ok (.aload_n 0, 1) := dk_42 (dk_at dksX0_cancel_2 21 rfl rfl)
theorem dX0_cancel_70 : decode cX0_cancel 70 = .ok (.getfield 19, 3) := dk_180 0 19 (dk_at dksX0_cancel_3 0 rfl rfl)
theorem dX0_cancel_73 : decode cX0_cancel 73 = .ok (.getfield 391, 3) := dk_180 1 135 (dk_at dksX0_cancel_3 3 rfl rfl)
theorem dX0_cancel_76 : decode cX0_cancel 76 = .ok (.iload_n 2, 1) := dk_28 (dk_at dksX0_cancel_3 6 rfl rfl)
theorem dX0_cancel_77 : decode cX0_cancel 77 = .ok (.iconst 1, 1) := dk_4 (dk_at dksX0_cancel_3 7 rfl rfl)
theorem dX0_cancel_78 : decode cX0_cancel 78 = .ok (.iadd, 1) := dk_96 (dk_at dksX0_cancel_3 8 rfl rfl)
theorem dX0_cancel_79 : decode cX0_cancel 79 = .ok (.iaload, 1) := dk_46 (dk_at dksX0_cancel_3 9 rfl rfl)
theorem dX0_cancel_80 : decode cX0_cancel 80 = .ok (.iastore, 1) := dk_79 (dk_at dksX0_cancel_3 10 rfl rfl)
theorem dX0_cancel_81 : decode cX0_cancel 81 = .ok (.aload_n 0, 1) := dk_42 (dk_at dksX0_cancel_3 11 rfl rfl)
theorem dX0_cancel_82 : decode cX0_cancel 82 = .ok (.getfield 19, 3) := dk_180 0 19 (dk_at dksX0_cancel_3 12 rfl rfl)
theorem dX0_cancel_85 : decode cX0_cancel 85 = .ok (.getfield 394, 3) := dk_180 1 138 (dk_at dksX0_cancel_3 15 rfl rfl)
theorem dX0_cancel_88 : decode cX0_cancel 88 = .ok (.iload_n 2, 1) := dk_28 (dk_at dksX0_cancel_3 18 rfl rfl)
theorem dX0_cancel_89 : decode cX0_cancel 89 = .ok (.aload_n 0, 1) := dk_42 (dk_at dksX0_cancel_3 19 rfl rfl)
theorem dX0_cancel_90 : decode cX0_cancel 90 = .ok (.getfield 19, 3) := dk_180 0 19 (dk_at dksX0_cancel_3 20 rfl rfl)
theorem dX0_cancel_93 : decode cX0_cancel 93 = .ok (.getfield 394, 3) := dk_180 1 138 (dk_at dksX0_cancel_4 0 rfl rfl)
theorem dX0_cancel_96 : decode cX0_cancel 96 = .ok (.iload_n 2, 1) := dk_28 (dk_at dksX0_cancel_4 3 rfl rfl)
theorem dX0_cancel_97 : decode cX0_cancel 97 = .ok (.iconst 1, 1) := dk_4 (dk_at dksX0_cancel_4 4 rfl rfl)
theorem dX0_cancel_98 : decode cX0_cancel 98 = .ok (.iadd, 1) := dk_96 (dk_at dksX0_cancel_4 5 rfl rfl)
theorem dX0_cancel_99 : decode cX0_cancel 99 = .ok (.iaload, 1) := dk_46 (dk_at dksX0_cancel_4 6 rfl rfl)
theorem dX0_cancel_100 : decode cX0_cancel 100 = .ok (.iastore, 1) := dk_79 (dk_at dksX0_cancel_4 7 rfl rfl)
theorem dX0_cancel_101 : decode cX0_cancel 101 = .ok (.iinc 2 1, 3) := dk_132 2 1 (dk_at dksX0_cancel_4 8 rfl rfl)
theorem dX0_cancel_104 : decode cX0_cancel 104 = .ok (.goto (-74), 3) := dk_167 255 182 (dk_at dksX0_cancel_4 11 rfl rfl)
theorem dX0_cancel_107 : decode cX0_cancel 107 = .ok (.aload_n 0, 1) := dk_42 (dk_at dksX0_cancel_4 14 rfl rfl)
theorem dX0_cancel_108 : decode cX0_cancel 108 = .ok (.getfield 19, 3) := dk_180 0 19 (dk_at dksX0_cancel_4 15 rfl rfl)
theorem dX0_cancel_111 : decode cX0_cancel 111 = .ok (.getfield 385, 3) := dk_180 1 129 (dk_at dksX0_cancel_4 18 rfl rfl)
theorem dX0_cancel_114 : decode cX0_cancel 114 = .ok (.ireturn, 1) := dk_172 (dk_at dksX0_cancel_4 21 rfl rfl)
abbrev cX0_isOrder : ByteArray := prog_1_method_47_code
def yX0_isOrder : MethodName := ⟨RX0, "isOrder", "(I)Z"⟩
def dkwX0_isOrder_0 : List UInt8 := [27, 155, 0, 18, 27, 42, 180, 0, 19, 180, 1, 129, 162, 0, 7, 4, 167, 0, 4, 3, 172]
abbrev dktX0_isOrder_0 : List UInt8 := dkwX0_isOrder_0 ++ []
theorem dksX0_isOrder_0 : cX0_isOrder.data.toList.drop 0 = dktX0_isOrder_0 := by decide +kernel
theorem dX0_isOrder_0 : decode cX0_isOrder 0 = .ok (.iload_n 1, 1) := dk_27 (dk_at dksX0_isOrder_0 0 rfl rfl)
theorem dX0_isOrder_1 : decode cX0_isOrder 1 = .ok (.ifCond .lt 18, 3) := dk_155 0 18 (dk_at dksX0_isOrder_0 1 rfl rfl)
theorem dX0_isOrder_4 : decode cX0_isOrder 4 = .ok (.iload_n 1, 1) := dk_27 (dk_at dksX0_isOrder_0 4 rfl rfl)
theorem dX0_isOrder_5 : decode cX0_isOrder 5 = .ok (.aload_n 0, 1) := dk_42 (dk_at dksX0_isOrder_0 5 rfl rfl)
theorem dX0_isOrder_6 : decode cX0_isOrder 6 = .ok (.getfield 19, 3) := dk_180 0 19 (dk_at dksX0_isOrder_0 6 rfl rfl)
theorem dX0_isOrder_9 : decode cX0_isOrder 9 = .ok (.getfield 385, 3) := dk_180 1 129 (dk_at dksX0_isOrder_0 9 rfl rfl)
theorem dX0_isOrder_12 : decode cX0_isOrder 12 = .ok (.if_icmp .ge 7, 3) := dk_162 0 7 (dk_at dksX0_isOrder_0 12 rfl rfl)
theorem dX0_isOrder_15 : decode cX0_isOrder 15 = .ok (.iconst 1, 1) := dk_4 (dk_at dksX0_isOrder_0 15 rfl rfl)
theorem dX0_isOrder_16 : decode cX0_isOrder 16 = .ok (.goto 4, 3) := dk_167 0 4 (dk_at dksX0_isOrder_0 16 rfl rfl)
theorem dX0_isOrder_19 : decode cX0_isOrder 19 = .ok (.iconst 0, 1) := dk_3 (dk_at dksX0_isOrder_0 19 rfl rfl)
theorem dX0_isOrder_20 : decode cX0_isOrder 20 = .ok (.ireturn, 1) := dk_172 (dk_at dksX0_isOrder_0 20 rfl rfl)
abbrev cX0_ordered : ByteArray := prog_1_method_49_code
def yX0_ordered : MethodName := ⟨RX0, "ordered", "(II)I"⟩
def dkwX0_ordered_3 : List UInt8 := [180, 1, 138, 27, 46, 172, 42, 16, 249, 182, 0, 118, 172]
abbrev dktX0_ordered_3 : List UInt8 := dkwX0_ordered_3 ++ []
def dkwX0_ordered_2 : List UInt8 := [42, 180, 0, 19, 180, 1, 132, 27, 46, 172, 42, 180, 0, 19, 180, 1, 135, 27, 46, 172, 42, 180, 0, 19]
abbrev dktX0_ordered_2 : List UInt8 := dkwX0_ordered_2 ++ dktX0_ordered_3
def dkwX0_ordered_1 : List UInt8 := [170, 0, 0, 0, 0, 0, 0, 58, 0, 0, 0, 0, 0, 0, 0, 2, 0, 0, 0, 28, 0, 0, 0, 38, 0, 0, 0, 48]
abbrev dktX0_ordered_1 : List UInt8 := dkwX0_ordered_1 ++ dktX0_ordered_2
def dkwX0_ordered_0 : List UInt8 := [42, 27, 182, 1, 143, 154, 0, 10, 42, 16, 253, 182, 0, 118, 172, 28]
abbrev dktX0_ordered_0 : List UInt8 := dkwX0_ordered_0 ++ dktX0_ordered_1
theorem dksX0_ordered_0 : cX0_ordered.data.toList.drop 0 = dktX0_ordered_0 := by decide +kernel
theorem dksX0_ordered_1 : cX0_ordered.data.toList.drop 16 = dktX0_ordered_1 := dk_seg dksX0_ordered_0 16 rfl rfl
theorem dksX0_ordered_2 : cX0_ordered.data.toList.drop 44 = dktX0_ordered_2 := dk_seg dksX0_ordered_1 28 rfl rfl
theorem dksX0_ordered_3 : cX0_ordered.data.toList.drop 68 = dktX0_ordered_3 := dk_seg dksX0_ordered_2 24 rfl rfl
theorem dX0_ordered_0 : decode cX0_ordered 0 = .ok (.aload_n 0, 1) := dk_42 (dk_at dksX0_ordered_0 0 rfl rfl)
theorem dX0_ordered_1 : decode cX0_ordered 1 = .ok (.iload_n 1, 1) := dk_27 (dk_at dksX0_ordered_0 1 rfl rfl)
theorem dX0_ordered_2 : decode cX0_ordered 2 = .ok (.invokevirtual 399, 3) := dk_182 1 143 (dk_at dksX0_ordered_0 2 rfl rfl)
theorem dX0_ordered_5 : decode cX0_ordered 5 = .ok (.ifCond .ne 10, 3) := dk_154 0 10 (dk_at dksX0_ordered_0 5 rfl rfl)
theorem dX0_ordered_8 : decode cX0_ordered 8 = .ok (.aload_n 0, 1) := dk_42 (dk_at dksX0_ordered_0 8 rfl rfl)
theorem dX0_ordered_9 : decode cX0_ordered 9 = .ok (.bipush (-3), 2) := dk_16 253 (dk_at dksX0_ordered_0 9 rfl rfl)
theorem dX0_ordered_11 : decode cX0_ordered 11 = .ok (.invokevirtual 118, 3) := dk_182 0 118 (dk_at dksX0_ordered_0 11 rfl rfl)
theorem dX0_ordered_14 : decode cX0_ordered 14 = .ok (.ireturn, 1) := dk_172 (dk_at dksX0_ordered_0 14 rfl rfl)
theorem dX0_ordered_15 : decode cX0_ordered 15 = .ok (.iload_n 2, 1) := dk_28 (dk_at dksX0_ordered_0 15 rfl rfl)
theorem dX0_ordered_16 : decode cX0_ordered 16 = .ok (.tableswitch 58 0 2 #[28, 38, 48], 28) := by decide +kernel
theorem dX0_ordered_44 : decode cX0_ordered 44 = .ok (.aload_n 0, 1) := dk_42 (dk_at dksX0_ordered_2 0 rfl rfl)
theorem dX0_ordered_45 : decode cX0_ordered 45 = .ok (.getfield 19, 3) := dk_180 0 19 (dk_at dksX0_ordered_2 1 rfl rfl)
theorem dX0_ordered_48 : decode cX0_ordered 48 = .ok (.getfield 388, 3) := dk_180 1 132 (dk_at dksX0_ordered_2 4 rfl rfl)
theorem dX0_ordered_51 : decode cX0_ordered 51 = .ok (.iload_n 1, 1) := dk_27 (dk_at dksX0_ordered_2 7 rfl rfl)
theorem dX0_ordered_52 : decode cX0_ordered 52 = .ok (.iaload, 1) := dk_46 (dk_at dksX0_ordered_2 8 rfl rfl)
theorem dX0_ordered_53 : decode cX0_ordered 53 = .ok (.ireturn, 1) := dk_172 (dk_at dksX0_ordered_2 9 rfl rfl)
theorem dX0_ordered_54 : decode cX0_ordered 54 = .ok (.aload_n 0, 1) := dk_42 (dk_at dksX0_ordered_2 10 rfl rfl)
theorem dX0_ordered_55 : decode cX0_ordered 55 = .ok (.getfield 19, 3) := dk_180 0 19 (dk_at dksX0_ordered_2 11 rfl rfl)
theorem dX0_ordered_58 : decode cX0_ordered 58 = .ok (.getfield 391, 3) := dk_180 1 135 (dk_at dksX0_ordered_2 14 rfl rfl)
theorem dX0_ordered_61 : decode cX0_ordered 61 = .ok (.iload_n 1, 1) := dk_27 (dk_at dksX0_ordered_2 17 rfl rfl)
theorem dX0_ordered_62 : decode cX0_ordered 62 = .ok (.iaload, 1) := dk_46 (dk_at dksX0_ordered_2 18 rfl rfl)
theorem dX0_ordered_63 : decode cX0_ordered 63 = .ok (.ireturn, 1) := dk_172 (dk_at dksX0_ordered_2 19 rfl rfl)
theorem dX0_ordered_64 : decode cX0_ordered 64 = .ok (.aload_n 0, 1) := dk_42 (dk_at dksX0_ordered_2 20 rfl rfl)
theorem dX0_ordered_65 : decode cX0_ordered 65 = .ok (.getfield 19, 3) := dk_180 0 19 (dk_at dksX0_ordered_2 21 rfl rfl)
theorem dX0_ordered_68 : decode cX0_ordered 68 = .ok (.getfield 394, 3) := dk_180 1 138 (dk_at dksX0_ordered_3 0 rfl rfl)
theorem dX0_ordered_71 : decode cX0_ordered 71 = .ok (.iload_n 1, 1) := dk_27 (dk_at dksX0_ordered_3 3 rfl rfl)
theorem dX0_ordered_72 : decode cX0_ordered 72 = .ok (.iaload, 1) := dk_46 (dk_at dksX0_ordered_3 4 rfl rfl)
theorem dX0_ordered_73 : decode cX0_ordered 73 = .ok (.ireturn, 1) := dk_172 (dk_at dksX0_ordered_3 5 rfl rfl)
theorem dX0_ordered_74 : decode cX0_ordered 74 = .ok (.aload_n 0, 1) := dk_42 (dk_at dksX0_ordered_3 6 rfl rfl)
theorem dX0_ordered_75 : decode cX0_ordered 75 = .ok (.bipush (-7), 2) := dk_16 249 (dk_at dksX0_ordered_3 7 rfl rfl)
theorem dX0_ordered_77 : decode cX0_ordered 77 = .ok (.invokevirtual 118, 3) := dk_182 0 118 (dk_at dksX0_ordered_3 9 rfl rfl)
theorem dX0_ordered_80 : decode cX0_ordered 80 = .ok (.ireturn, 1) := dk_172 (dk_at dksX0_ordered_3 12 rfl rfl)
abbrev cX0_sow : ByteArray := prog_1_method_50_code
def yX0_sow : MethodName := ⟨RX0, "sow", "(II)I"⟩
def dkwX0_sow_4 : List UInt8 := [42, 180, 0, 19, 180, 1, 146, 6, 27, 104, 5, 96, 92, 46, 28, 96, 79, 29, 172]
abbrev dktX0_sow_4 : List UInt8 := dkwX0_sow_4 ++ []
def dkwX0_sow_3 : List UInt8 := [6, 27, 104, 5, 96, 46, 96, 28, 96, 62, 29, 17, 39, 15, 164, 0, 10, 42, 16, 248, 182, 0, 118, 172]
abbrev dktX0_sow_3 : List UInt8 := dkwX0_sow_3 ++ dktX0_sow_4
def dkwX0_sow_2 : List UInt8 := [27, 104, 46, 42, 180, 0, 19, 180, 1, 146, 6, 27, 104, 4, 96, 46, 96, 42, 180, 0, 19, 180, 1, 146]
abbrev dktX0_sow_2 : List UInt8 := dkwX0_sow_2 ++ dktX0_sow_3
def dkwX0_sow_1 : List UInt8 := [20, 0, 112, 184, 0, 31, 154, 0, 10, 42, 16, 249, 182, 0, 118, 172, 42, 180, 0, 19, 180, 1, 146, 6]
abbrev dktX0_sow_1 : List UInt8 := dkwX0_sow_1 ++ dktX0_sow_2
def dkwX0_sow_0 : List UInt8 := [27, 133, 9, 20, 0, 182, 184, 0, 31, 154, 0, 10, 42, 16, 251, 182, 0, 118, 172, 28, 133, 10]
abbrev dktX0_sow_0 : List UInt8 := dkwX0_sow_0 ++ dktX0_sow_1
theorem dksX0_sow_0 : cX0_sow.data.toList.drop 0 = dktX0_sow_0 := by decide +kernel
theorem dksX0_sow_1 : cX0_sow.data.toList.drop 22 = dktX0_sow_1 := dk_seg dksX0_sow_0 22 rfl rfl
theorem dksX0_sow_2 : cX0_sow.data.toList.drop 46 = dktX0_sow_2 := dk_seg dksX0_sow_1 24 rfl rfl
theorem dksX0_sow_3 : cX0_sow.data.toList.drop 70 = dktX0_sow_3 := dk_seg dksX0_sow_2 24 rfl rfl
theorem dksX0_sow_4 : cX0_sow.data.toList.drop 94 = dktX0_sow_4 := dk_seg dksX0_sow_3 24 rfl rfl
theorem dX0_sow_0 : decode cX0_sow 0 = .ok (.iload_n 1, 1) := dk_27 (dk_at dksX0_sow_0 0 rfl rfl)
theorem dX0_sow_1 : decode cX0_sow 1 = .ok (.i2l, 1) := dk_133 (dk_at dksX0_sow_0 1 rfl rfl)
theorem dX0_sow_2 : decode cX0_sow 2 = .ok (.lconst 0, 1) := dk_9 (dk_at dksX0_sow_0 2 rfl rfl)
theorem dX0_sow_3 : decode cX0_sow 3 = .ok (.ldc2_w 182, 3) := dk_20 0 182 (dk_at dksX0_sow_0 3 rfl rfl)
theorem dX0_sow_6 : decode cX0_sow 6 = .ok (.invokestatic 31, 3) := dk_184 0 31 (dk_at dksX0_sow_0 6 rfl rfl)
theorem dX0_sow_9 : decode cX0_sow 9 = .ok (.ifCond .ne 10, 3) := dk_154 0 10 (dk_at dksX0_sow_0 9 rfl rfl)
theorem dX0_sow_12 : decode cX0_sow 12 = .ok (.aload_n 0, 1) := dk_42 (dk_at dksX0_sow_0 12 rfl rfl)
theorem dX0_sow_13 : decode cX0_sow 13 = .ok (.bipush (-5), 2) := dk_16 251 (dk_at dksX0_sow_0 13 rfl rfl)
theorem dX0_sow_15 : decode cX0_sow 15 = .ok (.invokevirtual 118, 3) := dk_182 0 118 (dk_at dksX0_sow_0 15 rfl rfl)
theorem dX0_sow_18 : decode cX0_sow 18 = .ok (.ireturn, 1) := dk_172 (dk_at dksX0_sow_0 18 rfl rfl)
theorem dX0_sow_19 : decode cX0_sow 19 = .ok (.iload_n 2, 1) := dk_28 (dk_at dksX0_sow_0 19 rfl rfl)
theorem dX0_sow_20 : decode cX0_sow 20 = .ok (.i2l, 1) := dk_133 (dk_at dksX0_sow_0 20 rfl rfl)
theorem dX0_sow_21 : decode cX0_sow 21 = .ok (.lconst 1, 1) := dk_10 (dk_at dksX0_sow_0 21 rfl rfl)
theorem dX0_sow_22 : decode cX0_sow 22 = .ok (.ldc2_w 112, 3) := dk_20 0 112 (dk_at dksX0_sow_1 0 rfl rfl)
theorem dX0_sow_25 : decode cX0_sow 25 = .ok (.invokestatic 31, 3) := dk_184 0 31 (dk_at dksX0_sow_1 3 rfl rfl)
theorem dX0_sow_28 : decode cX0_sow 28 = .ok (.ifCond .ne 10, 3) := dk_154 0 10 (dk_at dksX0_sow_1 6 rfl rfl)
theorem dX0_sow_31 : decode cX0_sow 31 = .ok (.aload_n 0, 1) := dk_42 (dk_at dksX0_sow_1 9 rfl rfl)
theorem dX0_sow_32 : decode cX0_sow 32 = .ok (.bipush (-7), 2) := dk_16 249 (dk_at dksX0_sow_1 10 rfl rfl)
theorem dX0_sow_34 : decode cX0_sow 34 = .ok (.invokevirtual 118, 3) := dk_182 0 118 (dk_at dksX0_sow_1 12 rfl rfl)
theorem dX0_sow_37 : decode cX0_sow 37 = .ok (.ireturn, 1) := dk_172 (dk_at dksX0_sow_1 15 rfl rfl)
theorem dX0_sow_38 : decode cX0_sow 38 = .ok (.aload_n 0, 1) := dk_42 (dk_at dksX0_sow_1 16 rfl rfl)
theorem dX0_sow_39 : decode cX0_sow 39 = .ok (.getfield 19, 3) := dk_180 0 19 (dk_at dksX0_sow_1 17 rfl rfl)
theorem dX0_sow_42 : decode cX0_sow 42 = .ok (.getfield 402, 3) := dk_180 1 146 (dk_at dksX0_sow_1 20 rfl rfl)
theorem dX0_sow_45 : decode cX0_sow 45 = .ok (.iconst 3, 1) := dk_6 (dk_at dksX0_sow_1 23 rfl rfl)
theorem dX0_sow_46 : decode cX0_sow 46 = .ok (.iload_n 1, 1) := dk_27 (dk_at dksX0_sow_2 0 rfl rfl)
theorem dX0_sow_47 : decode cX0_sow 47 = .ok (.imul, 1) := dk_104 (dk_at dksX0_sow_2 1 rfl rfl)
theorem dX0_sow_48 : decode cX0_sow 48 = .ok (.iaload, 1) := dk_46 (dk_at dksX0_sow_2 2 rfl rfl)
theorem dX0_sow_49 : decode cX0_sow 49 = .ok (.aload_n 0, 1) := dk_42 (dk_at dksX0_sow_2 3 rfl rfl)
theorem dX0_sow_50 : decode cX0_sow 50 = .ok (.getfield 19, 3) := dk_180 0 19 (dk_at dksX0_sow_2 4 rfl rfl)
theorem dX0_sow_53 : decode cX0_sow 53 = .ok (.getfield 402, 3) := dk_180 1 146 (dk_at dksX0_sow_2 7 rfl rfl)
theorem dX0_sow_56 : decode cX0_sow 56 = .ok (.iconst 3, 1) := dk_6 (dk_at dksX0_sow_2 10 rfl rfl)
theorem dX0_sow_57 : decode cX0_sow 57 = .ok (.iload_n 1, 1) := dk_27 (dk_at dksX0_sow_2 11 rfl rfl)
theorem dX0_sow_58 : decode cX0_sow 58 = .ok (.imul, 1) := dk_104 (dk_at dksX0_sow_2 12 rfl rfl)
theorem dX0_sow_59 : decode cX0_sow 59 = .ok (.iconst 1, 1) := dk_4 (dk_at dksX0_sow_2 13 rfl rfl)
theorem dX0_sow_60 : decode cX0_sow 60 = .ok (.iadd, 1) := dk_96 (dk_at dksX0_sow_2 14 rfl rfl)
theorem dX0_sow_61 : decode cX0_sow 61 = .ok (.iaload, 1) := dk_46 (dk_at dksX0_sow_2 15 rfl rfl)
theorem dX0_sow_62 : decode cX0_sow 62 = .ok (.iadd, 1) := dk_96 (dk_at dksX0_sow_2 16 rfl rfl)
theorem dX0_sow_63 : decode cX0_sow 63 = .ok (.aload_n 0, 1) := dk_42 (dk_at dksX0_sow_2 17 rfl rfl)
theorem dX0_sow_64 : decode cX0_sow 64 = .ok (.getfield 19, 3) := dk_180 0 19 (dk_at dksX0_sow_2 18 rfl rfl)
theorem dX0_sow_67 : decode cX0_sow 67 = .ok (.getfield 402, 3) := dk_180 1 146 (dk_at dksX0_sow_2 21 rfl rfl)
theorem dX0_sow_70 : decode cX0_sow 70 = .ok (.iconst 3, 1) := dk_6 (dk_at dksX0_sow_3 0 rfl rfl)
theorem dX0_sow_71 : decode cX0_sow 71 = .ok (.iload_n 1, 1) := dk_27 (dk_at dksX0_sow_3 1 rfl rfl)
theorem dX0_sow_72 : decode cX0_sow 72 = .ok (.imul, 1) := dk_104 (dk_at dksX0_sow_3 2 rfl rfl)
theorem dX0_sow_73 : decode cX0_sow 73 = .ok (.iconst 2, 1) := dk_5 (dk_at dksX0_sow_3 3 rfl rfl)
theorem dX0_sow_74 : decode cX0_sow 74 = .ok (.iadd, 1) := dk_96 (dk_at dksX0_sow_3 4 rfl rfl)
theorem dX0_sow_75 : decode cX0_sow 75 = .ok (.iaload, 1) := dk_46 (dk_at dksX0_sow_3 5 rfl rfl)
theorem dX0_sow_76 : decode cX0_sow 76 = .ok (.iadd, 1) := dk_96 (dk_at dksX0_sow_3 6 rfl rfl)
theorem dX0_sow_77 : decode cX0_sow 77 = .ok (.iload_n 2, 1) := dk_28 (dk_at dksX0_sow_3 7 rfl rfl)
theorem dX0_sow_78 : decode cX0_sow 78 = .ok (.iadd, 1) := dk_96 (dk_at dksX0_sow_3 8 rfl rfl)
theorem dX0_sow_79 : decode cX0_sow 79 = .ok (.istore_n 3, 1) := dk_62 (dk_at dksX0_sow_3 9 rfl rfl)
theorem dX0_sow_80 : decode cX0_sow 80 = .ok (.iload_n 3, 1) := dk_29 (dk_at dksX0_sow_3 10 rfl rfl)
theorem dX0_sow_81 : decode cX0_sow 81 = .ok (.sipush 9999, 3) := dk_17 39 15 (dk_at dksX0_sow_3 11 rfl rfl)
theorem dX0_sow_84 : decode cX0_sow 84 = .ok (.if_icmp .le 10, 3) := dk_164 0 10 (dk_at dksX0_sow_3 14 rfl rfl)
theorem dX0_sow_87 : decode cX0_sow 87 = .ok (.aload_n 0, 1) := dk_42 (dk_at dksX0_sow_3 17 rfl rfl)
theorem dX0_sow_88 : decode cX0_sow 88 = .ok (.bipush (-8), 2) := dk_16 248 (dk_at dksX0_sow_3 18 rfl rfl)
theorem dX0_sow_90 : decode cX0_sow 90 = .ok (.invokevirtual 118, 3) := dk_182 0 118 (dk_at dksX0_sow_3 20 rfl rfl)
theorem dX0_sow_93 : decode cX0_sow 93 = .ok (.ireturn, 1) := dk_172 (dk_at dksX0_sow_3 23 rfl rfl)
theorem dX0_sow_94 : decode cX0_sow 94 = .ok (.aload_n 0, 1) := dk_42 (dk_at dksX0_sow_4 0 rfl rfl)
theorem dX0_sow_95 : decode cX0_sow 95 = .ok (.getfield 19, 3) := dk_180 0 19 (dk_at dksX0_sow_4 1 rfl rfl)
theorem dX0_sow_98 : decode cX0_sow 98 = .ok (.getfield 402, 3) := dk_180 1 146 (dk_at dksX0_sow_4 4 rfl rfl)
theorem dX0_sow_101 : decode cX0_sow 101 = .ok (.iconst 3, 1) := dk_6 (dk_at dksX0_sow_4 7 rfl rfl)
theorem dX0_sow_102 : decode cX0_sow 102 = .ok (.iload_n 1, 1) := dk_27 (dk_at dksX0_sow_4 8 rfl rfl)
theorem dX0_sow_103 : decode cX0_sow 103 = .ok (.imul, 1) := dk_104 (dk_at dksX0_sow_4 9 rfl rfl)
theorem dX0_sow_104 : decode cX0_sow 104 = .ok (.iconst 2, 1) := dk_5 (dk_at dksX0_sow_4 10 rfl rfl)
theorem dX0_sow_105 : decode cX0_sow 105 = .ok (.iadd, 1) := dk_96 (dk_at dksX0_sow_4 11 rfl rfl)
theorem dX0_sow_106 : decode cX0_sow 106 = .ok (.dup2, 1) := dk_92 (dk_at dksX0_sow_4 12 rfl rfl)
theorem dX0_sow_107 : decode cX0_sow 107 = .ok (.iaload, 1) := dk_46 (dk_at dksX0_sow_4 13 rfl rfl)
theorem dX0_sow_108 : decode cX0_sow 108 = .ok (.iload_n 2, 1) := dk_28 (dk_at dksX0_sow_4 14 rfl rfl)
theorem dX0_sow_109 : decode cX0_sow 109 = .ok (.iadd, 1) := dk_96 (dk_at dksX0_sow_4 15 rfl rfl)
theorem dX0_sow_110 : decode cX0_sow 110 = .ok (.iastore, 1) := dk_79 (dk_at dksX0_sow_4 16 rfl rfl)
theorem dX0_sow_111 : decode cX0_sow 111 = .ok (.iload_n 3, 1) := dk_29 (dk_at dksX0_sow_4 17 rfl rfl)
theorem dX0_sow_112 : decode cX0_sow 112 = .ok (.ireturn, 1) := dk_172 (dk_at dksX0_sow_4 18 rfl rfl)
abbrev cX0_nursery : ByteArray := prog_1_method_51_code
def yX0_nursery : MethodName := ⟨RX0, "nursery", "(II)I"⟩
def dkwX0_nursery_2 : List UInt8 := [167, 0, 9, 42, 16, 249, 182, 0, 118, 172]
abbrev dktX0_nursery_2 : List UInt8 := dkwX0_nursery_2 ++ []
def dkwX0_nursery_1 : List UInt8 := [20, 1, 114, 184, 0, 31, 153, 0, 19, 42, 180, 0, 19, 180, 1, 146, 6, 27, 104, 28, 96, 46]
abbrev dktX0_nursery_1 : List UInt8 := dkwX0_nursery_1 ++ dktX0_nursery_2
def dkwX0_nursery_0 : List UInt8 := [27, 133, 9, 20, 0, 182, 184, 0, 31, 154, 0, 10, 42, 16, 251, 182, 0, 118, 172, 28, 133, 9]
abbrev dktX0_nursery_0 : List UInt8 := dkwX0_nursery_0 ++ dktX0_nursery_1
theorem dksX0_nursery_0 : cX0_nursery.data.toList.drop 0 = dktX0_nursery_0 := by decide +kernel
theorem dksX0_nursery_1 : cX0_nursery.data.toList.drop 22 = dktX0_nursery_1 := dk_seg dksX0_nursery_0 22 rfl rfl
theorem dksX0_nursery_2 : cX0_nursery.data.toList.drop 44 = dktX0_nursery_2 := dk_seg dksX0_nursery_1 22 rfl rfl
theorem dX0_nursery_0 : decode cX0_nursery 0 = .ok (.iload_n 1, 1) := dk_27 (dk_at dksX0_nursery_0 0 rfl rfl)
theorem dX0_nursery_1 : decode cX0_nursery 1 = .ok (.i2l, 1) := dk_133 (dk_at dksX0_nursery_0 1 rfl rfl)
theorem dX0_nursery_2 : decode cX0_nursery 2 = .ok (.lconst 0, 1) := dk_9 (dk_at dksX0_nursery_0 2 rfl rfl)
theorem dX0_nursery_3 : decode cX0_nursery 3 = .ok (.ldc2_w 182, 3) := dk_20 0 182 (dk_at dksX0_nursery_0 3 rfl rfl)
theorem dX0_nursery_6 : decode cX0_nursery 6 = .ok (.invokestatic 31, 3) := dk_184 0 31 (dk_at dksX0_nursery_0 6 rfl rfl)
theorem dX0_nursery_9 : decode cX0_nursery 9 = .ok (.ifCond .ne 10, 3) := dk_154 0 10 (dk_at dksX0_nursery_0 9 rfl rfl)
theorem dX0_nursery_12 : decode cX0_nursery 12 = .ok (.aload_n 0, 1) := dk_42 (dk_at dksX0_nursery_0 12 rfl rfl)
theorem dX0_nursery_13 : decode cX0_nursery 13 = .ok (.bipush (-5), 2) := dk_16 251 (dk_at dksX0_nursery_0 13 rfl rfl)
theorem dX0_nursery_15 : decode cX0_nursery 15 = .ok (.invokevirtual 118, 3) := dk_182 0 118 (dk_at dksX0_nursery_0 15 rfl rfl)
theorem dX0_nursery_18 : decode cX0_nursery 18 = .ok (.ireturn, 1) := dk_172 (dk_at dksX0_nursery_0 18 rfl rfl)
theorem dX0_nursery_19 : decode cX0_nursery 19 = .ok (.iload_n 2, 1) := dk_28 (dk_at dksX0_nursery_0 19 rfl rfl)
theorem dX0_nursery_20 : decode cX0_nursery 20 = .ok (.i2l, 1) := dk_133 (dk_at dksX0_nursery_0 20 rfl rfl)
theorem dX0_nursery_21 : decode cX0_nursery 21 = .ok (.lconst 0, 1) := dk_9 (dk_at dksX0_nursery_0 21 rfl rfl)
theorem dX0_nursery_22 : decode cX0_nursery 22 = .ok (.ldc2_w 370, 3) := dk_20 1 114 (dk_at dksX0_nursery_1 0 rfl rfl)
theorem dX0_nursery_25 : decode cX0_nursery 25 = .ok (.invokestatic 31, 3) := dk_184 0 31 (dk_at dksX0_nursery_1 3 rfl rfl)
theorem dX0_nursery_28 : decode cX0_nursery 28 = .ok (.ifCond .eq 19, 3) := dk_153 0 19 (dk_at dksX0_nursery_1 6 rfl rfl)
theorem dX0_nursery_31 : decode cX0_nursery 31 = .ok (.aload_n 0, 1) := dk_42 (dk_at dksX0_nursery_1 9 rfl rfl)
theorem dX0_nursery_32 : decode cX0_nursery 32 = .ok (.getfield 19, 3) := dk_180 0 19 (dk_at dksX0_nursery_1 10 rfl rfl)
theorem dX0_nursery_35 : decode cX0_nursery 35 = .ok (.getfield 402, 3) := dk_180 1 146 (dk_at dksX0_nursery_1 13 rfl rfl)
theorem dX0_nursery_38 : decode cX0_nursery 38 = .ok (.iconst 3, 1) := dk_6 (dk_at dksX0_nursery_1 16 rfl rfl)
theorem dX0_nursery_39 : decode cX0_nursery 39 = .ok (.iload_n 1, 1) := dk_27 (dk_at dksX0_nursery_1 17 rfl rfl)
theorem dX0_nursery_40 : decode cX0_nursery 40 = .ok (.imul, 1) := dk_104 (dk_at dksX0_nursery_1 18 rfl rfl)
theorem dX0_nursery_41 : decode cX0_nursery 41 = .ok (.iload_n 2, 1) := dk_28 (dk_at dksX0_nursery_1 19 rfl rfl)
theorem dX0_nursery_42 : decode cX0_nursery 42 = .ok (.iadd, 1) := dk_96 (dk_at dksX0_nursery_1 20 rfl rfl)
theorem dX0_nursery_43 : decode cX0_nursery 43 = .ok (.iaload, 1) := dk_46 (dk_at dksX0_nursery_1 21 rfl rfl)
theorem dX0_nursery_44 : decode cX0_nursery 44 = .ok (.goto 9, 3) := dk_167 0 9 (dk_at dksX0_nursery_2 0 rfl rfl)
theorem dX0_nursery_47 : decode cX0_nursery 47 = .ok (.aload_n 0, 1) := dk_42 (dk_at dksX0_nursery_2 3 rfl rfl)
theorem dX0_nursery_48 : decode cX0_nursery 48 = .ok (.bipush (-7), 2) := dk_16 249 (dk_at dksX0_nursery_2 4 rfl rfl)
theorem dX0_nursery_50 : decode cX0_nursery 50 = .ok (.invokevirtual 118, 3) := dk_182 0 118 (dk_at dksX0_nursery_2 6 rfl rfl)
theorem dX0_nursery_53 : decode cX0_nursery 53 = .ok (.ireturn, 1) := dk_172 (dk_at dksX0_nursery_2 9 rfl rfl)
abbrev cX0_wind : ByteArray := prog_1_method_53_code
def yX0_wind : MethodName := ⟨RX0, "wind", "(II)I"⟩
def dkwX0_wind_2 : List UInt8 := [42, 180, 0, 19, 180, 1, 154, 27, 28, 79, 29, 172]
abbrev dktX0_wind_2 : List UInt8 := dkwX0_wind_2 ++ []
def dkwX0_wind_1 : List UInt8 := [28, 184, 1, 151, 154, 0, 10, 42, 16, 249, 182, 1, 56, 172, 42, 180, 0, 19, 180, 1, 154, 27, 46, 62]
abbrev dktX0_wind_1 : List UInt8 := dkwX0_wind_1 ++ dktX0_wind_2
def dkwX0_wind_0 : List UInt8 := [27, 133, 9, 20, 1, 149, 184, 0, 31, 154, 0, 10, 42, 16, 253, 182, 1, 56, 172, 28, 2, 159, 0, 17]
abbrev dktX0_wind_0 : List UInt8 := dkwX0_wind_0 ++ dktX0_wind_1
theorem dksX0_wind_0 : cX0_wind.data.toList.drop 0 = dktX0_wind_0 := by decide +kernel
theorem dksX0_wind_1 : cX0_wind.data.toList.drop 24 = dktX0_wind_1 := dk_seg dksX0_wind_0 24 rfl rfl
theorem dksX0_wind_2 : cX0_wind.data.toList.drop 48 = dktX0_wind_2 := dk_seg dksX0_wind_1 24 rfl rfl
theorem dX0_wind_0 : decode cX0_wind 0 = .ok (.iload_n 1, 1) := dk_27 (dk_at dksX0_wind_0 0 rfl rfl)
theorem dX0_wind_1 : decode cX0_wind 1 = .ok (.i2l, 1) := dk_133 (dk_at dksX0_wind_0 1 rfl rfl)
theorem dX0_wind_2 : decode cX0_wind 2 = .ok (.lconst 0, 1) := dk_9 (dk_at dksX0_wind_0 2 rfl rfl)
theorem dX0_wind_3 : decode cX0_wind 3 = .ok (.ldc2_w 405, 3) := dk_20 1 149 (dk_at dksX0_wind_0 3 rfl rfl)
theorem dX0_wind_6 : decode cX0_wind 6 = .ok (.invokestatic 31, 3) := dk_184 0 31 (dk_at dksX0_wind_0 6 rfl rfl)
theorem dX0_wind_9 : decode cX0_wind 9 = .ok (.ifCond .ne 10, 3) := dk_154 0 10 (dk_at dksX0_wind_0 9 rfl rfl)
theorem dX0_wind_12 : decode cX0_wind 12 = .ok (.aload_n 0, 1) := dk_42 (dk_at dksX0_wind_0 12 rfl rfl)
theorem dX0_wind_13 : decode cX0_wind 13 = .ok (.bipush (-3), 2) := dk_16 253 (dk_at dksX0_wind_0 13 rfl rfl)
theorem dX0_wind_15 : decode cX0_wind 15 = .ok (.invokevirtual 312, 3) := dk_182 1 56 (dk_at dksX0_wind_0 15 rfl rfl)
theorem dX0_wind_18 : decode cX0_wind 18 = .ok (.ireturn, 1) := dk_172 (dk_at dksX0_wind_0 18 rfl rfl)
theorem dX0_wind_19 : decode cX0_wind 19 = .ok (.iload_n 2, 1) := dk_28 (dk_at dksX0_wind_0 19 rfl rfl)
theorem dX0_wind_20 : decode cX0_wind 20 = .ok (.iconst (-1), 1) := dk_2 (dk_at dksX0_wind_0 20 rfl rfl)
theorem dX0_wind_21 : decode cX0_wind 21 = .ok (.if_icmp .eq 17, 3) := dk_159 0 17 (dk_at dksX0_wind_0 21 rfl rfl)
theorem dX0_wind_24 : decode cX0_wind 24 = .ok (.iload_n 2, 1) := dk_28 (dk_at dksX0_wind_1 0 rfl rfl)
theorem dX0_wind_25 : decode cX0_wind 25 = .ok (.invokestatic 407, 3) := dk_184 1 151 (dk_at dksX0_wind_1 1 rfl rfl)
theorem dX0_wind_28 : decode cX0_wind 28 = .ok (.ifCond .ne 10, 3) := dk_154 0 10 (dk_at dksX0_wind_1 4 rfl rfl)
theorem dX0_wind_31 : decode cX0_wind 31 = .ok (.aload_n 0, 1) := dk_42 (dk_at dksX0_wind_1 7 rfl rfl)
theorem dX0_wind_32 : decode cX0_wind 32 = .ok (.bipush (-7), 2) := dk_16 249 (dk_at dksX0_wind_1 8 rfl rfl)
theorem dX0_wind_34 : decode cX0_wind 34 = .ok (.invokevirtual 312, 3) := dk_182 1 56 (dk_at dksX0_wind_1 10 rfl rfl)
theorem dX0_wind_37 : decode cX0_wind 37 = .ok (.ireturn, 1) := dk_172 (dk_at dksX0_wind_1 13 rfl rfl)
theorem dX0_wind_38 : decode cX0_wind 38 = .ok (.aload_n 0, 1) := dk_42 (dk_at dksX0_wind_1 14 rfl rfl)
theorem dX0_wind_39 : decode cX0_wind 39 = .ok (.getfield 19, 3) := dk_180 0 19 (dk_at dksX0_wind_1 15 rfl rfl)
theorem dX0_wind_42 : decode cX0_wind 42 = .ok (.getfield 410, 3) := dk_180 1 154 (dk_at dksX0_wind_1 18 rfl rfl)
theorem dX0_wind_45 : decode cX0_wind 45 = .ok (.iload_n 1, 1) := dk_27 (dk_at dksX0_wind_1 21 rfl rfl)
theorem dX0_wind_46 : decode cX0_wind 46 = .ok (.iaload, 1) := dk_46 (dk_at dksX0_wind_1 22 rfl rfl)
theorem dX0_wind_47 : decode cX0_wind 47 = .ok (.istore_n 3, 1) := dk_62 (dk_at dksX0_wind_1 23 rfl rfl)
theorem dX0_wind_48 : decode cX0_wind 48 = .ok (.aload_n 0, 1) := dk_42 (dk_at dksX0_wind_2 0 rfl rfl)
theorem dX0_wind_49 : decode cX0_wind 49 = .ok (.getfield 19, 3) := dk_180 0 19 (dk_at dksX0_wind_2 1 rfl rfl)
theorem dX0_wind_52 : decode cX0_wind 52 = .ok (.getfield 410, 3) := dk_180 1 154 (dk_at dksX0_wind_2 4 rfl rfl)
theorem dX0_wind_55 : decode cX0_wind 55 = .ok (.iload_n 1, 1) := dk_27 (dk_at dksX0_wind_2 7 rfl rfl)
theorem dX0_wind_56 : decode cX0_wind 56 = .ok (.iload_n 2, 1) := dk_28 (dk_at dksX0_wind_2 8 rfl rfl)
theorem dX0_wind_57 : decode cX0_wind 57 = .ok (.iastore, 1) := dk_79 (dk_at dksX0_wind_2 9 rfl rfl)
theorem dX0_wind_58 : decode cX0_wind 58 = .ok (.iload_n 3, 1) := dk_29 (dk_at dksX0_wind_2 10 rfl rfl)
theorem dX0_wind_59 : decode cX0_wind 59 = .ok (.ireturn, 1) := dk_172 (dk_at dksX0_wind_2 11 rfl rfl)
abbrev cX0_isWind : ByteArray := prog_1_method_52_code
def yX0_isWind : MethodName := ⟨RX0, "isWind", "(I)Z"⟩
def dkwX0_isWind_0 : List UInt8 := [26, 133, 9, 20, 1, 149, 184, 0, 31, 172]
abbrev dktX0_isWind_0 : List UInt8 := dkwX0_isWind_0 ++ []
theorem dksX0_isWind_0 : cX0_isWind.data.toList.drop 0 = dktX0_isWind_0 := by decide +kernel
theorem dX0_isWind_0 : decode cX0_isWind 0 = .ok (.iload_n 0, 1) := dk_26 (dk_at dksX0_isWind_0 0 rfl rfl)
theorem dX0_isWind_1 : decode cX0_isWind 1 = .ok (.i2l, 1) := dk_133 (dk_at dksX0_isWind_0 1 rfl rfl)
theorem dX0_isWind_2 : decode cX0_isWind 2 = .ok (.lconst 0, 1) := dk_9 (dk_at dksX0_isWind_0 2 rfl rfl)
theorem dX0_isWind_3 : decode cX0_isWind 3 = .ok (.ldc2_w 405, 3) := dk_20 1 149 (dk_at dksX0_isWind_0 3 rfl rfl)
theorem dX0_isWind_6 : decode cX0_isWind 6 = .ok (.invokestatic 31, 3) := dk_184 0 31 (dk_at dksX0_isWind_0 6 rfl rfl)
theorem dX0_isWind_9 : decode cX0_isWind 9 = .ok (.ireturn, 1) := dk_172 (dk_at dksX0_isWind_0 9 rfl rfl)
abbrev cX0_read : ByteArray := prog_1_method_54_code
def yX0_read : MethodName := ⟨RX0, "read", "()I"⟩
def dkwX0_read_3 : List UInt8 := [27, 172, 76, 42, 16, 254, 182, 0, 118, 172]
abbrev dktX0_read_3 : List UInt8 := dkwX0_read_3 ++ []
def dkwX0_read_2 : List UInt8 := [180, 1, 157, 28, 46, 184, 1, 151, 153, 0, 7, 4, 167, 0, 4, 3, 96, 60, 132, 2, 1, 167, 255, 193]
abbrev dktX0_read_2 : List UInt8 := dkwX0_read_2 ++ dktX0_read_3
def dkwX0_read_1 : List UInt8 := [180, 1, 157, 28, 46, 184, 1, 151, 153, 0, 12, 42, 180, 1, 157, 28, 46, 167, 0, 4, 2, 79, 27, 42]
abbrev dktX0_read_1 : List UInt8 := dkwX0_read_1 ++ dktX0_read_2
def dkwX0_read_0 : List UInt8 := [3, 60, 3, 61, 28, 42, 180, 1, 157, 190, 162, 0, 60, 42, 180, 0, 19, 180, 1, 154, 28, 42]
abbrev dktX0_read_0 : List UInt8 := dkwX0_read_0 ++ dktX0_read_1
theorem dksX0_read_0 : cX0_read.data.toList.drop 0 = dktX0_read_0 := by decide +kernel
theorem dksX0_read_1 : cX0_read.data.toList.drop 22 = dktX0_read_1 := dk_seg dksX0_read_0 22 rfl rfl
theorem dksX0_read_2 : cX0_read.data.toList.drop 46 = dktX0_read_2 := dk_seg dksX0_read_1 24 rfl rfl
theorem dksX0_read_3 : cX0_read.data.toList.drop 70 = dktX0_read_3 := dk_seg dksX0_read_2 24 rfl rfl
theorem dX0_read_0 : decode cX0_read 0 = .ok (.iconst 0, 1) := dk_3 (dk_at dksX0_read_0 0 rfl rfl)
theorem dX0_read_1 : decode cX0_read 1 = .ok (.istore_n 1, 1) := dk_60 (dk_at dksX0_read_0 1 rfl rfl)
theorem dX0_read_2 : decode cX0_read 2 = .ok (.iconst 0, 1) := dk_3 (dk_at dksX0_read_0 2 rfl rfl)
theorem dX0_read_3 : decode cX0_read 3 = .ok (.istore_n 2, 1) := dk_61 (dk_at dksX0_read_0 3 rfl rfl)
theorem dX0_read_4 : decode cX0_read 4 = .ok (.iload_n 2, 1) := dk_28 (dk_at dksX0_read_0 4 rfl rfl)
theorem dX0_read_5 : decode cX0_read 5 = .ok (.aload_n 0, 1) := dk_42 (dk_at dksX0_read_0 5 rfl rfl)
theorem dX0_read_6 : decode cX0_read 6 = .ok (.getfield 413, 3) := dk_180 1 157 (dk_at dksX0_read_0 6 rfl rfl)
theorem dX0_read_9 : decode cX0_read 9 = .ok (.arraylength, 1) := dk_190 (dk_at dksX0_read_0 9 rfl rfl)
theorem dX0_read_10 : decode cX0_read 10 = .ok (.if_icmp .ge 60, 3) := dk_162 0 60 (dk_at dksX0_read_0 10 rfl rfl)
theorem dX0_read_13 : decode cX0_read 13 = .ok (.aload_n 0, 1) := dk_42 (dk_at dksX0_read_0 13 rfl rfl)
theorem dX0_read_14 : decode cX0_read 14 = .ok (.getfield 19, 3) := dk_180 0 19 (dk_at dksX0_read_0 14 rfl rfl)
theorem dX0_read_17 : decode cX0_read 17 = .ok (.getfield 410, 3) := dk_180 1 154 (dk_at dksX0_read_0 17 rfl rfl)
theorem dX0_read_20 : decode cX0_read 20 = .ok (.iload_n 2, 1) := dk_28 (dk_at dksX0_read_0 20 rfl rfl)
theorem dX0_read_21 : decode cX0_read 21 = .ok (.aload_n 0, 1) := dk_42 (dk_at dksX0_read_0 21 rfl rfl)
theorem dX0_read_22 : decode cX0_read 22 = .ok (.getfield 413, 3) := dk_180 1 157 (dk_at dksX0_read_1 0 rfl rfl)
theorem dX0_read_25 : decode cX0_read 25 = .ok (.iload_n 2, 1) := dk_28 (dk_at dksX0_read_1 3 rfl rfl)
theorem dX0_read_26 : decode cX0_read 26 = .ok (.iaload, 1) := dk_46 (dk_at dksX0_read_1 4 rfl rfl)
theorem dX0_read_27 : decode cX0_read 27 = .ok (.invokestatic 407, 3) := dk_184 1 151 (dk_at dksX0_read_1 5 rfl rfl)
theorem dX0_read_30 : decode cX0_read 30 = .ok (.ifCond .eq 12, 3) := dk_153 0 12 (dk_at dksX0_read_1 8 rfl rfl)
theorem dX0_read_33 : decode cX0_read 33 = .ok (.aload_n 0, 1) := dk_42 (dk_at dksX0_read_1 11 rfl rfl)
theorem dX0_read_34 : decode cX0_read 34 = .ok (.getfield 413, 3) := dk_180 1 157 (dk_at dksX0_read_1 12 rfl rfl)
theorem dX0_read_37 : decode cX0_read 37 = .ok (.iload_n 2, 1) := dk_28 (dk_at dksX0_read_1 15 rfl rfl)
theorem dX0_read_38 : decode cX0_read 38 = .ok (.iaload, 1) := dk_46 (dk_at dksX0_read_1 16 rfl rfl)
theorem dX0_read_39 : decode cX0_read 39 = .ok (.goto 4, 3) := dk_167 0 4 (dk_at dksX0_read_1 17 rfl rfl)
theorem dX0_read_42 : decode cX0_read 42 = .ok (.iconst (-1), 1) := dk_2 (dk_at dksX0_read_1 20 rfl rfl)
theorem dX0_read_43 : decode cX0_read 43 = .ok (.iastore, 1) := dk_79 (dk_at dksX0_read_1 21 rfl rfl)
theorem dX0_read_44 : decode cX0_read 44 = .ok (.iload_n 1, 1) := dk_27 (dk_at dksX0_read_1 22 rfl rfl)
theorem dX0_read_45 : decode cX0_read 45 = .ok (.aload_n 0, 1) := dk_42 (dk_at dksX0_read_1 23 rfl rfl)
theorem dX0_read_46 : decode cX0_read 46 = .ok (.getfield 413, 3) := dk_180 1 157 (dk_at dksX0_read_2 0 rfl rfl)
theorem dX0_read_49 : decode cX0_read 49 = .ok (.iload_n 2, 1) := dk_28 (dk_at dksX0_read_2 3 rfl rfl)
theorem dX0_read_50 : decode cX0_read 50 = .ok (.iaload, 1) := dk_46 (dk_at dksX0_read_2 4 rfl rfl)
theorem dX0_read_51 : decode cX0_read 51 = .ok (.invokestatic 407, 3) := dk_184 1 151 (dk_at dksX0_read_2 5 rfl rfl)
theorem dX0_read_54 : decode cX0_read 54 = .ok (.ifCond .eq 7, 3) := dk_153 0 7 (dk_at dksX0_read_2 8 rfl rfl)
theorem dX0_read_57 : decode cX0_read 57 = .ok (.iconst 1, 1) := dk_4 (dk_at dksX0_read_2 11 rfl rfl)
theorem dX0_read_58 : decode cX0_read 58 = .ok (.goto 4, 3) := dk_167 0 4 (dk_at dksX0_read_2 12 rfl rfl)
theorem dX0_read_61 : decode cX0_read 61 = .ok (.iconst 0, 1) := dk_3 (dk_at dksX0_read_2 15 rfl rfl)
theorem dX0_read_62 : decode cX0_read 62 = .ok (.iadd, 1) := dk_96 (dk_at dksX0_read_2 16 rfl rfl)
theorem dX0_read_63 : decode cX0_read 63 = .ok (.istore_n 1, 1) := dk_60 (dk_at dksX0_read_2 17 rfl rfl)
theorem dX0_read_64 : decode cX0_read 64 = .ok (.iinc 2 1, 3) := dk_132 2 1 (dk_at dksX0_read_2 18 rfl rfl)
theorem dX0_read_67 : decode cX0_read 67 = .ok (.goto (-63), 3) := dk_167 255 193 (dk_at dksX0_read_2 21 rfl rfl)
theorem dX0_read_70 : decode cX0_read 70 = .ok (.iload_n 1, 1) := dk_27 (dk_at dksX0_read_3 0 rfl rfl)
theorem dX0_read_71 : decode cX0_read 71 = .ok (.ireturn, 1) := dk_172 (dk_at dksX0_read_3 1 rfl rfl)
theorem dX0_read_72 : decode cX0_read 72 = .ok (.astore_n 1, 1) := dk_76 (dk_at dksX0_read_3 2 rfl rfl)
theorem dX0_read_73 : decode cX0_read 73 = .ok (.aload_n 0, 1) := dk_42 (dk_at dksX0_read_3 3 rfl rfl)
theorem dX0_read_74 : decode cX0_read 74 = .ok (.bipush (-2), 2) := dk_16 254 (dk_at dksX0_read_3 4 rfl rfl)
theorem dX0_read_76 : decode cX0_read 76 = .ok (.invokevirtual 118, 3) := dk_182 0 118 (dk_at dksX0_read_3 6 rfl rfl)
theorem dX0_read_79 : decode cX0_read 79 = .ok (.ireturn, 1) := dk_172 (dk_at dksX0_read_3 9 rfl rfl)
abbrev cX0_watch : ByteArray := prog_1_method_55_code
def yX0_watch : MethodName := ⟨RX0, "watch", "(III)I"⟩
def dkwX0_watch_3 : List UInt8 := [180, 1, 165, 27, 29, 79, 21, 4, 172]
abbrev dktX0_watch_3 : List UInt8 := dkwX0_watch_3 ++ []
def dkwX0_watch_2 : List UInt8 := [180, 0, 19, 180, 1, 162, 27, 46, 54, 4, 42, 180, 0, 19, 180, 1, 162, 27, 28, 79, 42, 180, 0, 19]
abbrev dktX0_watch_2 : List UInt8 := dkwX0_watch_2 ++ dktX0_watch_3
def dkwX0_watch_1 : List UInt8 := [153, 0, 15, 29, 133, 9, 20, 1, 149, 184, 0, 31, 154, 0, 10, 42, 16, 249, 182, 0, 118, 172, 42]
abbrev dktX0_watch_1 : List UInt8 := dkwX0_watch_1 ++ dktX0_watch_2
def dkwX0_watch_0 : List UInt8 := [27, 184, 0, 192, 154, 0, 10, 42, 16, 253, 182, 0, 118, 172, 28, 133, 9, 20, 0, 112, 184, 0, 31]
abbrev dktX0_watch_0 : List UInt8 := dkwX0_watch_0 ++ dktX0_watch_1
theorem dksX0_watch_0 : cX0_watch.data.toList.drop 0 = dktX0_watch_0 := by decide +kernel
theorem dksX0_watch_1 : cX0_watch.data.toList.drop 23 = dktX0_watch_1 := dk_seg dksX0_watch_0 23 rfl rfl
theorem dksX0_watch_2 : cX0_watch.data.toList.drop 46 = dktX0_watch_2 := dk_seg dksX0_watch_1 23 rfl rfl
theorem dksX0_watch_3 : cX0_watch.data.toList.drop 70 = dktX0_watch_3 := dk_seg dksX0_watch_2 24 rfl rfl
theorem dX0_watch_0 : decode cX0_watch 0 = .ok (.iload_n 1, 1) := dk_27 (dk_at dksX0_watch_0 0 rfl rfl)
theorem dX0_watch_1 : decode cX0_watch 1 = .ok (.invokestatic 192, 3) := dk_184 0 192 (dk_at dksX0_watch_0 1 rfl rfl)
theorem dX0_watch_4 : decode cX0_watch 4 = .ok (.ifCond .ne 10, 3) := dk_154 0 10 (dk_at dksX0_watch_0 4 rfl rfl)
theorem dX0_watch_7 : decode cX0_watch 7 = .ok (.aload_n 0, 1) := dk_42 (dk_at dksX0_watch_0 7 rfl rfl)
theorem dX0_watch_8 : decode cX0_watch 8 = .ok (.bipush (-3), 2) := dk_16 253 (dk_at dksX0_watch_0 8 rfl rfl)
theorem dX0_watch_10 : decode cX0_watch 10 = .ok (.invokevirtual 118, 3) := dk_182 0 118 (dk_at dksX0_watch_0 10 rfl rfl)
theorem dX0_watch_13 : decode cX0_watch 13 = .ok (.ireturn, 1) := dk_172 (dk_at dksX0_watch_0 13 rfl rfl)
theorem dX0_watch_14 : decode cX0_watch 14 = .ok (.iload_n 2, 1) := dk_28 (dk_at dksX0_watch_0 14 rfl rfl)
theorem dX0_watch_15 : decode cX0_watch 15 = .ok (.i2l, 1) := dk_133 (dk_at dksX0_watch_0 15 rfl rfl)
theorem dX0_watch_16 : decode cX0_watch 16 = .ok (.lconst 0, 1) := dk_9 (dk_at dksX0_watch_0 16 rfl rfl)
theorem dX0_watch_17 : decode cX0_watch 17 = .ok (.ldc2_w 112, 3) := dk_20 0 112 (dk_at dksX0_watch_0 17 rfl rfl)
theorem dX0_watch_20 : decode cX0_watch 20 = .ok (.invokestatic 31, 3) := dk_184 0 31 (dk_at dksX0_watch_0 20 rfl rfl)
theorem dX0_watch_23 : decode cX0_watch 23 = .ok (.ifCond .eq 15, 3) := dk_153 0 15 (dk_at dksX0_watch_1 0 rfl rfl)
theorem dX0_watch_26 : decode cX0_watch 26 = .ok (.iload_n 3, 1) := dk_29 (dk_at dksX0_watch_1 3 rfl rfl)
theorem dX0_watch_27 : decode cX0_watch 27 = .ok (.i2l, 1) := dk_133 (dk_at dksX0_watch_1 4 rfl rfl)
theorem dX0_watch_28 : decode cX0_watch 28 = .ok (.lconst 0, 1) := dk_9 (dk_at dksX0_watch_1 5 rfl rfl)
theorem dX0_watch_29 : decode cX0_watch 29 = .ok (.ldc2_w 405, 3) := dk_20 1 149 (dk_at dksX0_watch_1 6 rfl rfl)
theorem dX0_watch_32 : decode cX0_watch 32 = .ok (.invokestatic 31, 3) := dk_184 0 31 (dk_at dksX0_watch_1 9 rfl rfl)
theorem dX0_watch_35 : decode cX0_watch 35 = .ok (.ifCond .ne 10, 3) := dk_154 0 10 (dk_at dksX0_watch_1 12 rfl rfl)
theorem dX0_watch_38 : decode cX0_watch 38 = .ok (.aload_n 0, 1) := dk_42 (dk_at dksX0_watch_1 15 rfl rfl)
theorem dX0_watch_39 : decode cX0_watch 39 = .ok (.bipush (-7), 2) := dk_16 249 (dk_at dksX0_watch_1 16 rfl rfl)
theorem dX0_watch_41 : decode cX0_watch 41 = .ok (.invokevirtual 118, 3) := dk_182 0 118 (dk_at dksX0_watch_1 18 rfl rfl)
theorem dX0_watch_44 : decode cX0_watch 44 = .ok (.ireturn, 1) := dk_172 (dk_at dksX0_watch_1 21 rfl rfl)
theorem dX0_watch_45 : decode cX0_watch 45 = .ok (.aload_n 0, 1) := dk_42 (dk_at dksX0_watch_1 22 rfl rfl)
theorem dX0_watch_46 : decode cX0_watch 46 = .ok (.getfield 19, 3) := dk_180 0 19 (dk_at dksX0_watch_2 0 rfl rfl)
theorem dX0_watch_49 : decode cX0_watch 49 = .ok (.getfield 418, 3) := dk_180 1 162 (dk_at dksX0_watch_2 3 rfl rfl)
theorem dX0_watch_52 : decode cX0_watch 52 = .ok (.iload_n 1, 1) := dk_27 (dk_at dksX0_watch_2 6 rfl rfl)
theorem dX0_watch_53 : decode cX0_watch 53 = .ok (.iaload, 1) := dk_46 (dk_at dksX0_watch_2 7 rfl rfl)
theorem dX0_watch_54 : decode cX0_watch 54 = .ok (.istore 4, 2) := dk_54 4 (dk_at dksX0_watch_2 8 rfl rfl)
theorem dX0_watch_56 : decode cX0_watch 56 = .ok (.aload_n 0, 1) := dk_42 (dk_at dksX0_watch_2 10 rfl rfl)
theorem dX0_watch_57 : decode cX0_watch 57 = .ok (.getfield 19, 3) := dk_180 0 19 (dk_at dksX0_watch_2 11 rfl rfl)
theorem dX0_watch_60 : decode cX0_watch 60 = .ok (.getfield 418, 3) := dk_180 1 162 (dk_at dksX0_watch_2 14 rfl rfl)
theorem dX0_watch_63 : decode cX0_watch 63 = .ok (.iload_n 1, 1) := dk_27 (dk_at dksX0_watch_2 17 rfl rfl)
theorem dX0_watch_64 : decode cX0_watch 64 = .ok (.iload_n 2, 1) := dk_28 (dk_at dksX0_watch_2 18 rfl rfl)
theorem dX0_watch_65 : decode cX0_watch 65 = .ok (.iastore, 1) := dk_79 (dk_at dksX0_watch_2 19 rfl rfl)
theorem dX0_watch_66 : decode cX0_watch 66 = .ok (.aload_n 0, 1) := dk_42 (dk_at dksX0_watch_2 20 rfl rfl)
theorem dX0_watch_67 : decode cX0_watch 67 = .ok (.getfield 19, 3) := dk_180 0 19 (dk_at dksX0_watch_2 21 rfl rfl)
theorem dX0_watch_70 : decode cX0_watch 70 = .ok (.getfield 421, 3) := dk_180 1 165 (dk_at dksX0_watch_3 0 rfl rfl)
theorem dX0_watch_73 : decode cX0_watch 73 = .ok (.iload_n 1, 1) := dk_27 (dk_at dksX0_watch_3 3 rfl rfl)
theorem dX0_watch_74 : decode cX0_watch 74 = .ok (.iload_n 3, 1) := dk_29 (dk_at dksX0_watch_3 4 rfl rfl)
theorem dX0_watch_75 : decode cX0_watch 75 = .ok (.iastore, 1) := dk_79 (dk_at dksX0_watch_3 5 rfl rfl)
theorem dX0_watch_76 : decode cX0_watch 76 = .ok (.iload 4, 2) := dk_21 4 (dk_at dksX0_watch_3 6 rfl rfl)
theorem dX0_watch_78 : decode cX0_watch 78 = .ok (.ireturn, 1) := dk_172 (dk_at dksX0_watch_3 8 rfl rfl)
abbrev cX0_run : ByteArray := prog_1_method_57_code
def yX0_run : MethodName := ⟨RX0, "run", "(I)I"⟩
def dkwX0_run_3 : List UInt8 := [42, 180, 0, 19, 184, 1, 174, 172]
abbrev dktX0_run_3 : List UInt8 := dkwX0_run_3 ++ []
def dkwX0_run_2 : List UInt8 := [182, 0, 118, 172, 3, 61, 28, 27, 162, 0, 16, 42, 180, 0, 19, 182, 1, 171, 132, 2, 1, 167, 255, 241]
abbrev dktX0_run_2 : List UInt8 := dkwX0_run_2 ++ dktX0_run_3
def dkwX0_run_1 : List UInt8 := [182, 0, 118, 172, 42, 180, 0, 19, 180, 1, 88, 27, 96, 17, 1, 144, 164, 0, 10, 42, 16, 248]
abbrev dktX0_run_1 : List UInt8 := dkwX0_run_1 ++ dktX0_run_2
def dkwX0_run_0 : List UInt8 := [27, 156, 0, 10, 42, 16, 252, 182, 0, 118, 172, 27, 153, 0, 9, 27, 16, 40, 164, 0, 10, 42, 16, 249]
abbrev dktX0_run_0 : List UInt8 := dkwX0_run_0 ++ dktX0_run_1
theorem dksX0_run_0 : cX0_run.data.toList.drop 0 = dktX0_run_0 := by decide +kernel
theorem dksX0_run_1 : cX0_run.data.toList.drop 24 = dktX0_run_1 := dk_seg dksX0_run_0 24 rfl rfl
theorem dksX0_run_2 : cX0_run.data.toList.drop 46 = dktX0_run_2 := dk_seg dksX0_run_1 22 rfl rfl
theorem dksX0_run_3 : cX0_run.data.toList.drop 70 = dktX0_run_3 := dk_seg dksX0_run_2 24 rfl rfl
theorem dX0_run_0 : decode cX0_run 0 = .ok (.iload_n 1, 1) := dk_27 (dk_at dksX0_run_0 0 rfl rfl)
theorem dX0_run_1 : decode cX0_run 1 = .ok (.ifCond .ge 10, 3) := dk_156 0 10 (dk_at dksX0_run_0 1 rfl rfl)
theorem dX0_run_4 : decode cX0_run 4 = .ok (.aload_n 0, 1) := dk_42 (dk_at dksX0_run_0 4 rfl rfl)
theorem dX0_run_5 : decode cX0_run 5 = .ok (.bipush (-4), 2) := dk_16 252 (dk_at dksX0_run_0 5 rfl rfl)
theorem dX0_run_7 : decode cX0_run 7 = .ok (.invokevirtual 118, 3) := dk_182 0 118 (dk_at dksX0_run_0 7 rfl rfl)
theorem dX0_run_10 : decode cX0_run 10 = .ok (.ireturn, 1) := dk_172 (dk_at dksX0_run_0 10 rfl rfl)
theorem dX0_run_11 : decode cX0_run 11 = .ok (.iload_n 1, 1) := dk_27 (dk_at dksX0_run_0 11 rfl rfl)
theorem dX0_run_12 : decode cX0_run 12 = .ok (.ifCond .eq 9, 3) := dk_153 0 9 (dk_at dksX0_run_0 12 rfl rfl)
theorem dX0_run_15 : decode cX0_run 15 = .ok (.iload_n 1, 1) := dk_27 (dk_at dksX0_run_0 15 rfl rfl)
theorem dX0_run_16 : decode cX0_run 16 = .ok (.bipush 40, 2) := dk_16 40 (dk_at dksX0_run_0 16 rfl rfl)
theorem dX0_run_18 : decode cX0_run 18 = .ok (.if_icmp .le 10, 3) := dk_164 0 10 (dk_at dksX0_run_0 18 rfl rfl)
theorem dX0_run_21 : decode cX0_run 21 = .ok (.aload_n 0, 1) := dk_42 (dk_at dksX0_run_0 21 rfl rfl)
theorem dX0_run_22 : decode cX0_run 22 = .ok (.bipush (-7), 2) := dk_16 249 (dk_at dksX0_run_0 22 rfl rfl)
theorem dX0_run_24 : decode cX0_run 24 = .ok (.invokevirtual 118, 3) := dk_182 0 118 (dk_at dksX0_run_1 0 rfl rfl)
theorem dX0_run_27 : decode cX0_run 27 = .ok (.ireturn, 1) := dk_172 (dk_at dksX0_run_1 3 rfl rfl)
theorem dX0_run_28 : decode cX0_run 28 = .ok (.aload_n 0, 1) := dk_42 (dk_at dksX0_run_1 4 rfl rfl)
theorem dX0_run_29 : decode cX0_run 29 = .ok (.getfield 19, 3) := dk_180 0 19 (dk_at dksX0_run_1 5 rfl rfl)
theorem dX0_run_32 : decode cX0_run 32 = .ok (.getfield 344, 3) := dk_180 1 88 (dk_at dksX0_run_1 8 rfl rfl)
theorem dX0_run_35 : decode cX0_run 35 = .ok (.iload_n 1, 1) := dk_27 (dk_at dksX0_run_1 11 rfl rfl)
theorem dX0_run_36 : decode cX0_run 36 = .ok (.iadd, 1) := dk_96 (dk_at dksX0_run_1 12 rfl rfl)
theorem dX0_run_37 : decode cX0_run 37 = .ok (.sipush 400, 3) := dk_17 1 144 (dk_at dksX0_run_1 13 rfl rfl)
theorem dX0_run_40 : decode cX0_run 40 = .ok (.if_icmp .le 10, 3) := dk_164 0 10 (dk_at dksX0_run_1 16 rfl rfl)
theorem dX0_run_43 : decode cX0_run 43 = .ok (.aload_n 0, 1) := dk_42 (dk_at dksX0_run_1 19 rfl rfl)
theorem dX0_run_44 : decode cX0_run 44 = .ok (.bipush (-8), 2) := dk_16 248 (dk_at dksX0_run_1 20 rfl rfl)
theorem dX0_run_46 : decode cX0_run 46 = .ok (.invokevirtual 118, 3) := dk_182 0 118 (dk_at dksX0_run_2 0 rfl rfl)
theorem dX0_run_49 : decode cX0_run 49 = .ok (.ireturn, 1) := dk_172 (dk_at dksX0_run_2 3 rfl rfl)
theorem dX0_run_50 : decode cX0_run 50 = .ok (.iconst 0, 1) := dk_3 (dk_at dksX0_run_2 4 rfl rfl)
theorem dX0_run_51 : decode cX0_run 51 = .ok (.istore_n 2, 1) := dk_61 (dk_at dksX0_run_2 5 rfl rfl)
theorem dX0_run_52 : decode cX0_run 52 = .ok (.iload_n 2, 1) := dk_28 (dk_at dksX0_run_2 6 rfl rfl)
theorem dX0_run_53 : decode cX0_run 53 = .ok (.iload_n 1, 1) := dk_27 (dk_at dksX0_run_2 7 rfl rfl)
theorem dX0_run_54 : decode cX0_run 54 = .ok (.if_icmp .ge 16, 3) := dk_162 0 16 (dk_at dksX0_run_2 8 rfl rfl)
theorem dX0_run_57 : decode cX0_run 57 = .ok (.aload_n 0, 1) := dk_42 (dk_at dksX0_run_2 11 rfl rfl)
theorem dX0_run_58 : decode cX0_run 58 = .ok (.getfield 19, 3) := dk_180 0 19 (dk_at dksX0_run_2 12 rfl rfl)
theorem dX0_run_61 : decode cX0_run 61 = .ok (.invokevirtual 427, 3) := dk_182 1 171 (dk_at dksX0_run_2 15 rfl rfl)
theorem dX0_run_64 : decode cX0_run 64 = .ok (.iinc 2 1, 3) := dk_132 2 1 (dk_at dksX0_run_2 18 rfl rfl)
theorem dX0_run_67 : decode cX0_run 67 = .ok (.goto (-15), 3) := dk_167 255 241 (dk_at dksX0_run_2 21 rfl rfl)
theorem dX0_run_70 : decode cX0_run 70 = .ok (.aload_n 0, 1) := dk_42 (dk_at dksX0_run_3 0 rfl rfl)
theorem dX0_run_71 : decode cX0_run 71 = .ok (.getfield 19, 3) := dk_180 0 19 (dk_at dksX0_run_3 1 rfl rfl)
theorem dX0_run_74 : decode cX0_run 74 = .ok (.invokestatic 430, 3) := dk_184 1 174 (dk_at dksX0_run_3 4 rfl rfl)
theorem dX0_run_77 : decode cX0_run 77 = .ok (.ireturn, 1) := dk_172 (dk_at dksX0_run_3 7 rfl rfl)
abbrev cX0_bareOf : ByteArray := prog_1_method_56_code
def yX0_bareOf : MethodName := ⟨RX0, "bareOf", "(LWoodState$Forest;)I"⟩
def dkwX0_bareOf_1 : List UInt8 := [167, 0, 4, 3, 96, 60, 132, 2, 1, 167, 255, 229, 27, 172]
abbrev dktX0_bareOf_1 : List UInt8 := dkwX0_bareOf_1 ++ []
def dkwX0_bareOf_0 : List UInt8 := [3, 60, 3, 61, 28, 42, 180, 0, 23, 162, 0, 25, 27, 42, 28, 182, 1, 168, 153, 0, 7, 4]
abbrev dktX0_bareOf_0 : List UInt8 := dkwX0_bareOf_0 ++ dktX0_bareOf_1
theorem dksX0_bareOf_0 : cX0_bareOf.data.toList.drop 0 = dktX0_bareOf_0 := by decide +kernel
theorem dksX0_bareOf_1 : cX0_bareOf.data.toList.drop 22 = dktX0_bareOf_1 := dk_seg dksX0_bareOf_0 22 rfl rfl
theorem dX0_bareOf_0 : decode cX0_bareOf 0 = .ok (.iconst 0, 1) := dk_3 (dk_at dksX0_bareOf_0 0 rfl rfl)
theorem dX0_bareOf_1 : decode cX0_bareOf 1 = .ok (.istore_n 1, 1) := dk_60 (dk_at dksX0_bareOf_0 1 rfl rfl)
theorem dX0_bareOf_2 : decode cX0_bareOf 2 = .ok (.iconst 0, 1) := dk_3 (dk_at dksX0_bareOf_0 2 rfl rfl)
theorem dX0_bareOf_3 : decode cX0_bareOf 3 = .ok (.istore_n 2, 1) := dk_61 (dk_at dksX0_bareOf_0 3 rfl rfl)
theorem dX0_bareOf_4 : decode cX0_bareOf 4 = .ok (.iload_n 2, 1) := dk_28 (dk_at dksX0_bareOf_0 4 rfl rfl)
theorem dX0_bareOf_5 : decode cX0_bareOf 5 = .ok (.aload_n 0, 1) := dk_42 (dk_at dksX0_bareOf_0 5 rfl rfl)
theorem dX0_bareOf_6 : decode cX0_bareOf 6 = .ok (.getfield 23, 3) := dk_180 0 23 (dk_at dksX0_bareOf_0 6 rfl rfl)
theorem dX0_bareOf_9 : decode cX0_bareOf 9 = .ok (.if_icmp .ge 25, 3) := dk_162 0 25 (dk_at dksX0_bareOf_0 9 rfl rfl)
theorem dX0_bareOf_12 : decode cX0_bareOf 12 = .ok (.iload_n 1, 1) := dk_27 (dk_at dksX0_bareOf_0 12 rfl rfl)
theorem dX0_bareOf_13 : decode cX0_bareOf 13 = .ok (.aload_n 0, 1) := dk_42 (dk_at dksX0_bareOf_0 13 rfl rfl)
theorem dX0_bareOf_14 : decode cX0_bareOf 14 = .ok (.iload_n 2, 1) := dk_28 (dk_at dksX0_bareOf_0 14 rfl rfl)
theorem dX0_bareOf_15 : decode cX0_bareOf 15 = .ok (.invokevirtual 424, 3) := dk_182 1 168 (dk_at dksX0_bareOf_0 15 rfl rfl)
theorem dX0_bareOf_18 : decode cX0_bareOf 18 = .ok (.ifCond .eq 7, 3) := dk_153 0 7 (dk_at dksX0_bareOf_0 18 rfl rfl)
theorem dX0_bareOf_21 : decode cX0_bareOf 21 = .ok (.iconst 1, 1) := dk_4 (dk_at dksX0_bareOf_0 21 rfl rfl)
theorem dX0_bareOf_22 : decode cX0_bareOf 22 = .ok (.goto 4, 3) := dk_167 0 4 (dk_at dksX0_bareOf_1 0 rfl rfl)
theorem dX0_bareOf_25 : decode cX0_bareOf 25 = .ok (.iconst 0, 1) := dk_3 (dk_at dksX0_bareOf_1 3 rfl rfl)
theorem dX0_bareOf_26 : decode cX0_bareOf 26 = .ok (.iadd, 1) := dk_96 (dk_at dksX0_bareOf_1 4 rfl rfl)
theorem dX0_bareOf_27 : decode cX0_bareOf 27 = .ok (.istore_n 1, 1) := dk_60 (dk_at dksX0_bareOf_1 5 rfl rfl)
theorem dX0_bareOf_28 : decode cX0_bareOf 28 = .ok (.iinc 2 1, 3) := dk_132 2 1 (dk_at dksX0_bareOf_1 6 rfl rfl)
theorem dX0_bareOf_31 : decode cX0_bareOf 31 = .ok (.goto (-27), 3) := dk_167 255 229 (dk_at dksX0_bareOf_1 9 rfl rfl)
theorem dX0_bareOf_34 : decode cX0_bareOf 34 = .ok (.iload_n 1, 1) := dk_27 (dk_at dksX0_bareOf_1 12 rfl rfl)
theorem dX0_bareOf_35 : decode cX0_bareOf 35 = .ok (.ireturn, 1) := dk_172 (dk_at dksX0_bareOf_1 13 rfl rfl)
abbrev cX0_count : ByteArray := prog_1_method_58_code
def yX0_count : MethodName := ⟨RX0, "count", "(II)I"⟩
def dkwX0_count_2 : List UInt8 := [167, 0, 9, 42, 16, 249, 182, 0, 118, 172]
abbrev dktX0_count_2 : List UInt8 := dkwX0_count_2 ++ []
def dkwX0_count_1 : List UInt8 := [153, 0, 26, 42, 180, 0, 19, 27, 182, 1, 168, 154, 0, 15, 42, 180, 0, 19, 27, 28, 182, 1, 180]
abbrev dktX0_count_1 : List UInt8 := dkwX0_count_1 ++ dktX0_count_2
def dkwX0_count_0 : List UInt8 := [42, 27, 182, 0, 148, 154, 0, 10, 42, 16, 253, 182, 0, 118, 172, 28, 133, 10, 20, 1, 178, 184, 0, 31]
abbrev dktX0_count_0 : List UInt8 := dkwX0_count_0 ++ dktX0_count_1
theorem dksX0_count_0 : cX0_count.data.toList.drop 0 = dktX0_count_0 := by decide +kernel
theorem dksX0_count_1 : cX0_count.data.toList.drop 24 = dktX0_count_1 := dk_seg dksX0_count_0 24 rfl rfl
theorem dksX0_count_2 : cX0_count.data.toList.drop 47 = dktX0_count_2 := dk_seg dksX0_count_1 23 rfl rfl
theorem dX0_count_0 : decode cX0_count 0 = .ok (.aload_n 0, 1) := dk_42 (dk_at dksX0_count_0 0 rfl rfl)
theorem dX0_count_1 : decode cX0_count 1 = .ok (.iload_n 1, 1) := dk_27 (dk_at dksX0_count_0 1 rfl rfl)
theorem dX0_count_2 : decode cX0_count 2 = .ok (.invokevirtual 148, 3) := dk_182 0 148 (dk_at dksX0_count_0 2 rfl rfl)
theorem dX0_count_5 : decode cX0_count 5 = .ok (.ifCond .ne 10, 3) := dk_154 0 10 (dk_at dksX0_count_0 5 rfl rfl)
theorem dX0_count_8 : decode cX0_count 8 = .ok (.aload_n 0, 1) := dk_42 (dk_at dksX0_count_0 8 rfl rfl)
theorem dX0_count_9 : decode cX0_count 9 = .ok (.bipush (-3), 2) := dk_16 253 (dk_at dksX0_count_0 9 rfl rfl)
theorem dX0_count_11 : decode cX0_count 11 = .ok (.invokevirtual 118, 3) := dk_182 0 118 (dk_at dksX0_count_0 11 rfl rfl)
theorem dX0_count_14 : decode cX0_count 14 = .ok (.ireturn, 1) := dk_172 (dk_at dksX0_count_0 14 rfl rfl)
theorem dX0_count_15 : decode cX0_count 15 = .ok (.iload_n 2, 1) := dk_28 (dk_at dksX0_count_0 15 rfl rfl)
theorem dX0_count_16 : decode cX0_count 16 = .ok (.i2l, 1) := dk_133 (dk_at dksX0_count_0 16 rfl rfl)
theorem dX0_count_17 : decode cX0_count 17 = .ok (.lconst 1, 1) := dk_10 (dk_at dksX0_count_0 17 rfl rfl)
theorem dX0_count_18 : decode cX0_count 18 = .ok (.ldc2_w 434, 3) := dk_20 1 178 (dk_at dksX0_count_0 18 rfl rfl)
theorem dX0_count_21 : decode cX0_count 21 = .ok (.invokestatic 31, 3) := dk_184 0 31 (dk_at dksX0_count_0 21 rfl rfl)
theorem dX0_count_24 : decode cX0_count 24 = .ok (.ifCond .eq 26, 3) := dk_153 0 26 (dk_at dksX0_count_1 0 rfl rfl)
theorem dX0_count_27 : decode cX0_count 27 = .ok (.aload_n 0, 1) := dk_42 (dk_at dksX0_count_1 3 rfl rfl)
theorem dX0_count_28 : decode cX0_count 28 = .ok (.getfield 19, 3) := dk_180 0 19 (dk_at dksX0_count_1 4 rfl rfl)
theorem dX0_count_31 : decode cX0_count 31 = .ok (.iload_n 1, 1) := dk_27 (dk_at dksX0_count_1 7 rfl rfl)
theorem dX0_count_32 : decode cX0_count 32 = .ok (.invokevirtual 424, 3) := dk_182 1 168 (dk_at dksX0_count_1 8 rfl rfl)
theorem dX0_count_35 : decode cX0_count 35 = .ok (.ifCond .ne 15, 3) := dk_154 0 15 (dk_at dksX0_count_1 11 rfl rfl)
theorem dX0_count_38 : decode cX0_count 38 = .ok (.aload_n 0, 1) := dk_42 (dk_at dksX0_count_1 14 rfl rfl)
theorem dX0_count_39 : decode cX0_count 39 = .ok (.getfield 19, 3) := dk_180 0 19 (dk_at dksX0_count_1 15 rfl rfl)
theorem dX0_count_42 : decode cX0_count 42 = .ok (.iload_n 1, 1) := dk_27 (dk_at dksX0_count_1 18 rfl rfl)
theorem dX0_count_43 : decode cX0_count 43 = .ok (.iload_n 2, 1) := dk_28 (dk_at dksX0_count_1 19 rfl rfl)
theorem dX0_count_44 : decode cX0_count 44 = .ok (.invokevirtual 436, 3) := dk_182 1 180 (dk_at dksX0_count_1 20 rfl rfl)
theorem dX0_count_47 : decode cX0_count 47 = .ok (.goto 9, 3) := dk_167 0 9 (dk_at dksX0_count_2 0 rfl rfl)
theorem dX0_count_50 : decode cX0_count 50 = .ok (.aload_n 0, 1) := dk_42 (dk_at dksX0_count_2 3 rfl rfl)
theorem dX0_count_51 : decode cX0_count 51 = .ok (.bipush (-7), 2) := dk_16 249 (dk_at dksX0_count_2 4 rfl rfl)
theorem dX0_count_53 : decode cX0_count 53 = .ok (.invokevirtual 118, 3) := dk_182 0 118 (dk_at dksX0_count_2 6 rfl rfl)
theorem dX0_count_56 : decode cX0_count 56 = .ok (.ireturn, 1) := dk_172 (dk_at dksX0_count_2 9 rfl rfl)
abbrev cX0_counted : ByteArray := prog_1_method_59_code
def yX0_counted : MethodName := ⟨RX0, "counted", "(III)I"⟩
def dkwX0_counted_3 : List UInt8 := [180, 0, 19, 27, 28, 29, 182, 1, 186, 172]
abbrev dktX0_counted_3 : List UInt8 := dkwX0_counted_3 ++ []
def dkwX0_counted_2 : List UInt8 := [16, 249, 182, 0, 118, 172, 29, 8, 160, 0, 15, 42, 180, 0, 19, 27, 28, 182, 1, 183, 167, 0, 13, 42]
abbrev dktX0_counted_2 : List UInt8 := dkwX0_counted_2 ++ dktX0_counted_3
def dkwX0_counted_1 : List UInt8 := [161, 0, 10, 42, 16, 253, 182, 0, 118, 172, 29, 133, 9, 20, 0, 29, 184, 0, 31, 154, 0, 10, 42]
abbrev dktX0_counted_1 : List UInt8 := dkwX0_counted_1 ++ dktX0_counted_2
def dkwX0_counted_0 : List UInt8 := [42, 27, 182, 0, 148, 153, 0, 20, 28, 155, 0, 16, 28, 42, 180, 0, 19, 180, 0, 173, 27, 46]
abbrev dktX0_counted_0 : List UInt8 := dkwX0_counted_0 ++ dktX0_counted_1
theorem dksX0_counted_0 : cX0_counted.data.toList.drop 0 = dktX0_counted_0 := by decide +kernel
theorem dksX0_counted_1 : cX0_counted.data.toList.drop 22 = dktX0_counted_1 := dk_seg dksX0_counted_0 22 rfl rfl
theorem dksX0_counted_2 : cX0_counted.data.toList.drop 45 = dktX0_counted_2 := dk_seg dksX0_counted_1 23 rfl rfl
theorem dksX0_counted_3 : cX0_counted.data.toList.drop 69 = dktX0_counted_3 := dk_seg dksX0_counted_2 24 rfl rfl
theorem dX0_counted_0 : decode cX0_counted 0 = .ok (.aload_n 0, 1) := dk_42 (dk_at dksX0_counted_0 0 rfl rfl)
theorem dX0_counted_1 : decode cX0_counted 1 = .ok (.iload_n 1, 1) := dk_27 (dk_at dksX0_counted_0 1 rfl rfl)
theorem dX0_counted_2 : decode cX0_counted 2 = .ok (.invokevirtual 148, 3) := dk_182 0 148 (dk_at dksX0_counted_0 2 rfl rfl)
theorem dX0_counted_5 : decode cX0_counted 5 = .ok (.ifCond .eq 20, 3) := dk_153 0 20 (dk_at dksX0_counted_0 5 rfl rfl)
theorem dX0_counted_8 : decode cX0_counted 8 = .ok (.iload_n 2, 1) := dk_28 (dk_at dksX0_counted_0 8 rfl rfl)
theorem dX0_counted_9 : decode cX0_counted 9 = .ok (.ifCond .lt 16, 3) := dk_155 0 16 (dk_at dksX0_counted_0 9 rfl rfl)
theorem dX0_counted_12 : decode cX0_counted 12 = .ok (.iload_n 2, 1) := dk_28 (dk_at dksX0_counted_0 12 rfl rfl)
theorem dX0_counted_13 : decode cX0_counted 13 = .ok (.aload_n 0, 1) := dk_42 (dk_at dksX0_counted_0 13 rfl rfl)
theorem dX0_counted_14 : decode cX0_counted 14 = .ok (.getfield 19, 3) := dk_180 0 19 (dk_at dksX0_counted_0 14 rfl rfl)
theorem dX0_counted_17 : decode cX0_counted 17 = .ok (.getfield 173, 3) := dk_180 0 173 (dk_at dksX0_counted_0 17 rfl rfl)
theorem dX0_counted_20 : decode cX0_counted 20 = .ok (.iload_n 1, 1) := dk_27 (dk_at dksX0_counted_0 20 rfl rfl)
theorem dX0_counted_21 : decode cX0_counted 21 = .ok (.iaload, 1) := dk_46 (dk_at dksX0_counted_0 21 rfl rfl)
theorem dX0_counted_22 : decode cX0_counted 22 = .ok (.if_icmp .lt 10, 3) := dk_161 0 10 (dk_at dksX0_counted_1 0 rfl rfl)
theorem dX0_counted_25 : decode cX0_counted 25 = .ok (.aload_n 0, 1) := dk_42 (dk_at dksX0_counted_1 3 rfl rfl)
theorem dX0_counted_26 : decode cX0_counted 26 = .ok (.bipush (-3), 2) := dk_16 253 (dk_at dksX0_counted_1 4 rfl rfl)
theorem dX0_counted_28 : decode cX0_counted 28 = .ok (.invokevirtual 118, 3) := dk_182 0 118 (dk_at dksX0_counted_1 6 rfl rfl)
theorem dX0_counted_31 : decode cX0_counted 31 = .ok (.ireturn, 1) := dk_172 (dk_at dksX0_counted_1 9 rfl rfl)
theorem dX0_counted_32 : decode cX0_counted 32 = .ok (.iload_n 3, 1) := dk_29 (dk_at dksX0_counted_1 10 rfl rfl)
theorem dX0_counted_33 : decode cX0_counted 33 = .ok (.i2l, 1) := dk_133 (dk_at dksX0_counted_1 11 rfl rfl)
theorem dX0_counted_34 : decode cX0_counted 34 = .ok (.lconst 0, 1) := dk_9 (dk_at dksX0_counted_1 12 rfl rfl)
theorem dX0_counted_35 : decode cX0_counted 35 = .ok (.ldc2_w 29, 3) := dk_20 0 29 (dk_at dksX0_counted_1 13 rfl rfl)
theorem dX0_counted_38 : decode cX0_counted 38 = .ok (.invokestatic 31, 3) := dk_184 0 31 (dk_at dksX0_counted_1 16 rfl rfl)
theorem dX0_counted_41 : decode cX0_counted 41 = .ok (.ifCond .ne 10, 3) := dk_154 0 10 (dk_at dksX0_counted_1 19 rfl rfl)
theorem dX0_counted_44 : decode cX0_counted 44 = .ok (.aload_n 0, 1) := dk_42 (dk_at dksX0_counted_1 22 rfl rfl)
theorem dX0_counted_45 : decode cX0_counted 45 = .ok (.bipush (-7), 2) := dk_16 249 (dk_at dksX0_counted_2 0 rfl rfl)
theorem dX0_counted_47 : decode cX0_counted 47 = .ok (.invokevirtual 118, 3) := dk_182 0 118 (dk_at dksX0_counted_2 2 rfl rfl)
theorem dX0_counted_50 : decode cX0_counted 50 = .ok (.ireturn, 1) := dk_172 (dk_at dksX0_counted_2 5 rfl rfl)
theorem dX0_counted_51 : decode cX0_counted 51 = .ok (.iload_n 3, 1) := dk_29 (dk_at dksX0_counted_2 6 rfl rfl)
theorem dX0_counted_52 : decode cX0_counted 52 = .ok (.iconst 5, 1) := dk_8 (dk_at dksX0_counted_2 7 rfl rfl)
theorem dX0_counted_53 : decode cX0_counted 53 = .ok (.if_icmp .ne 15, 3) := dk_160 0 15 (dk_at dksX0_counted_2 8 rfl rfl)
theorem dX0_counted_56 : decode cX0_counted 56 = .ok (.aload_n 0, 1) := dk_42 (dk_at dksX0_counted_2 11 rfl rfl)
theorem dX0_counted_57 : decode cX0_counted 57 = .ok (.getfield 19, 3) := dk_180 0 19 (dk_at dksX0_counted_2 12 rfl rfl)
theorem dX0_counted_60 : decode cX0_counted 60 = .ok (.iload_n 1, 1) := dk_27 (dk_at dksX0_counted_2 15 rfl rfl)
theorem dX0_counted_61 : decode cX0_counted 61 = .ok (.iload_n 2, 1) := dk_28 (dk_at dksX0_counted_2 16 rfl rfl)
theorem dX0_counted_62 : decode cX0_counted 62 = .ok (.invokevirtual 439, 3) := dk_182 1 183 (dk_at dksX0_counted_2 17 rfl rfl)
theorem dX0_counted_65 : decode cX0_counted 65 = .ok (.goto 13, 3) := dk_167 0 13 (dk_at dksX0_counted_2 20 rfl rfl)
theorem dX0_counted_68 : decode cX0_counted 68 = .ok (.aload_n 0, 1) := dk_42 (dk_at dksX0_counted_2 23 rfl rfl)
theorem dX0_counted_69 : decode cX0_counted 69 = .ok (.getfield 19, 3) := dk_180 0 19 (dk_at dksX0_counted_3 0 rfl rfl)
theorem dX0_counted_72 : decode cX0_counted 72 = .ok (.iload_n 1, 1) := dk_27 (dk_at dksX0_counted_3 3 rfl rfl)
theorem dX0_counted_73 : decode cX0_counted 73 = .ok (.iload_n 2, 1) := dk_28 (dk_at dksX0_counted_3 4 rfl rfl)
theorem dX0_counted_74 : decode cX0_counted 74 = .ok (.iload_n 3, 1) := dk_29 (dk_at dksX0_counted_3 5 rfl rfl)
theorem dX0_counted_75 : decode cX0_counted 75 = .ok (.invokevirtual 442, 3) := dk_182 1 186 (dk_at dksX0_counted_3 6 rfl rfl)
theorem dX0_counted_78 : decode cX0_counted 78 = .ok (.ireturn, 1) := dk_172 (dk_at dksX0_counted_3 9 rfl rfl)
abbrev cX0_lack : ByteArray := prog_1_method_60_code
def yX0_lack : MethodName := ⟨RX0, "lack", "(I)I"⟩
def dkwX0_lack_1 : List UInt8 := [5, 162, 0, 12, 42, 16, 254, 182, 0, 118, 167, 0, 11, 42, 180, 0, 19, 27, 182, 1, 39, 172]
abbrev dktX0_lack_1 : List UInt8 := dkwX0_lack_1 ++ []
def dkwX0_lack_0 : List UInt8 := [42, 27, 182, 0, 148, 154, 0, 10, 42, 16, 253, 182, 0, 118, 172, 42, 180, 0, 19, 180, 0, 173, 27, 46]
abbrev dktX0_lack_0 : List UInt8 := dkwX0_lack_0 ++ dktX0_lack_1
theorem dksX0_lack_0 : cX0_lack.data.toList.drop 0 = dktX0_lack_0 := by decide +kernel
theorem dksX0_lack_1 : cX0_lack.data.toList.drop 24 = dktX0_lack_1 := dk_seg dksX0_lack_0 24 rfl rfl
theorem dX0_lack_0 : decode cX0_lack 0 = .ok (.aload_n 0, 1) := dk_42 (dk_at dksX0_lack_0 0 rfl rfl)
theorem dX0_lack_1 : decode cX0_lack 1 = .ok (.iload_n 1, 1) := dk_27 (dk_at dksX0_lack_0 1 rfl rfl)
theorem dX0_lack_2 : decode cX0_lack 2 = .ok (.invokevirtual 148, 3) := dk_182 0 148 (dk_at dksX0_lack_0 2 rfl rfl)
theorem dX0_lack_5 : decode cX0_lack 5 = .ok (.ifCond .ne 10, 3) := dk_154 0 10 (dk_at dksX0_lack_0 5 rfl rfl)
theorem dX0_lack_8 : decode cX0_lack 8 = .ok (.aload_n 0, 1) := dk_42 (dk_at dksX0_lack_0 8 rfl rfl)
theorem dX0_lack_9 : decode cX0_lack 9 = .ok (.bipush (-3), 2) := dk_16 253 (dk_at dksX0_lack_0 9 rfl rfl)
theorem dX0_lack_11 : decode cX0_lack 11 = .ok (.invokevirtual 118, 3) := dk_182 0 118 (dk_at dksX0_lack_0 11 rfl rfl)
theorem dX0_lack_14 : decode cX0_lack 14 = .ok (.ireturn, 1) := dk_172 (dk_at dksX0_lack_0 14 rfl rfl)
theorem dX0_lack_15 : decode cX0_lack 15 = .ok (.aload_n 0, 1) := dk_42 (dk_at dksX0_lack_0 15 rfl rfl)
theorem dX0_lack_16 : decode cX0_lack 16 = .ok (.getfield 19, 3) := dk_180 0 19 (dk_at dksX0_lack_0 16 rfl rfl)
theorem dX0_lack_19 : decode cX0_lack 19 = .ok (.getfield 173, 3) := dk_180 0 173 (dk_at dksX0_lack_0 19 rfl rfl)
theorem dX0_lack_22 : decode cX0_lack 22 = .ok (.iload_n 1, 1) := dk_27 (dk_at dksX0_lack_0 22 rfl rfl)
theorem dX0_lack_23 : decode cX0_lack 23 = .ok (.iaload, 1) := dk_46 (dk_at dksX0_lack_0 23 rfl rfl)
theorem dX0_lack_24 : decode cX0_lack 24 = .ok (.iconst 2, 1) := dk_5 (dk_at dksX0_lack_1 0 rfl rfl)
theorem dX0_lack_25 : decode cX0_lack 25 = .ok (.if_icmp .ge 12, 3) := dk_162 0 12 (dk_at dksX0_lack_1 1 rfl rfl)
theorem dX0_lack_28 : decode cX0_lack 28 = .ok (.aload_n 0, 1) := dk_42 (dk_at dksX0_lack_1 4 rfl rfl)
theorem dX0_lack_29 : decode cX0_lack 29 = .ok (.bipush (-2), 2) := dk_16 254 (dk_at dksX0_lack_1 5 rfl rfl)
theorem dX0_lack_31 : decode cX0_lack 31 = .ok (.invokevirtual 118, 3) := dk_182 0 118 (dk_at dksX0_lack_1 7 rfl rfl)
theorem dX0_lack_34 : decode cX0_lack 34 = .ok (.goto 11, 3) := dk_167 0 11 (dk_at dksX0_lack_1 10 rfl rfl)
theorem dX0_lack_37 : decode cX0_lack 37 = .ok (.aload_n 0, 1) := dk_42 (dk_at dksX0_lack_1 13 rfl rfl)
theorem dX0_lack_38 : decode cX0_lack 38 = .ok (.getfield 19, 3) := dk_180 0 19 (dk_at dksX0_lack_1 14 rfl rfl)
theorem dX0_lack_41 : decode cX0_lack 41 = .ok (.iload_n 1, 1) := dk_27 (dk_at dksX0_lack_1 17 rfl rfl)
theorem dX0_lack_42 : decode cX0_lack 42 = .ok (.invokevirtual 295, 3) := dk_182 1 39 (dk_at dksX0_lack_1 18 rfl rfl)
theorem dX0_lack_45 : decode cX0_lack 45 = .ok (.ireturn, 1) := dk_172 (dk_at dksX0_lack_1 21 rfl rfl)
abbrev cX0_plan : ByteArray := prog_1_method_76_code
def yX0_plan : MethodName := ⟨RX0, "plan", "(II)J"⟩
def dkwX0_plan_0 : List UInt8 := [42, 27, 28, 182, 2, 33, 173, 78, 42, 45, 180, 1, 32, 182, 0, 118, 133, 173]
abbrev dktX0_plan_0 : List UInt8 := dkwX0_plan_0 ++ []
theorem dksX0_plan_0 : cX0_plan.data.toList.drop 0 = dktX0_plan_0 := by decide +kernel
theorem dX0_plan_0 : decode cX0_plan 0 = .ok (.aload_n 0, 1) := dk_42 (dk_at dksX0_plan_0 0 rfl rfl)
theorem dX0_plan_1 : decode cX0_plan 1 = .ok (.iload_n 1, 1) := dk_27 (dk_at dksX0_plan_0 1 rfl rfl)
theorem dX0_plan_2 : decode cX0_plan 2 = .ok (.iload_n 2, 1) := dk_28 (dk_at dksX0_plan_0 2 rfl rfl)
theorem dX0_plan_3 : decode cX0_plan 3 = .ok (.invokevirtual 545, 3) := dk_182 2 33 (dk_at dksX0_plan_0 3 rfl rfl)
theorem dX0_plan_6 : decode cX0_plan 6 = .ok (.lreturn, 1) := dk_173 (dk_at dksX0_plan_0 6 rfl rfl)
theorem dX0_plan_7 : decode cX0_plan 7 = .ok (.astore_n 3, 1) := dk_78 (dk_at dksX0_plan_0 7 rfl rfl)
theorem dX0_plan_8 : decode cX0_plan 8 = .ok (.aload_n 0, 1) := dk_42 (dk_at dksX0_plan_0 8 rfl rfl)
theorem dX0_plan_9 : decode cX0_plan 9 = .ok (.aload_n 3, 1) := dk_45 (dk_at dksX0_plan_0 9 rfl rfl)
theorem dX0_plan_10 : decode cX0_plan 10 = .ok (.getfield 288, 3) := dk_180 1 32 (dk_at dksX0_plan_0 10 rfl rfl)
theorem dX0_plan_13 : decode cX0_plan 13 = .ok (.invokevirtual 118, 3) := dk_182 0 118 (dk_at dksX0_plan_0 13 rfl rfl)
theorem dX0_plan_16 : decode cX0_plan 16 = .ok (.i2l, 1) := dk_133 (dk_at dksX0_plan_0 16 rfl rfl)
theorem dX0_plan_17 : decode cX0_plan 17 = .ok (.lreturn, 1) := dk_173 (dk_at dksX0_plan_0 17 rfl rfl)
abbrev cX0_planTold : ByteArray := prog_1_method_75_code
def yX0_planTold : MethodName := ⟨RX0, "planTold", "(II)J"⟩
def dkwX0_planTold_1 : List UInt8 := [173]
abbrev dktX0_planTold_1 : List UInt8 := dkwX0_planTold_1 ++ []
def dkwX0_planTold_0 : List UInt8 := [42, 27, 28, 182, 2, 21, 42, 27, 28, 20, 2, 24, 182, 2, 26, 42, 27, 182, 2, 30, 42, 180, 1, 248]
abbrev dktX0_planTold_0 : List UInt8 := dkwX0_planTold_0 ++ dktX0_planTold_1
theorem dksX0_planTold_0 : cX0_planTold.data.toList.drop 0 = dktX0_planTold_0 := by decide +kernel
theorem dksX0_planTold_1 : cX0_planTold.data.toList.drop 24 = dktX0_planTold_1 := dk_seg dksX0_planTold_0 24 rfl rfl
theorem dX0_planTold_0 : decode cX0_planTold 0 = .ok (.aload_n 0, 1) := dk_42 (dk_at dksX0_planTold_0 0 rfl rfl)
theorem dX0_planTold_1 : decode cX0_planTold 1 = .ok (.iload_n 1, 1) := dk_27 (dk_at dksX0_planTold_0 1 rfl rfl)
theorem dX0_planTold_2 : decode cX0_planTold 2 = .ok (.iload_n 2, 1) := dk_28 (dk_at dksX0_planTold_0 2 rfl rfl)
theorem dX0_planTold_3 : decode cX0_planTold 3 = .ok (.invokevirtual 533, 3) := dk_182 2 21 (dk_at dksX0_planTold_0 3 rfl rfl)
theorem dX0_planTold_6 : decode cX0_planTold 6 = .ok (.aload_n 0, 1) := dk_42 (dk_at dksX0_planTold_0 6 rfl rfl)
theorem dX0_planTold_7 : decode cX0_planTold 7 = .ok (.iload_n 1, 1) := dk_27 (dk_at dksX0_planTold_0 7 rfl rfl)
theorem dX0_planTold_8 : decode cX0_planTold 8 = .ok (.iload_n 2, 1) := dk_28 (dk_at dksX0_planTold_0 8 rfl rfl)
theorem dX0_planTold_9 : decode cX0_planTold 9 = .ok (.ldc2_w 536, 3) := dk_20 2 24 (dk_at dksX0_planTold_0 9 rfl rfl)
theorem dX0_planTold_12 : decode cX0_planTold 12 = .ok (.invokevirtual 538, 3) := dk_182 2 26 (dk_at dksX0_planTold_0 12 rfl rfl)
theorem dX0_planTold_15 : decode cX0_planTold 15 = .ok (.aload_n 0, 1) := dk_42 (dk_at dksX0_planTold_0 15 rfl rfl)
theorem dX0_planTold_16 : decode cX0_planTold 16 = .ok (.iload_n 1, 1) := dk_27 (dk_at dksX0_planTold_0 16 rfl rfl)
theorem dX0_planTold_17 : decode cX0_planTold 17 = .ok (.invokevirtual 542, 3) := dk_182 2 30 (dk_at dksX0_planTold_0 17 rfl rfl)
theorem dX0_planTold_20 : decode cX0_planTold 20 = .ok (.aload_n 0, 1) := dk_42 (dk_at dksX0_planTold_0 20 rfl rfl)
theorem dX0_planTold_21 : decode cX0_planTold 21 = .ok (.getfield 504, 3) := dk_180 1 248 (dk_at dksX0_planTold_0 21 rfl rfl)
theorem dX0_planTold_24 : decode cX0_planTold 24 = .ok (.lreturn, 1) := dk_173 (dk_at dksX0_planTold_1 0 rfl rfl)
abbrev cX0_needSet : ByteArray := prog_1_method_61_code
def yX0_needSet : MethodName := ⟨RX0, "needSet", "(II)V"⟩
def dkwX0_needSet_2 : List UInt8 := [153, 0, 7, 4, 167, 0, 4, 3, 16, 249, 182, 1, 20, 177]
abbrev dktX0_needSet_2 : List UInt8 := dkwX0_needSet_2 ++ []
def dkwX0_needSet_1 : List UInt8 := [27, 184, 1, 189, 133, 10, 20, 1, 54, 184, 0, 31, 153, 0, 19, 28, 133, 10, 20, 0, 184, 184, 0, 31]
abbrev dktX0_needSet_1 : List UInt8 := dkwX0_needSet_1 ++ dktX0_needSet_2
def dkwX0_needSet_0 : List UInt8 := [42, 27, 133, 9, 10, 42, 180, 0, 19, 180, 0, 23, 121, 10, 101, 184, 0, 31, 16, 253, 182, 1, 20, 42]
abbrev dktX0_needSet_0 : List UInt8 := dkwX0_needSet_0 ++ dktX0_needSet_1
theorem dksX0_needSet_0 : cX0_needSet.data.toList.drop 0 = dktX0_needSet_0 := by decide +kernel
theorem dksX0_needSet_1 : cX0_needSet.data.toList.drop 24 = dktX0_needSet_1 := dk_seg dksX0_needSet_0 24 rfl rfl
theorem dksX0_needSet_2 : cX0_needSet.data.toList.drop 48 = dktX0_needSet_2 := dk_seg dksX0_needSet_1 24 rfl rfl
theorem dX0_needSet_0 : decode cX0_needSet 0 = .ok (.aload_n 0, 1) := dk_42 (dk_at dksX0_needSet_0 0 rfl rfl)
theorem dX0_needSet_1 : decode cX0_needSet 1 = .ok (.iload_n 1, 1) := dk_27 (dk_at dksX0_needSet_0 1 rfl rfl)
theorem dX0_needSet_2 : decode cX0_needSet 2 = .ok (.i2l, 1) := dk_133 (dk_at dksX0_needSet_0 2 rfl rfl)
theorem dX0_needSet_3 : decode cX0_needSet 3 = .ok (.lconst 0, 1) := dk_9 (dk_at dksX0_needSet_0 3 rfl rfl)
theorem dX0_needSet_4 : decode cX0_needSet 4 = .ok (.lconst 1, 1) := dk_10 (dk_at dksX0_needSet_0 4 rfl rfl)
theorem dX0_needSet_5 : decode cX0_needSet 5 = .ok (.aload_n 0, 1) := dk_42 (dk_at dksX0_needSet_0 5 rfl rfl)
theorem dX0_needSet_6 : decode cX0_needSet 6 = .ok (.getfield 19, 3) := dk_180 0 19 (dk_at dksX0_needSet_0 6 rfl rfl)
theorem dX0_needSet_9 : decode cX0_needSet 9 = .ok (.getfield 23, 3) := dk_180 0 23 (dk_at dksX0_needSet_0 9 rfl rfl)
theorem dX0_needSet_12 : decode cX0_needSet 12 = .ok (.lshl, 1) := dk_121 (dk_at dksX0_needSet_0 12 rfl rfl)
theorem dX0_needSet_13 : decode cX0_needSet 13 = .ok (.lconst 1, 1) := dk_10 (dk_at dksX0_needSet_0 13 rfl rfl)
theorem dX0_needSet_14 : decode cX0_needSet 14 = .ok (.lsub, 1) := dk_101 (dk_at dksX0_needSet_0 14 rfl rfl)
theorem dX0_needSet_15 : decode cX0_needSet 15 = .ok (.invokestatic 31, 3) := dk_184 0 31 (dk_at dksX0_needSet_0 15 rfl rfl)
theorem dX0_needSet_18 : decode cX0_needSet 18 = .ok (.bipush (-3), 2) := dk_16 253 (dk_at dksX0_needSet_0 18 rfl rfl)
theorem dX0_needSet_20 : decode cX0_needSet 20 = .ok (.invokevirtual 276, 3) := dk_182 1 20 (dk_at dksX0_needSet_0 20 rfl rfl)
theorem dX0_needSet_23 : decode cX0_needSet 23 = .ok (.aload_n 0, 1) := dk_42 (dk_at dksX0_needSet_0 23 rfl rfl)
theorem dX0_needSet_24 : decode cX0_needSet 24 = .ok (.iload_n 1, 1) := dk_27 (dk_at dksX0_needSet_1 0 rfl rfl)
theorem dX0_needSet_25 : decode cX0_needSet 25 = .ok (.invokestatic 445, 3) := dk_184 1 189 (dk_at dksX0_needSet_1 1 rfl rfl)
theorem dX0_needSet_28 : decode cX0_needSet 28 = .ok (.i2l, 1) := dk_133 (dk_at dksX0_needSet_1 4 rfl rfl)
theorem dX0_needSet_29 : decode cX0_needSet 29 = .ok (.lconst 1, 1) := dk_10 (dk_at dksX0_needSet_1 5 rfl rfl)
theorem dX0_needSet_30 : decode cX0_needSet 30 = .ok (.ldc2_w 310, 3) := dk_20 1 54 (dk_at dksX0_needSet_1 6 rfl rfl)
theorem dX0_needSet_33 : decode cX0_needSet 33 = .ok (.invokestatic 31, 3) := dk_184 0 31 (dk_at dksX0_needSet_1 9 rfl rfl)
theorem dX0_needSet_36 : decode cX0_needSet 36 = .ok (.ifCond .eq 19, 3) := dk_153 0 19 (dk_at dksX0_needSet_1 12 rfl rfl)
theorem dX0_needSet_39 : decode cX0_needSet 39 = .ok (.iload_n 2, 1) := dk_28 (dk_at dksX0_needSet_1 15 rfl rfl)
theorem dX0_needSet_40 : decode cX0_needSet 40 = .ok (.i2l, 1) := dk_133 (dk_at dksX0_needSet_1 16 rfl rfl)
theorem dX0_needSet_41 : decode cX0_needSet 41 = .ok (.lconst 1, 1) := dk_10 (dk_at dksX0_needSet_1 17 rfl rfl)
theorem dX0_needSet_42 : decode cX0_needSet 42 = .ok (.ldc2_w 184, 3) := dk_20 0 184 (dk_at dksX0_needSet_1 18 rfl rfl)
theorem dX0_needSet_45 : decode cX0_needSet 45 = .ok (.invokestatic 31, 3) := dk_184 0 31 (dk_at dksX0_needSet_1 21 rfl rfl)
theorem dX0_needSet_48 : decode cX0_needSet 48 = .ok (.ifCond .eq 7, 3) := dk_153 0 7 (dk_at dksX0_needSet_2 0 rfl rfl)
theorem dX0_needSet_51 : decode cX0_needSet 51 = .ok (.iconst 1, 1) := dk_4 (dk_at dksX0_needSet_2 3 rfl rfl)
theorem dX0_needSet_52 : decode cX0_needSet 52 = .ok (.goto 4, 3) := dk_167 0 4 (dk_at dksX0_needSet_2 4 rfl rfl)
theorem dX0_needSet_55 : decode cX0_needSet 55 = .ok (.iconst 0, 1) := dk_3 (dk_at dksX0_needSet_2 7 rfl rfl)
theorem dX0_needSet_56 : decode cX0_needSet 56 = .ok (.bipush (-7), 2) := dk_16 249 (dk_at dksX0_needSet_2 8 rfl rfl)
theorem dX0_needSet_58 : decode cX0_needSet 58 = .ok (.invokevirtual 276, 3) := dk_182 1 20 (dk_at dksX0_needSet_2 10 rfl rfl)
theorem dX0_needSet_61 : decode cX0_needSet 61 = .ok (.return_, 1) := dk_177 (dk_at dksX0_needSet_2 13 rfl rfl)
abbrev cX0_search : ByteArray := prog_1_method_73_code
def yX0_search : MethodName := ⟨RX0, "search", "(IIJ)V"⟩
def dkwX0_search_0 : List UInt8 := [42, 27, 28, 182, 2, 17, 42, 33, 181, 1, 241, 42, 3, 181, 2, 1, 42, 3, 182, 2, 14, 177]
abbrev dktX0_search_0 : List UInt8 := dkwX0_search_0 ++ []
theorem dksX0_search_0 : cX0_search.data.toList.drop 0 = dktX0_search_0 := by decide +kernel
theorem dX0_search_0 : decode cX0_search 0 = .ok (.aload_n 0, 1) := dk_42 (dk_at dksX0_search_0 0 rfl rfl)
theorem dX0_search_1 : decode cX0_search 1 = .ok (.iload_n 1, 1) := dk_27 (dk_at dksX0_search_0 1 rfl rfl)
theorem dX0_search_2 : decode cX0_search 2 = .ok (.iload_n 2, 1) := dk_28 (dk_at dksX0_search_0 2 rfl rfl)
theorem dX0_search_3 : decode cX0_search 3 = .ok (.invokevirtual 529, 3) := dk_182 2 17 (dk_at dksX0_search_0 3 rfl rfl)
theorem dX0_search_6 : decode cX0_search 6 = .ok (.aload_n 0, 1) := dk_42 (dk_at dksX0_search_0 6 rfl rfl)
theorem dX0_search_7 : decode cX0_search 7 = .ok (.lload_n 3, 1) := dk_33 (dk_at dksX0_search_0 7 rfl rfl)
theorem dX0_search_8 : decode cX0_search 8 = .ok (.putfield 497, 3) := dk_181 1 241 (dk_at dksX0_search_0 8 rfl rfl)
theorem dX0_search_11 : decode cX0_search 11 = .ok (.aload_n 0, 1) := dk_42 (dk_at dksX0_search_0 11 rfl rfl)
theorem dX0_search_12 : decode cX0_search 12 = .ok (.iconst 0, 1) := dk_3 (dk_at dksX0_search_0 12 rfl rfl)
theorem dX0_search_13 : decode cX0_search 13 = .ok (.putfield 513, 3) := dk_181 2 1 (dk_at dksX0_search_0 13 rfl rfl)
theorem dX0_search_16 : decode cX0_search 16 = .ok (.aload_n 0, 1) := dk_42 (dk_at dksX0_search_0 16 rfl rfl)
theorem dX0_search_17 : decode cX0_search 17 = .ok (.iconst 0, 1) := dk_3 (dk_at dksX0_search_0 17 rfl rfl)
theorem dX0_search_18 : decode cX0_search 18 = .ok (.invokevirtual 526, 3) := dk_182 2 14 (dk_at dksX0_search_0 18 rfl rfl)
theorem dX0_search_21 : decode cX0_search 21 = .ok (.return_, 1) := dk_177 (dk_at dksX0_search_0 21 rfl rfl)
abbrev cX0_prepare : ByteArray := prog_1_method_62_code
def yX0_prepare : MethodName := ⟨RX0, "prepare", "(II)V"⟩
def dkwX0_prepare_7 : List UInt8 := [84, 132, 4, 1, 167, 255, 167, 132, 3, 1, 167, 255, 145, 177]
abbrev dktX0_prepare_7 : List UInt8 := dkwX0_prepare_7 ++ []
def dkwX0_prepare_6 : List UInt8 := [182, 0, 151, 153, 0, 20, 42, 180, 0, 19, 5, 21, 5, 182, 0, 226, 158, 0, 7, 4, 167, 0, 4, 3]
abbrev dktX0_prepare_6 : List UInt8 := dkwX0_prepare_6 ++ dktX0_prepare_7
def dkwX0_prepare_5 : List UInt8 := [21, 4, 159, 0, 43, 42, 180, 0, 19, 42, 180, 0, 72, 29, 46, 42, 180, 0, 72, 21, 4, 46]
abbrev dktX0_prepare_5 : List UInt8 := dkwX0_prepare_5 ++ dktX0_prepare_6
def dkwX0_prepare_4 : List UInt8 := [180, 0, 72, 21, 4, 46, 184, 1, 203, 54, 5, 42, 180, 0, 85, 16, 7, 29, 104, 21, 4, 96, 29]
abbrev dktX0_prepare_4 : List UInt8 := dkwX0_prepare_4 ++ dktX0_prepare_5
def dkwX0_prepare_3 : List UInt8 := [182, 1, 200, 3, 54, 4, 21, 4, 42, 180, 1, 197, 162, 0, 86, 42, 180, 0, 72, 29, 46, 42]
abbrev dktX0_prepare_3 : List UInt8 := dkwX0_prepare_3 ++ dktX0_prepare_4
def dkwX0_prepare_2 : List UInt8 := [96, 181, 1, 197, 132, 3, 1, 167, 255, 213, 3, 62, 29, 42, 180, 1, 197, 162, 0, 109, 42, 29]
abbrev dktX0_prepare_2 : List UInt8 := dkwX0_prepare_2 ++ dktX0_prepare_3
def dkwX0_prepare_1 : List UInt8 := [29, 122, 4, 126, 4, 160, 0, 23, 42, 180, 0, 72, 42, 180, 1, 197, 29, 79, 42, 89, 180, 1, 197, 4]
abbrev dktX0_prepare_1 : List UInt8 := dkwX0_prepare_1 ++ dktX0_prepare_2
def dkwX0_prepare_0 : List UInt8 := [42, 28, 181, 1, 194, 42, 3, 181, 1, 197, 3, 62, 29, 42, 180, 0, 19, 180, 0, 23, 162, 0, 38, 27]
abbrev dktX0_prepare_0 : List UInt8 := dkwX0_prepare_0 ++ dktX0_prepare_1
theorem dksX0_prepare_0 : cX0_prepare.data.toList.drop 0 = dktX0_prepare_0 := by decide +kernel
theorem dksX0_prepare_1 : cX0_prepare.data.toList.drop 24 = dktX0_prepare_1 := dk_seg dksX0_prepare_0 24 rfl rfl
theorem dksX0_prepare_2 : cX0_prepare.data.toList.drop 48 = dktX0_prepare_2 := dk_seg dksX0_prepare_1 24 rfl rfl
theorem dksX0_prepare_3 : cX0_prepare.data.toList.drop 70 = dktX0_prepare_3 := dk_seg dksX0_prepare_2 22 rfl rfl
theorem dksX0_prepare_4 : cX0_prepare.data.toList.drop 92 = dktX0_prepare_4 := dk_seg dksX0_prepare_3 22 rfl rfl
theorem dksX0_prepare_5 : cX0_prepare.data.toList.drop 115 = dktX0_prepare_5 := dk_seg dksX0_prepare_4 23 rfl rfl
theorem dksX0_prepare_6 : cX0_prepare.data.toList.drop 137 = dktX0_prepare_6 := dk_seg dksX0_prepare_5 22 rfl rfl
theorem dksX0_prepare_7 : cX0_prepare.data.toList.drop 161 = dktX0_prepare_7 := dk_seg dksX0_prepare_6 24 rfl rfl
theorem dX0_prepare_0 : decode cX0_prepare 0 = .ok (.aload_n 0, 1) := dk_42 (dk_at dksX0_prepare_0 0 rfl rfl)
theorem dX0_prepare_1 : decode cX0_prepare 1 = .ok (.iload_n 2, 1) := dk_28 (dk_at dksX0_prepare_0 1 rfl rfl)
theorem dX0_prepare_2 : decode cX0_prepare 2 = .ok (.putfield 450, 3) := dk_181 1 194 (dk_at dksX0_prepare_0 2 rfl rfl)
theorem dX0_prepare_5 : decode cX0_prepare 5 = .ok (.aload_n 0, 1) := dk_42 (dk_at dksX0_prepare_0 5 rfl rfl)
theorem dX0_prepare_6 : decode cX0_prepare 6 = .ok (.iconst 0, 1) := dk_3 (dk_at dksX0_prepare_0 6 rfl rfl)
theorem dX0_prepare_7 : decode cX0_prepare 7 = .ok (.putfield 453, 3) := dk_181 1 197 (dk_at dksX0_prepare_0 7 rfl rfl)
theorem dX0_prepare_10 : decode cX0_prepare 10 = .ok (.iconst 0, 1) := dk_3 (dk_at dksX0_prepare_0 10 rfl rfl)
theorem dX0_prepare_11 : decode cX0_prepare 11 = .ok (.istore_n 3, 1) := dk_62 (dk_at dksX0_prepare_0 11 rfl rfl)
theorem dX0_prepare_12 : decode cX0_prepare 12 = .ok (.iload_n 3, 1) := dk_29 (dk_at dksX0_prepare_0 12 rfl rfl)
theorem dX0_prepare_13 : decode cX0_prepare 13 = .ok (.aload_n 0, 1) := dk_42 (dk_at dksX0_prepare_0 13 rfl rfl)
theorem dX0_prepare_14 : decode cX0_prepare 14 = .ok (.getfield 19, 3) := dk_180 0 19 (dk_at dksX0_prepare_0 14 rfl rfl)
theorem dX0_prepare_17 : decode cX0_prepare 17 = .ok (.getfield 23, 3) := dk_180 0 23 (dk_at dksX0_prepare_0 17 rfl rfl)
theorem dX0_prepare_20 : decode cX0_prepare 20 = .ok (.if_icmp .ge 38, 3) := dk_162 0 38 (dk_at dksX0_prepare_0 20 rfl rfl)
theorem dX0_prepare_23 : decode cX0_prepare 23 = .ok (.iload_n 1, 1) := dk_27 (dk_at dksX0_prepare_0 23 rfl rfl)
theorem dX0_prepare_24 : decode cX0_prepare 24 = .ok (.iload_n 3, 1) := dk_29 (dk_at dksX0_prepare_1 0 rfl rfl)
theorem dX0_prepare_25 : decode cX0_prepare 25 = .ok (.ishr, 1) := dk_122 (dk_at dksX0_prepare_1 1 rfl rfl)
theorem dX0_prepare_26 : decode cX0_prepare 26 = .ok (.iconst 1, 1) := dk_4 (dk_at dksX0_prepare_1 2 rfl rfl)
theorem dX0_prepare_27 : decode cX0_prepare 27 = .ok (.iand, 1) := dk_126 (dk_at dksX0_prepare_1 3 rfl rfl)
theorem dX0_prepare_28 : decode cX0_prepare 28 = .ok (.iconst 1, 1) := dk_4 (dk_at dksX0_prepare_1 4 rfl rfl)
theorem dX0_prepare_29 : decode cX0_prepare 29 = .ok (.if_icmp .ne 23, 3) := dk_160 0 23 (dk_at dksX0_prepare_1 5 rfl rfl)
theorem dX0_prepare_32 : decode cX0_prepare 32 = .ok (.aload_n 0, 1) := dk_42 (dk_at dksX0_prepare_1 8 rfl rfl)
theorem dX0_prepare_33 : decode cX0_prepare 33 = .ok (.getfield 72, 3) := dk_180 0 72 (dk_at dksX0_prepare_1 9 rfl rfl)
theorem dX0_prepare_36 : decode cX0_prepare 36 = .ok (.aload_n 0, 1) := dk_42 (dk_at dksX0_prepare_1 12 rfl rfl)
theorem dX0_prepare_37 : decode cX0_prepare 37 = .ok (.getfield 453, 3) := dk_180 1 197 (dk_at dksX0_prepare_1 13 rfl rfl)
theorem dX0_prepare_40 : decode cX0_prepare 40 = .ok (.iload_n 3, 1) := dk_29 (dk_at dksX0_prepare_1 16 rfl rfl)
theorem dX0_prepare_41 : decode cX0_prepare 41 = .ok (.iastore, 1) := dk_79 (dk_at dksX0_prepare_1 17 rfl rfl)
theorem dX0_prepare_42 : decode cX0_prepare 42 = .ok (.aload_n 0, 1) := dk_42 (dk_at dksX0_prepare_1 18 rfl rfl)
theorem dX0_prepare_43 : decode cX0_prepare 43 = .ok (.dup, 1) := dk_89 (dk_at dksX0_prepare_1 19 rfl rfl)
theorem dX0_prepare_44 : decode cX0_prepare 44 = .ok (.getfield 453, 3) := dk_180 1 197 (dk_at dksX0_prepare_1 20 rfl rfl)
theorem dX0_prepare_47 : decode cX0_prepare 47 = .ok (.iconst 1, 1) := dk_4 (dk_at dksX0_prepare_1 23 rfl rfl)
theorem dX0_prepare_48 : decode cX0_prepare 48 = .ok (.iadd, 1) := dk_96 (dk_at dksX0_prepare_2 0 rfl rfl)
theorem dX0_prepare_49 : decode cX0_prepare 49 = .ok (.putfield 453, 3) := dk_181 1 197 (dk_at dksX0_prepare_2 1 rfl rfl)
theorem dX0_prepare_52 : decode cX0_prepare 52 = .ok (.iinc 3 1, 3) := dk_132 3 1 (dk_at dksX0_prepare_2 4 rfl rfl)
theorem dX0_prepare_55 : decode cX0_prepare 55 = .ok (.goto (-43), 3) := dk_167 255 213 (dk_at dksX0_prepare_2 7 rfl rfl)
theorem dX0_prepare_58 : decode cX0_prepare 58 = .ok (.iconst 0, 1) := dk_3 (dk_at dksX0_prepare_2 10 rfl rfl)
theorem dX0_prepare_59 : decode cX0_prepare 59 = .ok (.istore_n 3, 1) := dk_62 (dk_at dksX0_prepare_2 11 rfl rfl)
theorem dX0_prepare_60 : decode cX0_prepare 60 = .ok (.iload_n 3, 1) := dk_29 (dk_at dksX0_prepare_2 12 rfl rfl)
theorem dX0_prepare_61 : decode cX0_prepare 61 = .ok (.aload_n 0, 1) := dk_42 (dk_at dksX0_prepare_2 13 rfl rfl)
theorem dX0_prepare_62 : decode cX0_prepare 62 = .ok (.getfield 453, 3) := dk_180 1 197 (dk_at dksX0_prepare_2 14 rfl rfl)
theorem dX0_prepare_65 : decode cX0_prepare 65 = .ok (.if_icmp .ge 109, 3) := dk_162 0 109 (dk_at dksX0_prepare_2 17 rfl rfl)
theorem dX0_prepare_68 : decode cX0_prepare 68 = .ok (.aload_n 0, 1) := dk_42 (dk_at dksX0_prepare_2 20 rfl rfl)
theorem dX0_prepare_69 : decode cX0_prepare 69 = .ok (.iload_n 3, 1) := dk_29 (dk_at dksX0_prepare_2 21 rfl rfl)
theorem dX0_prepare_70 : decode cX0_prepare 70 = .ok (.invokevirtual 456, 3) := dk_182 1 200 (dk_at dksX0_prepare_3 0 rfl rfl)
theorem dX0_prepare_73 : decode cX0_prepare 73 = .ok (.iconst 0, 1) := dk_3 (dk_at dksX0_prepare_3 3 rfl rfl)
theorem dX0_prepare_74 : decode cX0_prepare 74 = .ok (.istore 4, 2) := dk_54 4 (dk_at dksX0_prepare_3 4 rfl rfl)
theorem dX0_prepare_76 : decode cX0_prepare 76 = .ok (.iload 4, 2) := dk_21 4 (dk_at dksX0_prepare_3 6 rfl rfl)
theorem dX0_prepare_78 : decode cX0_prepare 78 = .ok (.aload_n 0, 1) := dk_42 (dk_at dksX0_prepare_3 8 rfl rfl)
theorem dX0_prepare_79 : decode cX0_prepare 79 = .ok (.getfield 453, 3) := dk_180 1 197 (dk_at dksX0_prepare_3 9 rfl rfl)
theorem dX0_prepare_82 : decode cX0_prepare 82 = .ok (.if_icmp .ge 86, 3) := dk_162 0 86 (dk_at dksX0_prepare_3 12 rfl rfl)
theorem dX0_prepare_85 : decode cX0_prepare 85 = .ok (.aload_n 0, 1) := dk_42 (dk_at dksX0_prepare_3 15 rfl rfl)
theorem dX0_prepare_86 : decode cX0_prepare 86 = .ok (.getfield 72, 3) := dk_180 0 72 (dk_at dksX0_prepare_3 16 rfl rfl)
theorem dX0_prepare_89 : decode cX0_prepare 89 = .ok (.iload_n 3, 1) := dk_29 (dk_at dksX0_prepare_3 19 rfl rfl)
theorem dX0_prepare_90 : decode cX0_prepare 90 = .ok (.iaload, 1) := dk_46 (dk_at dksX0_prepare_3 20 rfl rfl)
theorem dX0_prepare_91 : decode cX0_prepare 91 = .ok (.aload_n 0, 1) := dk_42 (dk_at dksX0_prepare_3 21 rfl rfl)
theorem dX0_prepare_92 : decode cX0_prepare 92 = .ok (.getfield 72, 3) := dk_180 0 72 (dk_at dksX0_prepare_4 0 rfl rfl)
theorem dX0_prepare_95 : decode cX0_prepare 95 = .ok (.iload 4, 2) := dk_21 4 (dk_at dksX0_prepare_4 3 rfl rfl)
theorem dX0_prepare_97 : decode cX0_prepare 97 = .ok (.iaload, 1) := dk_46 (dk_at dksX0_prepare_4 5 rfl rfl)
theorem dX0_prepare_98 : decode cX0_prepare 98 = .ok (.invokestatic 459, 3) := dk_184 1 203 (dk_at dksX0_prepare_4 6 rfl rfl)
theorem dX0_prepare_101 : decode cX0_prepare 101 = .ok (.istore 5, 2) := dk_54 5 (dk_at dksX0_prepare_4 9 rfl rfl)
theorem dX0_prepare_103 : decode cX0_prepare 103 = .ok (.aload_n 0, 1) := dk_42 (dk_at dksX0_prepare_4 11 rfl rfl)
theorem dX0_prepare_104 : decode cX0_prepare 104 = .ok (.getfield 85, 3) := dk_180 0 85 (dk_at dksX0_prepare_4 12 rfl rfl)
theorem dX0_prepare_107 : decode cX0_prepare 107 = .ok (.bipush 7, 2) := dk_16 7 (dk_at dksX0_prepare_4 15 rfl rfl)
theorem dX0_prepare_109 : decode cX0_prepare 109 = .ok (.iload_n 3, 1) := dk_29 (dk_at dksX0_prepare_4 17 rfl rfl)
theorem dX0_prepare_110 : decode cX0_prepare 110 = .ok (.imul, 1) := dk_104 (dk_at dksX0_prepare_4 18 rfl rfl)
theorem dX0_prepare_111 : decode cX0_prepare 111 = .ok (.iload 4, 2) := dk_21 4 (dk_at dksX0_prepare_4 19 rfl rfl)
theorem dX0_prepare_113 : decode cX0_prepare 113 = .ok (.iadd, 1) := dk_96 (dk_at dksX0_prepare_4 21 rfl rfl)
theorem dX0_prepare_114 : decode cX0_prepare 114 = .ok (.iload_n 3, 1) := dk_29 (dk_at dksX0_prepare_4 22 rfl rfl)
theorem dX0_prepare_115 : decode cX0_prepare 115 = .ok (.iload 4, 2) := dk_21 4 (dk_at dksX0_prepare_5 0 rfl rfl)
theorem dX0_prepare_117 : decode cX0_prepare 117 = .ok (.if_icmp .eq 43, 3) := dk_159 0 43 (dk_at dksX0_prepare_5 2 rfl rfl)
theorem dX0_prepare_120 : decode cX0_prepare 120 = .ok (.aload_n 0, 1) := dk_42 (dk_at dksX0_prepare_5 5 rfl rfl)
theorem dX0_prepare_121 : decode cX0_prepare 121 = .ok (.getfield 19, 3) := dk_180 0 19 (dk_at dksX0_prepare_5 6 rfl rfl)
theorem dX0_prepare_124 : decode cX0_prepare 124 = .ok (.aload_n 0, 1) := dk_42 (dk_at dksX0_prepare_5 9 rfl rfl)
theorem dX0_prepare_125 : decode cX0_prepare 125 = .ok (.getfield 72, 3) := dk_180 0 72 (dk_at dksX0_prepare_5 10 rfl rfl)
theorem dX0_prepare_128 : decode cX0_prepare 128 = .ok (.iload_n 3, 1) := dk_29 (dk_at dksX0_prepare_5 13 rfl rfl)
theorem dX0_prepare_129 : decode cX0_prepare 129 = .ok (.iaload, 1) := dk_46 (dk_at dksX0_prepare_5 14 rfl rfl)
theorem dX0_prepare_130 : decode cX0_prepare 130 = .ok (.aload_n 0, 1) := dk_42 (dk_at dksX0_prepare_5 15 rfl rfl)
theorem dX0_prepare_131 : decode cX0_prepare 131 = .ok (.getfield 72, 3) := dk_180 0 72 (dk_at dksX0_prepare_5 16 rfl rfl)
theorem dX0_prepare_134 : decode cX0_prepare 134 = .ok (.iload 4, 2) := dk_21 4 (dk_at dksX0_prepare_5 19 rfl rfl)
theorem dX0_prepare_136 : decode cX0_prepare 136 = .ok (.iaload, 1) := dk_46 (dk_at dksX0_prepare_5 21 rfl rfl)
theorem dX0_prepare_137 : decode cX0_prepare 137 = .ok (.invokevirtual 151, 3) := dk_182 0 151 (dk_at dksX0_prepare_6 0 rfl rfl)
theorem dX0_prepare_140 : decode cX0_prepare 140 = .ok (.ifCond .eq 20, 3) := dk_153 0 20 (dk_at dksX0_prepare_6 3 rfl rfl)
theorem dX0_prepare_143 : decode cX0_prepare 143 = .ok (.aload_n 0, 1) := dk_42 (dk_at dksX0_prepare_6 6 rfl rfl)
theorem dX0_prepare_144 : decode cX0_prepare 144 = .ok (.getfield 19, 3) := dk_180 0 19 (dk_at dksX0_prepare_6 7 rfl rfl)
theorem dX0_prepare_147 : decode cX0_prepare 147 = .ok (.iconst 2, 1) := dk_5 (dk_at dksX0_prepare_6 10 rfl rfl)
theorem dX0_prepare_148 : decode cX0_prepare 148 = .ok (.iload 5, 2) := dk_21 5 (dk_at dksX0_prepare_6 11 rfl rfl)
theorem dX0_prepare_150 : decode cX0_prepare 150 = .ok (.invokevirtual 226, 3) := dk_182 0 226 (dk_at dksX0_prepare_6 13 rfl rfl)
theorem dX0_prepare_153 : decode cX0_prepare 153 = .ok (.ifCond .le 7, 3) := dk_158 0 7 (dk_at dksX0_prepare_6 16 rfl rfl)
theorem dX0_prepare_156 : decode cX0_prepare 156 = .ok (.iconst 1, 1) := dk_4 (dk_at dksX0_prepare_6 19 rfl rfl)
theorem dX0_prepare_157 : decode cX0_prepare 157 = .ok (.goto 4, 3) := dk_167 0 4 (dk_at dksX0_prepare_6 20 rfl rfl)
theorem dX0_prepare_160 : decode cX0_prepare 160 = .ok (.iconst 0, 1) := dk_3 (dk_at dksX0_prepare_6 23 rfl rfl)
theorem dX0_prepare_161 : decode cX0_prepare 161 = .ok (.bastore, 1) := dk_84 (dk_at dksX0_prepare_7 0 rfl rfl)
theorem dX0_prepare_162 : decode cX0_prepare 162 = .ok (.iinc 4 1, 3) := dk_132 4 1 (dk_at dksX0_prepare_7 1 rfl rfl)
theorem dX0_prepare_165 : decode cX0_prepare 165 = .ok (.goto (-89), 3) := dk_167 255 167 (dk_at dksX0_prepare_7 4 rfl rfl)
theorem dX0_prepare_168 : decode cX0_prepare 168 = .ok (.iinc 3 1, 3) := dk_132 3 1 (dk_at dksX0_prepare_7 7 rfl rfl)
theorem dX0_prepare_171 : decode cX0_prepare 171 = .ok (.goto (-111), 3) := dk_167 255 145 (dk_at dksX0_prepare_7 10 rfl rfl)
theorem dX0_prepare_174 : decode cX0_prepare 174 = .ok (.return_, 1) := dk_177 (dk_at dksX0_prepare_7 13 rfl rfl)
abbrev cX0_prepareOne : ByteArray := prog_1_method_63_code
def yX0_prepareOne : MethodName := ⟨RX0, "prepareOne", "(I)V"⟩
def dkwX0_prepareOne_6 : List UInt8 := [167, 255, 141, 177]
abbrev dktX0_prepareOne_6 : List UInt8 := dkwX0_prepareOne_6 ++ []
def dkwX0_prepareOne_5 : List UInt8 := [180, 0, 19, 28, 21, 4, 42, 180, 0, 19, 180, 0, 139, 28, 46, 182, 1, 208, 79, 132, 3, 1]
abbrev dktX0_prepareOne_5 : List UInt8 := dkwX0_prepareOne_5 ++ dktX0_prepareOne_6
def dkwX0_prepareOne_4 : List UInt8 := [167, 0, 4, 3, 84, 42, 180, 0, 19, 2, 181, 1, 205, 42, 180, 0, 79, 7, 27, 104, 29, 96, 42]
abbrev dktX0_prepareOne_4 : List UInt8 := dkwX0_prepareOne_4 ++ dktX0_prepareOne_5
def dkwX0_prepareOne_3 : List UInt8 := [28, 182, 1, 168, 154, 0, 21, 21, 4, 42, 180, 0, 19, 3, 28, 182, 0, 226, 161, 0, 7, 4]
abbrev dktX0_prepareOne_3 : List UInt8 := dkwX0_prepareOne_3 ++ dktX0_prepareOne_4
def dkwX0_prepareOne_2 : List UInt8 := [54, 4, 42, 180, 0, 19, 21, 4, 181, 1, 205, 42, 180, 0, 75, 7, 27, 104, 29, 96, 42, 180, 0, 19]
abbrev dktX0_prepareOne_2 : List UInt8 := dkwX0_prepareOne_2 ++ dktX0_prepareOne_3
def dkwX0_prepareOne_1 : List UInt8 := [29, 42, 180, 1, 194, 162, 0, 113, 42, 180, 0, 19, 180, 0, 136, 28, 46, 16, 10, 29, 104, 96, 8, 96]
abbrev dktX0_prepareOne_1 : List UInt8 := dkwX0_prepareOne_1 ++ dktX0_prepareOne_2
def dkwX0_prepareOne_0 : List UInt8 := [42, 180, 0, 72, 27, 46, 61, 42, 180, 0, 82, 27, 42, 180, 0, 19, 4, 28, 182, 0, 226, 79, 3, 62]
abbrev dktX0_prepareOne_0 : List UInt8 := dkwX0_prepareOne_0 ++ dktX0_prepareOne_1
theorem dksX0_prepareOne_0 : cX0_prepareOne.data.toList.drop 0 = dktX0_prepareOne_0 := by decide +kernel
theorem dksX0_prepareOne_1 : cX0_prepareOne.data.toList.drop 24 = dktX0_prepareOne_1 := dk_seg dksX0_prepareOne_0 24 rfl rfl
theorem dksX0_prepareOne_2 : cX0_prepareOne.data.toList.drop 48 = dktX0_prepareOne_2 := dk_seg dksX0_prepareOne_1 24 rfl rfl
theorem dksX0_prepareOne_3 : cX0_prepareOne.data.toList.drop 72 = dktX0_prepareOne_3 := dk_seg dksX0_prepareOne_2 24 rfl rfl
theorem dksX0_prepareOne_4 : cX0_prepareOne.data.toList.drop 94 = dktX0_prepareOne_4 := dk_seg dksX0_prepareOne_3 22 rfl rfl
theorem dksX0_prepareOne_5 : cX0_prepareOne.data.toList.drop 117 = dktX0_prepareOne_5 := dk_seg dksX0_prepareOne_4 23 rfl rfl
theorem dksX0_prepareOne_6 : cX0_prepareOne.data.toList.drop 139 = dktX0_prepareOne_6 := dk_seg dksX0_prepareOne_5 22 rfl rfl
theorem dX0_prepareOne_0 : decode cX0_prepareOne 0 = .ok (.aload_n 0, 1) := dk_42 (dk_at dksX0_prepareOne_0 0 rfl rfl)
theorem dX0_prepareOne_1 : decode cX0_prepareOne 1 = .ok (.getfield 72, 3) := dk_180 0 72 (dk_at dksX0_prepareOne_0 1 rfl rfl)
theorem dX0_prepareOne_4 : decode cX0_prepareOne 4 = .ok (.iload_n 1, 1) := dk_27 (dk_at dksX0_prepareOne_0 4 rfl rfl)
theorem dX0_prepareOne_5 : decode cX0_prepareOne 5 = .ok (.iaload, 1) := dk_46 (dk_at dksX0_prepareOne_0 5 rfl rfl)
theorem dX0_prepareOne_6 : decode cX0_prepareOne 6 = .ok (.istore_n 2, 1) := dk_61 (dk_at dksX0_prepareOne_0 6 rfl rfl)
theorem dX0_prepareOne_7 : decode cX0_prepareOne 7 = .ok (.aload_n 0, 1) := dk_42 (dk_at dksX0_prepareOne_0 7 rfl rfl)
theorem dX0_prepareOne_8 : decode cX0_prepareOne 8 = .ok (.getfield 82, 3) := dk_180 0 82 (dk_at dksX0_prepareOne_0 8 rfl rfl)
theorem dX0_prepareOne_11 : decode cX0_prepareOne 11 = .ok (.iload_n 1, 1) := dk_27 (dk_at dksX0_prepareOne_0 11 rfl rfl)
theorem dX0_prepareOne_12 : decode cX0_prepareOne 12 = .ok (.aload_n 0, 1) := dk_42 (dk_at dksX0_prepareOne_0 12 rfl rfl)
theorem dX0_prepareOne_13 : decode cX0_prepareOne 13 = .ok (.getfield 19, 3) := dk_180 0 19 (dk_at dksX0_prepareOne_0 13 rfl rfl)
theorem dX0_prepareOne_16 : decode cX0_prepareOne 16 = .ok (.iconst 1, 1) := dk_4 (dk_at dksX0_prepareOne_0 16 rfl rfl)
theorem dX0_prepareOne_17 : decode cX0_prepareOne 17 = .ok (.iload_n 2, 1) := dk_28 (dk_at dksX0_prepareOne_0 17 rfl rfl)
theorem dX0_prepareOne_18 : decode cX0_prepareOne 18 = .ok (.invokevirtual 226, 3) := dk_182 0 226 (dk_at dksX0_prepareOne_0 18 rfl rfl)
theorem dX0_prepareOne_21 : decode cX0_prepareOne 21 = .ok (.iastore, 1) := dk_79 (dk_at dksX0_prepareOne_0 21 rfl rfl)
theorem dX0_prepareOne_22 : decode cX0_prepareOne 22 = .ok (.iconst 0, 1) := dk_3 (dk_at dksX0_prepareOne_0 22 rfl rfl)
theorem dX0_prepareOne_23 : decode cX0_prepareOne 23 = .ok (.istore_n 3, 1) := dk_62 (dk_at dksX0_prepareOne_0 23 rfl rfl)
theorem dX0_prepareOne_24 : decode cX0_prepareOne 24 = .ok (.iload_n 3, 1) := dk_29 (dk_at dksX0_prepareOne_1 0 rfl rfl)
theorem dX0_prepareOne_25 : decode cX0_prepareOne 25 = .ok (.aload_n 0, 1) := dk_42 (dk_at dksX0_prepareOne_1 1 rfl rfl)
theorem dX0_prepareOne_26 : decode cX0_prepareOne 26 = .ok (.getfield 450, 3) := dk_180 1 194 (dk_at dksX0_prepareOne_1 2 rfl rfl)
theorem dX0_prepareOne_29 : decode cX0_prepareOne 29 = .ok (.if_icmp .ge 113, 3) := dk_162 0 113 (dk_at dksX0_prepareOne_1 5 rfl rfl)
theorem dX0_prepareOne_32 : decode cX0_prepareOne 32 = .ok (.aload_n 0, 1) := dk_42 (dk_at dksX0_prepareOne_1 8 rfl rfl)
theorem dX0_prepareOne_33 : decode cX0_prepareOne 33 = .ok (.getfield 19, 3) := dk_180 0 19 (dk_at dksX0_prepareOne_1 9 rfl rfl)
theorem dX0_prepareOne_36 : decode cX0_prepareOne 36 = .ok (.getfield 136, 3) := dk_180 0 136 (dk_at dksX0_prepareOne_1 12 rfl rfl)
theorem dX0_prepareOne_39 : decode cX0_prepareOne 39 = .ok (.iload_n 2, 1) := dk_28 (dk_at dksX0_prepareOne_1 15 rfl rfl)
theorem dX0_prepareOne_40 : decode cX0_prepareOne 40 = .ok (.iaload, 1) := dk_46 (dk_at dksX0_prepareOne_1 16 rfl rfl)
theorem dX0_prepareOne_41 : decode cX0_prepareOne 41 = .ok (.bipush 10, 2) := dk_16 10 (dk_at dksX0_prepareOne_1 17 rfl rfl)
theorem dX0_prepareOne_43 : decode cX0_prepareOne 43 = .ok (.iload_n 3, 1) := dk_29 (dk_at dksX0_prepareOne_1 19 rfl rfl)
theorem dX0_prepareOne_44 : decode cX0_prepareOne 44 = .ok (.imul, 1) := dk_104 (dk_at dksX0_prepareOne_1 20 rfl rfl)
theorem dX0_prepareOne_45 : decode cX0_prepareOne 45 = .ok (.iadd, 1) := dk_96 (dk_at dksX0_prepareOne_1 21 rfl rfl)
theorem dX0_prepareOne_46 : decode cX0_prepareOne 46 = .ok (.iconst 5, 1) := dk_8 (dk_at dksX0_prepareOne_1 22 rfl rfl)
theorem dX0_prepareOne_47 : decode cX0_prepareOne 47 = .ok (.iadd, 1) := dk_96 (dk_at dksX0_prepareOne_1 23 rfl rfl)
theorem dX0_prepareOne_48 : decode cX0_prepareOne 48 = .ok (.istore 4, 2) := dk_54 4 (dk_at dksX0_prepareOne_2 0 rfl rfl)
theorem dX0_prepareOne_50 : decode cX0_prepareOne 50 = .ok (.aload_n 0, 1) := dk_42 (dk_at dksX0_prepareOne_2 2 rfl rfl)
theorem dX0_prepareOne_51 : decode cX0_prepareOne 51 = .ok (.getfield 19, 3) := dk_180 0 19 (dk_at dksX0_prepareOne_2 3 rfl rfl)
theorem dX0_prepareOne_54 : decode cX0_prepareOne 54 = .ok (.iload 4, 2) := dk_21 4 (dk_at dksX0_prepareOne_2 6 rfl rfl)
theorem dX0_prepareOne_56 : decode cX0_prepareOne 56 = .ok (.putfield 461, 3) := dk_181 1 205 (dk_at dksX0_prepareOne_2 8 rfl rfl)
theorem dX0_prepareOne_59 : decode cX0_prepareOne 59 = .ok (.aload_n 0, 1) := dk_42 (dk_at dksX0_prepareOne_2 11 rfl rfl)
theorem dX0_prepareOne_60 : decode cX0_prepareOne 60 = .ok (.getfield 75, 3) := dk_180 0 75 (dk_at dksX0_prepareOne_2 12 rfl rfl)
theorem dX0_prepareOne_63 : decode cX0_prepareOne 63 = .ok (.iconst 4, 1) := dk_7 (dk_at dksX0_prepareOne_2 15 rfl rfl)
theorem dX0_prepareOne_64 : decode cX0_prepareOne 64 = .ok (.iload_n 1, 1) := dk_27 (dk_at dksX0_prepareOne_2 16 rfl rfl)
theorem dX0_prepareOne_65 : decode cX0_prepareOne 65 = .ok (.imul, 1) := dk_104 (dk_at dksX0_prepareOne_2 17 rfl rfl)
theorem dX0_prepareOne_66 : decode cX0_prepareOne 66 = .ok (.iload_n 3, 1) := dk_29 (dk_at dksX0_prepareOne_2 18 rfl rfl)
theorem dX0_prepareOne_67 : decode cX0_prepareOne 67 = .ok (.iadd, 1) := dk_96 (dk_at dksX0_prepareOne_2 19 rfl rfl)
theorem dX0_prepareOne_68 : decode cX0_prepareOne 68 = .ok (.aload_n 0, 1) := dk_42 (dk_at dksX0_prepareOne_2 20 rfl rfl)
theorem dX0_prepareOne_69 : decode cX0_prepareOne 69 = .ok (.getfield 19, 3) := dk_180 0 19 (dk_at dksX0_prepareOne_2 21 rfl rfl)
theorem dX0_prepareOne_72 : decode cX0_prepareOne 72 = .ok (.iload_n 2, 1) := dk_28 (dk_at dksX0_prepareOne_3 0 rfl rfl)
theorem dX0_prepareOne_73 : decode cX0_prepareOne 73 = .ok (.invokevirtual 424, 3) := dk_182 1 168 (dk_at dksX0_prepareOne_3 1 rfl rfl)
theorem dX0_prepareOne_76 : decode cX0_prepareOne 76 = .ok (.ifCond .ne 21, 3) := dk_154 0 21 (dk_at dksX0_prepareOne_3 4 rfl rfl)
theorem dX0_prepareOne_79 : decode cX0_prepareOne 79 = .ok (.iload 4, 2) := dk_21 4 (dk_at dksX0_prepareOne_3 7 rfl rfl)
theorem dX0_prepareOne_81 : decode cX0_prepareOne 81 = .ok (.aload_n 0, 1) := dk_42 (dk_at dksX0_prepareOne_3 9 rfl rfl)
theorem dX0_prepareOne_82 : decode cX0_prepareOne 82 = .ok (.getfield 19, 3) := dk_180 0 19 (dk_at dksX0_prepareOne_3 10 rfl rfl)
theorem dX0_prepareOne_85 : decode cX0_prepareOne 85 = .ok (.iconst 0, 1) := dk_3 (dk_at dksX0_prepareOne_3 13 rfl rfl)
theorem dX0_prepareOne_86 : decode cX0_prepareOne 86 = .ok (.iload_n 2, 1) := dk_28 (dk_at dksX0_prepareOne_3 14 rfl rfl)
theorem dX0_prepareOne_87 : decode cX0_prepareOne 87 = .ok (.invokevirtual 226, 3) := dk_182 0 226 (dk_at dksX0_prepareOne_3 15 rfl rfl)
theorem dX0_prepareOne_90 : decode cX0_prepareOne 90 = .ok (.if_icmp .lt 7, 3) := dk_161 0 7 (dk_at dksX0_prepareOne_3 18 rfl rfl)
theorem dX0_prepareOne_93 : decode cX0_prepareOne 93 = .ok (.iconst 1, 1) := dk_4 (dk_at dksX0_prepareOne_3 21 rfl rfl)
theorem dX0_prepareOne_94 : decode cX0_prepareOne 94 = .ok (.goto 4, 3) := dk_167 0 4 (dk_at dksX0_prepareOne_4 0 rfl rfl)
theorem dX0_prepareOne_97 : decode cX0_prepareOne 97 = .ok (.iconst 0, 1) := dk_3 (dk_at dksX0_prepareOne_4 3 rfl rfl)
theorem dX0_prepareOne_98 : decode cX0_prepareOne 98 = .ok (.bastore, 1) := dk_84 (dk_at dksX0_prepareOne_4 4 rfl rfl)
theorem dX0_prepareOne_99 : decode cX0_prepareOne 99 = .ok (.aload_n 0, 1) := dk_42 (dk_at dksX0_prepareOne_4 5 rfl rfl)
theorem dX0_prepareOne_100 : decode cX0_prepareOne 100 = .ok (.getfield 19, 3) := dk_180 0 19 (dk_at dksX0_prepareOne_4 6 rfl rfl)
theorem dX0_prepareOne_103 : decode cX0_prepareOne 103 = .ok (.iconst (-1), 1) := dk_2 (dk_at dksX0_prepareOne_4 9 rfl rfl)
theorem dX0_prepareOne_104 : decode cX0_prepareOne 104 = .ok (.putfield 461, 3) := dk_181 1 205 (dk_at dksX0_prepareOne_4 10 rfl rfl)
theorem dX0_prepareOne_107 : decode cX0_prepareOne 107 = .ok (.aload_n 0, 1) := dk_42 (dk_at dksX0_prepareOne_4 13 rfl rfl)
theorem dX0_prepareOne_108 : decode cX0_prepareOne 108 = .ok (.getfield 79, 3) := dk_180 0 79 (dk_at dksX0_prepareOne_4 14 rfl rfl)
theorem dX0_prepareOne_111 : decode cX0_prepareOne 111 = .ok (.iconst 4, 1) := dk_7 (dk_at dksX0_prepareOne_4 17 rfl rfl)
theorem dX0_prepareOne_112 : decode cX0_prepareOne 112 = .ok (.iload_n 1, 1) := dk_27 (dk_at dksX0_prepareOne_4 18 rfl rfl)
theorem dX0_prepareOne_113 : decode cX0_prepareOne 113 = .ok (.imul, 1) := dk_104 (dk_at dksX0_prepareOne_4 19 rfl rfl)
theorem dX0_prepareOne_114 : decode cX0_prepareOne 114 = .ok (.iload_n 3, 1) := dk_29 (dk_at dksX0_prepareOne_4 20 rfl rfl)
theorem dX0_prepareOne_115 : decode cX0_prepareOne 115 = .ok (.iadd, 1) := dk_96 (dk_at dksX0_prepareOne_4 21 rfl rfl)
theorem dX0_prepareOne_116 : decode cX0_prepareOne 116 = .ok (.aload_n 0, 1) := dk_42 (dk_at dksX0_prepareOne_4 22 rfl rfl)
theorem dX0_prepareOne_117 : decode cX0_prepareOne 117 = .ok (.getfield 19, 3) := dk_180 0 19 (dk_at dksX0_prepareOne_5 0 rfl rfl)
theorem dX0_prepareOne_120 : decode cX0_prepareOne 120 = .ok (.iload_n 2, 1) := dk_28 (dk_at dksX0_prepareOne_5 3 rfl rfl)
theorem dX0_prepareOne_121 : decode cX0_prepareOne 121 = .ok (.iload 4, 2) := dk_21 4 (dk_at dksX0_prepareOne_5 4 rfl rfl)
theorem dX0_prepareOne_123 : decode cX0_prepareOne 123 = .ok (.aload_n 0, 1) := dk_42 (dk_at dksX0_prepareOne_5 6 rfl rfl)
theorem dX0_prepareOne_124 : decode cX0_prepareOne 124 = .ok (.getfield 19, 3) := dk_180 0 19 (dk_at dksX0_prepareOne_5 7 rfl rfl)
theorem dX0_prepareOne_127 : decode cX0_prepareOne 127 = .ok (.getfield 139, 3) := dk_180 0 139 (dk_at dksX0_prepareOne_5 10 rfl rfl)
theorem dX0_prepareOne_130 : decode cX0_prepareOne 130 = .ok (.iload_n 2, 1) := dk_28 (dk_at dksX0_prepareOne_5 13 rfl rfl)
theorem dX0_prepareOne_131 : decode cX0_prepareOne 131 = .ok (.iaload, 1) := dk_46 (dk_at dksX0_prepareOne_5 14 rfl rfl)
theorem dX0_prepareOne_132 : decode cX0_prepareOne 132 = .ok (.invokevirtual 464, 3) := dk_182 1 208 (dk_at dksX0_prepareOne_5 15 rfl rfl)
theorem dX0_prepareOne_135 : decode cX0_prepareOne 135 = .ok (.iastore, 1) := dk_79 (dk_at dksX0_prepareOne_5 18 rfl rfl)
theorem dX0_prepareOne_136 : decode cX0_prepareOne 136 = .ok (.iinc 3 1, 3) := dk_132 3 1 (dk_at dksX0_prepareOne_5 19 rfl rfl)
theorem dX0_prepareOne_139 : decode cX0_prepareOne 139 = .ok (.goto (-115), 3) := dk_167 255 141 (dk_at dksX0_prepareOne_6 0 rfl rfl)
theorem dX0_prepareOne_142 : decode cX0_prepareOne 142 = .ok (.return_, 1) := dk_177 (dk_at dksX0_prepareOne_6 3 rfl rfl)
abbrev cX0_tryAll : ByteArray := prog_1_method_72_code
def yX0_tryAll : MethodName := ⟨RX0, "tryAll", "(I)V"⟩
def dkwX0_tryAll_2 : List UInt8 := [132, 2, 1, 167, 255, 222, 177]
abbrev dktX0_tryAll_2 : List UInt8 := dkwX0_tryAll_2 ++ []
def dkwX0_tryAll_1 : List UInt8 := [27, 28, 182, 1, 213, 153, 0, 17, 42, 180, 0, 88, 27, 28, 79, 42, 27, 4, 96, 182, 2, 14]
abbrev dktX0_tryAll_1 : List UInt8 := dkwX0_tryAll_1 ++ dktX0_tryAll_2
def dkwX0_tryAll_0 : List UInt8 := [27, 42, 180, 1, 197, 160, 0, 8, 42, 182, 2, 11, 177, 3, 61, 28, 42, 180, 1, 194, 163, 0, 32, 42]
abbrev dktX0_tryAll_0 : List UInt8 := dkwX0_tryAll_0 ++ dktX0_tryAll_1
theorem dksX0_tryAll_0 : cX0_tryAll.data.toList.drop 0 = dktX0_tryAll_0 := by decide +kernel
theorem dksX0_tryAll_1 : cX0_tryAll.data.toList.drop 24 = dktX0_tryAll_1 := dk_seg dksX0_tryAll_0 24 rfl rfl
theorem dksX0_tryAll_2 : cX0_tryAll.data.toList.drop 46 = dktX0_tryAll_2 := dk_seg dksX0_tryAll_1 22 rfl rfl
theorem dX0_tryAll_0 : decode cX0_tryAll 0 = .ok (.iload_n 1, 1) := dk_27 (dk_at dksX0_tryAll_0 0 rfl rfl)
theorem dX0_tryAll_1 : decode cX0_tryAll 1 = .ok (.aload_n 0, 1) := dk_42 (dk_at dksX0_tryAll_0 1 rfl rfl)
theorem dX0_tryAll_2 : decode cX0_tryAll 2 = .ok (.getfield 453, 3) := dk_180 1 197 (dk_at dksX0_tryAll_0 2 rfl rfl)
theorem dX0_tryAll_5 : decode cX0_tryAll 5 = .ok (.if_icmp .ne 8, 3) := dk_160 0 8 (dk_at dksX0_tryAll_0 5 rfl rfl)
theorem dX0_tryAll_8 : decode cX0_tryAll 8 = .ok (.aload_n 0, 1) := dk_42 (dk_at dksX0_tryAll_0 8 rfl rfl)
theorem dX0_tryAll_9 : decode cX0_tryAll 9 = .ok (.invokevirtual 523, 3) := dk_182 2 11 (dk_at dksX0_tryAll_0 9 rfl rfl)
theorem dX0_tryAll_12 : decode cX0_tryAll 12 = .ok (.return_, 1) := dk_177 (dk_at dksX0_tryAll_0 12 rfl rfl)
theorem dX0_tryAll_13 : decode cX0_tryAll 13 = .ok (.iconst 0, 1) := dk_3 (dk_at dksX0_tryAll_0 13 rfl rfl)
theorem dX0_tryAll_14 : decode cX0_tryAll 14 = .ok (.istore_n 2, 1) := dk_61 (dk_at dksX0_tryAll_0 14 rfl rfl)
theorem dX0_tryAll_15 : decode cX0_tryAll 15 = .ok (.iload_n 2, 1) := dk_28 (dk_at dksX0_tryAll_0 15 rfl rfl)
theorem dX0_tryAll_16 : decode cX0_tryAll 16 = .ok (.aload_n 0, 1) := dk_42 (dk_at dksX0_tryAll_0 16 rfl rfl)
theorem dX0_tryAll_17 : decode cX0_tryAll 17 = .ok (.getfield 450, 3) := dk_180 1 194 (dk_at dksX0_tryAll_0 17 rfl rfl)
theorem dX0_tryAll_20 : decode cX0_tryAll 20 = .ok (.if_icmp .gt 32, 3) := dk_163 0 32 (dk_at dksX0_tryAll_0 20 rfl rfl)
theorem dX0_tryAll_23 : decode cX0_tryAll 23 = .ok (.aload_n 0, 1) := dk_42 (dk_at dksX0_tryAll_0 23 rfl rfl)
theorem dX0_tryAll_24 : decode cX0_tryAll 24 = .ok (.iload_n 1, 1) := dk_27 (dk_at dksX0_tryAll_1 0 rfl rfl)
theorem dX0_tryAll_25 : decode cX0_tryAll 25 = .ok (.iload_n 2, 1) := dk_28 (dk_at dksX0_tryAll_1 1 rfl rfl)
theorem dX0_tryAll_26 : decode cX0_tryAll 26 = .ok (.invokevirtual 469, 3) := dk_182 1 213 (dk_at dksX0_tryAll_1 2 rfl rfl)
theorem dX0_tryAll_29 : decode cX0_tryAll 29 = .ok (.ifCond .eq 17, 3) := dk_153 0 17 (dk_at dksX0_tryAll_1 5 rfl rfl)
theorem dX0_tryAll_32 : decode cX0_tryAll 32 = .ok (.aload_n 0, 1) := dk_42 (dk_at dksX0_tryAll_1 8 rfl rfl)
theorem dX0_tryAll_33 : decode cX0_tryAll 33 = .ok (.getfield 88, 3) := dk_180 0 88 (dk_at dksX0_tryAll_1 9 rfl rfl)
theorem dX0_tryAll_36 : decode cX0_tryAll 36 = .ok (.iload_n 1, 1) := dk_27 (dk_at dksX0_tryAll_1 12 rfl rfl)
theorem dX0_tryAll_37 : decode cX0_tryAll 37 = .ok (.iload_n 2, 1) := dk_28 (dk_at dksX0_tryAll_1 13 rfl rfl)
theorem dX0_tryAll_38 : decode cX0_tryAll 38 = .ok (.iastore, 1) := dk_79 (dk_at dksX0_tryAll_1 14 rfl rfl)
theorem dX0_tryAll_39 : decode cX0_tryAll 39 = .ok (.aload_n 0, 1) := dk_42 (dk_at dksX0_tryAll_1 15 rfl rfl)
theorem dX0_tryAll_40 : decode cX0_tryAll 40 = .ok (.iload_n 1, 1) := dk_27 (dk_at dksX0_tryAll_1 16 rfl rfl)
theorem dX0_tryAll_41 : decode cX0_tryAll 41 = .ok (.iconst 1, 1) := dk_4 (dk_at dksX0_tryAll_1 17 rfl rfl)
theorem dX0_tryAll_42 : decode cX0_tryAll 42 = .ok (.iadd, 1) := dk_96 (dk_at dksX0_tryAll_1 18 rfl rfl)
theorem dX0_tryAll_43 : decode cX0_tryAll 43 = .ok (.invokevirtual 526, 3) := dk_182 2 14 (dk_at dksX0_tryAll_1 19 rfl rfl)
theorem dX0_tryAll_46 : decode cX0_tryAll 46 = .ok (.iinc 2 1, 3) := dk_132 2 1 (dk_at dksX0_tryAll_2 0 rfl rfl)
theorem dX0_tryAll_49 : decode cX0_tryAll 49 = .ok (.goto (-34), 3) := dk_167 255 222 (dk_at dksX0_tryAll_2 3 rfl rfl)
theorem dX0_tryAll_52 : decode cX0_tryAll 52 = .ok (.return_, 1) := dk_177 (dk_at dksX0_tryAll_2 6 rfl rfl)
abbrev cX0_judgeRow : ByteArray := prog_1_method_71_code
def yX0_judgeRow : MethodName := ⟨RX0, "judgeRow", "()V"⟩
def dkwX0_judgeRow_7 : List UInt8 := [42, 180, 0, 88, 3, 42, 180, 0, 91, 3, 42, 180, 1, 197, 184, 2, 5, 177]
abbrev dktX0_judgeRow_7 : List UInt8 := dkwX0_judgeRow_7 ++ []
def dkwX0_judgeRow_6 : List UInt8 := [153, 0, 41, 42, 4, 181, 2, 1, 42, 31, 181, 1, 248, 42, 33, 181, 1, 251, 42, 21, 5, 181, 1, 254]
abbrev dktX0_judgeRow_6 : List UInt8 := dkwX0_judgeRow_6 ++ dktX0_judgeRow_7
def dkwX0_judgeRow_5 : List UInt8 := [9, 148, 155, 0, 24, 31, 42, 180, 1, 241, 148, 156, 0, 15, 42, 180, 2, 1, 153, 0, 46, 21, 6]
abbrev dktX0_judgeRow_5 : List UInt8 := dkwX0_judgeRow_5 ++ dktX0_judgeRow_6
def dkwX0_judgeRow_4 : List UInt8 := [180, 1, 254, 162, 0, 7, 4, 167, 0, 4, 3, 54, 6, 42, 180, 2, 1, 154, 0, 21, 42, 180, 1, 241]
abbrev dktX0_judgeRow_4 : List UInt8 := dkwX0_judgeRow_4 ++ dktX0_judgeRow_5
def dkwX0_judgeRow_3 : List UInt8 := [158, 0, 7, 4, 167, 0, 30, 3, 167, 0, 26, 31, 42, 180, 1, 241, 148, 155, 0, 16, 21, 5, 42]
abbrev dktX0_judgeRow_3 : List UInt8 := dkwX0_judgeRow_3 ++ dktX0_judgeRow_4
def dkwX0_judgeRow_2 : List UInt8 := [180, 1, 248, 148, 157, 0, 21, 31, 42, 180, 1, 248, 148, 154, 0, 16, 33, 42, 180, 1, 251, 148]
abbrev dktX0_judgeRow_2 : List UInt8 := dkwX0_judgeRow_2 ++ dktX0_judgeRow_3
def dkwX0_judgeRow_1 : List UInt8 := [156, 0, 7, 3, 167, 0, 7, 42, 182, 1, 245, 54, 5, 42, 180, 1, 241, 9, 148, 156, 0, 38, 31, 42]
abbrev dktX0_judgeRow_1 : List UInt8 := dkwX0_judgeRow_1 ++ dktX0_judgeRow_2
def dkwX0_judgeRow_0 : List UInt8 := [42, 182, 1, 230, 154, 0, 4, 177, 42, 182, 1, 234, 64, 42, 182, 1, 238, 66, 42, 180, 1, 241, 9, 148]
abbrev dktX0_judgeRow_0 : List UInt8 := dkwX0_judgeRow_0 ++ dktX0_judgeRow_1
theorem dksX0_judgeRow_0 : cX0_judgeRow.data.toList.drop 0 = dktX0_judgeRow_0 := by decide +kernel
theorem dksX0_judgeRow_1 : cX0_judgeRow.data.toList.drop 24 = dktX0_judgeRow_1 := dk_seg dksX0_judgeRow_0 24 rfl rfl
theorem dksX0_judgeRow_2 : cX0_judgeRow.data.toList.drop 48 = dktX0_judgeRow_2 := dk_seg dksX0_judgeRow_1 24 rfl rfl
theorem dksX0_judgeRow_3 : cX0_judgeRow.data.toList.drop 70 = dktX0_judgeRow_3 := dk_seg dksX0_judgeRow_2 22 rfl rfl
theorem dksX0_judgeRow_4 : cX0_judgeRow.data.toList.drop 93 = dktX0_judgeRow_4 := dk_seg dksX0_judgeRow_3 23 rfl rfl
theorem dksX0_judgeRow_5 : cX0_judgeRow.data.toList.drop 117 = dktX0_judgeRow_5 := dk_seg dksX0_judgeRow_4 24 rfl rfl
theorem dksX0_judgeRow_6 : cX0_judgeRow.data.toList.drop 140 = dktX0_judgeRow_6 := dk_seg dksX0_judgeRow_5 23 rfl rfl
theorem dksX0_judgeRow_7 : cX0_judgeRow.data.toList.drop 164 = dktX0_judgeRow_7 := dk_seg dksX0_judgeRow_6 24 rfl rfl
theorem dX0_judgeRow_0 : decode cX0_judgeRow 0 = .ok (.aload_n 0, 1) := dk_42 (dk_at dksX0_judgeRow_0 0 rfl rfl)
theorem dX0_judgeRow_1 : decode cX0_judgeRow 1 = .ok (.invokevirtual 486, 3) := dk_182 1 230 (dk_at dksX0_judgeRow_0 1 rfl rfl)
theorem dX0_judgeRow_4 : decode cX0_judgeRow 4 = .ok (.ifCond .ne 4, 3) := dk_154 0 4 (dk_at dksX0_judgeRow_0 4 rfl rfl)
theorem dX0_judgeRow_7 : decode cX0_judgeRow 7 = .ok (.return_, 1) := dk_177 (dk_at dksX0_judgeRow_0 7 rfl rfl)
theorem dX0_judgeRow_8 : decode cX0_judgeRow 8 = .ok (.aload_n 0, 1) := dk_42 (dk_at dksX0_judgeRow_0 8 rfl rfl)
theorem dX0_judgeRow_9 : decode cX0_judgeRow 9 = .ok (.invokevirtual 490, 3) := dk_182 1 234 (dk_at dksX0_judgeRow_0 9 rfl rfl)
theorem dX0_judgeRow_12 : decode cX0_judgeRow 12 = .ok (.lstore_n 1, 1) := dk_64 (dk_at dksX0_judgeRow_0 12 rfl rfl)
theorem dX0_judgeRow_13 : decode cX0_judgeRow 13 = .ok (.aload_n 0, 1) := dk_42 (dk_at dksX0_judgeRow_0 13 rfl rfl)
theorem dX0_judgeRow_14 : decode cX0_judgeRow 14 = .ok (.invokevirtual 494, 3) := dk_182 1 238 (dk_at dksX0_judgeRow_0 14 rfl rfl)
theorem dX0_judgeRow_17 : decode cX0_judgeRow 17 = .ok (.lstore_n 3, 1) := dk_66 (dk_at dksX0_judgeRow_0 17 rfl rfl)
theorem dX0_judgeRow_18 : decode cX0_judgeRow 18 = .ok (.aload_n 0, 1) := dk_42 (dk_at dksX0_judgeRow_0 18 rfl rfl)
theorem dX0_judgeRow_19 : decode cX0_judgeRow 19 = .ok (.getfield 497, 3) := dk_180 1 241 (dk_at dksX0_judgeRow_0 19 rfl rfl)
theorem dX0_judgeRow_22 : decode cX0_judgeRow 22 = .ok (.lconst 0, 1) := dk_9 (dk_at dksX0_judgeRow_0 22 rfl rfl)
theorem dX0_judgeRow_23 : decode cX0_judgeRow 23 = .ok (.lcmp, 1) := dk_148 (dk_at dksX0_judgeRow_0 23 rfl rfl)
theorem dX0_judgeRow_24 : decode cX0_judgeRow 24 = .ok (.ifCond .ge 7, 3) := dk_156 0 7 (dk_at dksX0_judgeRow_1 0 rfl rfl)
theorem dX0_judgeRow_27 : decode cX0_judgeRow 27 = .ok (.iconst 0, 1) := dk_3 (dk_at dksX0_judgeRow_1 3 rfl rfl)
theorem dX0_judgeRow_28 : decode cX0_judgeRow 28 = .ok (.goto 7, 3) := dk_167 0 7 (dk_at dksX0_judgeRow_1 4 rfl rfl)
theorem dX0_judgeRow_31 : decode cX0_judgeRow 31 = .ok (.aload_n 0, 1) := dk_42 (dk_at dksX0_judgeRow_1 7 rfl rfl)
theorem dX0_judgeRow_32 : decode cX0_judgeRow 32 = .ok (.invokevirtual 501, 3) := dk_182 1 245 (dk_at dksX0_judgeRow_1 8 rfl rfl)
theorem dX0_judgeRow_35 : decode cX0_judgeRow 35 = .ok (.istore 5, 2) := dk_54 5 (dk_at dksX0_judgeRow_1 11 rfl rfl)
theorem dX0_judgeRow_37 : decode cX0_judgeRow 37 = .ok (.aload_n 0, 1) := dk_42 (dk_at dksX0_judgeRow_1 13 rfl rfl)
theorem dX0_judgeRow_38 : decode cX0_judgeRow 38 = .ok (.getfield 497, 3) := dk_180 1 241 (dk_at dksX0_judgeRow_1 14 rfl rfl)
theorem dX0_judgeRow_41 : decode cX0_judgeRow 41 = .ok (.lconst 0, 1) := dk_9 (dk_at dksX0_judgeRow_1 17 rfl rfl)
theorem dX0_judgeRow_42 : decode cX0_judgeRow 42 = .ok (.lcmp, 1) := dk_148 (dk_at dksX0_judgeRow_1 18 rfl rfl)
theorem dX0_judgeRow_43 : decode cX0_judgeRow 43 = .ok (.ifCond .ge 38, 3) := dk_156 0 38 (dk_at dksX0_judgeRow_1 19 rfl rfl)
theorem dX0_judgeRow_46 : decode cX0_judgeRow 46 = .ok (.lload_n 1, 1) := dk_31 (dk_at dksX0_judgeRow_1 22 rfl rfl)
theorem dX0_judgeRow_47 : decode cX0_judgeRow 47 = .ok (.aload_n 0, 1) := dk_42 (dk_at dksX0_judgeRow_1 23 rfl rfl)
theorem dX0_judgeRow_48 : decode cX0_judgeRow 48 = .ok (.getfield 504, 3) := dk_180 1 248 (dk_at dksX0_judgeRow_2 0 rfl rfl)
theorem dX0_judgeRow_51 : decode cX0_judgeRow 51 = .ok (.lcmp, 1) := dk_148 (dk_at dksX0_judgeRow_2 3 rfl rfl)
theorem dX0_judgeRow_52 : decode cX0_judgeRow 52 = .ok (.ifCond .gt 21, 3) := dk_157 0 21 (dk_at dksX0_judgeRow_2 4 rfl rfl)
theorem dX0_judgeRow_55 : decode cX0_judgeRow 55 = .ok (.lload_n 1, 1) := dk_31 (dk_at dksX0_judgeRow_2 7 rfl rfl)
theorem dX0_judgeRow_56 : decode cX0_judgeRow 56 = .ok (.aload_n 0, 1) := dk_42 (dk_at dksX0_judgeRow_2 8 rfl rfl)
theorem dX0_judgeRow_57 : decode cX0_judgeRow 57 = .ok (.getfield 504, 3) := dk_180 1 248 (dk_at dksX0_judgeRow_2 9 rfl rfl)
theorem dX0_judgeRow_60 : decode cX0_judgeRow 60 = .ok (.lcmp, 1) := dk_148 (dk_at dksX0_judgeRow_2 12 rfl rfl)
theorem dX0_judgeRow_61 : decode cX0_judgeRow 61 = .ok (.ifCond .ne 16, 3) := dk_154 0 16 (dk_at dksX0_judgeRow_2 13 rfl rfl)
theorem dX0_judgeRow_64 : decode cX0_judgeRow 64 = .ok (.lload_n 3, 1) := dk_33 (dk_at dksX0_judgeRow_2 16 rfl rfl)
theorem dX0_judgeRow_65 : decode cX0_judgeRow 65 = .ok (.aload_n 0, 1) := dk_42 (dk_at dksX0_judgeRow_2 17 rfl rfl)
theorem dX0_judgeRow_66 : decode cX0_judgeRow 66 = .ok (.getfield 507, 3) := dk_180 1 251 (dk_at dksX0_judgeRow_2 18 rfl rfl)
theorem dX0_judgeRow_69 : decode cX0_judgeRow 69 = .ok (.lcmp, 1) := dk_148 (dk_at dksX0_judgeRow_2 21 rfl rfl)
theorem dX0_judgeRow_70 : decode cX0_judgeRow 70 = .ok (.ifCond .le 7, 3) := dk_158 0 7 (dk_at dksX0_judgeRow_3 0 rfl rfl)
theorem dX0_judgeRow_73 : decode cX0_judgeRow 73 = .ok (.iconst 1, 1) := dk_4 (dk_at dksX0_judgeRow_3 3 rfl rfl)
theorem dX0_judgeRow_74 : decode cX0_judgeRow 74 = .ok (.goto 30, 3) := dk_167 0 30 (dk_at dksX0_judgeRow_3 4 rfl rfl)
theorem dX0_judgeRow_77 : decode cX0_judgeRow 77 = .ok (.iconst 0, 1) := dk_3 (dk_at dksX0_judgeRow_3 7 rfl rfl)
theorem dX0_judgeRow_78 : decode cX0_judgeRow 78 = .ok (.goto 26, 3) := dk_167 0 26 (dk_at dksX0_judgeRow_3 8 rfl rfl)
theorem dX0_judgeRow_81 : decode cX0_judgeRow 81 = .ok (.lload_n 1, 1) := dk_31 (dk_at dksX0_judgeRow_3 11 rfl rfl)
theorem dX0_judgeRow_82 : decode cX0_judgeRow 82 = .ok (.aload_n 0, 1) := dk_42 (dk_at dksX0_judgeRow_3 12 rfl rfl)
theorem dX0_judgeRow_83 : decode cX0_judgeRow 83 = .ok (.getfield 497, 3) := dk_180 1 241 (dk_at dksX0_judgeRow_3 13 rfl rfl)
theorem dX0_judgeRow_86 : decode cX0_judgeRow 86 = .ok (.lcmp, 1) := dk_148 (dk_at dksX0_judgeRow_3 16 rfl rfl)
theorem dX0_judgeRow_87 : decode cX0_judgeRow 87 = .ok (.ifCond .lt 16, 3) := dk_155 0 16 (dk_at dksX0_judgeRow_3 17 rfl rfl)
theorem dX0_judgeRow_90 : decode cX0_judgeRow 90 = .ok (.iload 5, 2) := dk_21 5 (dk_at dksX0_judgeRow_3 20 rfl rfl)
theorem dX0_judgeRow_92 : decode cX0_judgeRow 92 = .ok (.aload_n 0, 1) := dk_42 (dk_at dksX0_judgeRow_3 22 rfl rfl)
theorem dX0_judgeRow_93 : decode cX0_judgeRow 93 = .ok (.getfield 510, 3) := dk_180 1 254 (dk_at dksX0_judgeRow_4 0 rfl rfl)
theorem dX0_judgeRow_96 : decode cX0_judgeRow 96 = .ok (.if_icmp .ge 7, 3) := dk_162 0 7 (dk_at dksX0_judgeRow_4 3 rfl rfl)
theorem dX0_judgeRow_99 : decode cX0_judgeRow 99 = .ok (.iconst 1, 1) := dk_4 (dk_at dksX0_judgeRow_4 6 rfl rfl)
theorem dX0_judgeRow_100 : decode cX0_judgeRow 100 = .ok (.goto 4, 3) := dk_167 0 4 (dk_at dksX0_judgeRow_4 7 rfl rfl)
theorem dX0_judgeRow_103 : decode cX0_judgeRow 103 = .ok (.iconst 0, 1) := dk_3 (dk_at dksX0_judgeRow_4 10 rfl rfl)
theorem dX0_judgeRow_104 : decode cX0_judgeRow 104 = .ok (.istore 6, 2) := dk_54 6 (dk_at dksX0_judgeRow_4 11 rfl rfl)
theorem dX0_judgeRow_106 : decode cX0_judgeRow 106 = .ok (.aload_n 0, 1) := dk_42 (dk_at dksX0_judgeRow_4 13 rfl rfl)
theorem dX0_judgeRow_107 : decode cX0_judgeRow 107 = .ok (.getfield 513, 3) := dk_180 2 1 (dk_at dksX0_judgeRow_4 14 rfl rfl)
theorem dX0_judgeRow_110 : decode cX0_judgeRow 110 = .ok (.ifCond .ne 21, 3) := dk_154 0 21 (dk_at dksX0_judgeRow_4 17 rfl rfl)
theorem dX0_judgeRow_113 : decode cX0_judgeRow 113 = .ok (.aload_n 0, 1) := dk_42 (dk_at dksX0_judgeRow_4 20 rfl rfl)
theorem dX0_judgeRow_114 : decode cX0_judgeRow 114 = .ok (.getfield 497, 3) := dk_180 1 241 (dk_at dksX0_judgeRow_4 21 rfl rfl)
theorem dX0_judgeRow_117 : decode cX0_judgeRow 117 = .ok (.lconst 0, 1) := dk_9 (dk_at dksX0_judgeRow_5 0 rfl rfl)
theorem dX0_judgeRow_118 : decode cX0_judgeRow 118 = .ok (.lcmp, 1) := dk_148 (dk_at dksX0_judgeRow_5 1 rfl rfl)
theorem dX0_judgeRow_119 : decode cX0_judgeRow 119 = .ok (.ifCond .lt 24, 3) := dk_155 0 24 (dk_at dksX0_judgeRow_5 2 rfl rfl)
theorem dX0_judgeRow_122 : decode cX0_judgeRow 122 = .ok (.lload_n 1, 1) := dk_31 (dk_at dksX0_judgeRow_5 5 rfl rfl)
theorem dX0_judgeRow_123 : decode cX0_judgeRow 123 = .ok (.aload_n 0, 1) := dk_42 (dk_at dksX0_judgeRow_5 6 rfl rfl)
theorem dX0_judgeRow_124 : decode cX0_judgeRow 124 = .ok (.getfield 497, 3) := dk_180 1 241 (dk_at dksX0_judgeRow_5 7 rfl rfl)
theorem dX0_judgeRow_127 : decode cX0_judgeRow 127 = .ok (.lcmp, 1) := dk_148 (dk_at dksX0_judgeRow_5 10 rfl rfl)
theorem dX0_judgeRow_128 : decode cX0_judgeRow 128 = .ok (.ifCond .ge 15, 3) := dk_156 0 15 (dk_at dksX0_judgeRow_5 11 rfl rfl)
theorem dX0_judgeRow_131 : decode cX0_judgeRow 131 = .ok (.aload_n 0, 1) := dk_42 (dk_at dksX0_judgeRow_5 14 rfl rfl)
theorem dX0_judgeRow_132 : decode cX0_judgeRow 132 = .ok (.getfield 513, 3) := dk_180 2 1 (dk_at dksX0_judgeRow_5 15 rfl rfl)
theorem dX0_judgeRow_135 : decode cX0_judgeRow 135 = .ok (.ifCond .eq 46, 3) := dk_153 0 46 (dk_at dksX0_judgeRow_5 18 rfl rfl)
theorem dX0_judgeRow_138 : decode cX0_judgeRow 138 = .ok (.iload 6, 2) := dk_21 6 (dk_at dksX0_judgeRow_5 21 rfl rfl)
theorem dX0_judgeRow_140 : decode cX0_judgeRow 140 = .ok (.ifCond .eq 41, 3) := dk_153 0 41 (dk_at dksX0_judgeRow_6 0 rfl rfl)
theorem dX0_judgeRow_143 : decode cX0_judgeRow 143 = .ok (.aload_n 0, 1) := dk_42 (dk_at dksX0_judgeRow_6 3 rfl rfl)
theorem dX0_judgeRow_144 : decode cX0_judgeRow 144 = .ok (.iconst 1, 1) := dk_4 (dk_at dksX0_judgeRow_6 4 rfl rfl)
theorem dX0_judgeRow_145 : decode cX0_judgeRow 145 = .ok (.putfield 513, 3) := dk_181 2 1 (dk_at dksX0_judgeRow_6 5 rfl rfl)
theorem dX0_judgeRow_148 : decode cX0_judgeRow 148 = .ok (.aload_n 0, 1) := dk_42 (dk_at dksX0_judgeRow_6 8 rfl rfl)
theorem dX0_judgeRow_149 : decode cX0_judgeRow 149 = .ok (.lload_n 1, 1) := dk_31 (dk_at dksX0_judgeRow_6 9 rfl rfl)
theorem dX0_judgeRow_150 : decode cX0_judgeRow 150 = .ok (.putfield 504, 3) := dk_181 1 248 (dk_at dksX0_judgeRow_6 10 rfl rfl)
theorem dX0_judgeRow_153 : decode cX0_judgeRow 153 = .ok (.aload_n 0, 1) := dk_42 (dk_at dksX0_judgeRow_6 13 rfl rfl)
theorem dX0_judgeRow_154 : decode cX0_judgeRow 154 = .ok (.lload_n 3, 1) := dk_33 (dk_at dksX0_judgeRow_6 14 rfl rfl)
theorem dX0_judgeRow_155 : decode cX0_judgeRow 155 = .ok (.putfield 507, 3) := dk_181 1 251 (dk_at dksX0_judgeRow_6 15 rfl rfl)
theorem dX0_judgeRow_158 : decode cX0_judgeRow 158 = .ok (.aload_n 0, 1) := dk_42 (dk_at dksX0_judgeRow_6 18 rfl rfl)
theorem dX0_judgeRow_159 : decode cX0_judgeRow 159 = .ok (.iload 5, 2) := dk_21 5 (dk_at dksX0_judgeRow_6 19 rfl rfl)
theorem dX0_judgeRow_161 : decode cX0_judgeRow 161 = .ok (.putfield 510, 3) := dk_181 1 254 (dk_at dksX0_judgeRow_6 21 rfl rfl)
theorem dX0_judgeRow_164 : decode cX0_judgeRow 164 = .ok (.aload_n 0, 1) := dk_42 (dk_at dksX0_judgeRow_7 0 rfl rfl)
theorem dX0_judgeRow_165 : decode cX0_judgeRow 165 = .ok (.getfield 88, 3) := dk_180 0 88 (dk_at dksX0_judgeRow_7 1 rfl rfl)
theorem dX0_judgeRow_168 : decode cX0_judgeRow 168 = .ok (.iconst 0, 1) := dk_3 (dk_at dksX0_judgeRow_7 4 rfl rfl)
theorem dX0_judgeRow_169 : decode cX0_judgeRow 169 = .ok (.aload_n 0, 1) := dk_42 (dk_at dksX0_judgeRow_7 5 rfl rfl)
theorem dX0_judgeRow_170 : decode cX0_judgeRow 170 = .ok (.getfield 91, 3) := dk_180 0 91 (dk_at dksX0_judgeRow_7 6 rfl rfl)
theorem dX0_judgeRow_173 : decode cX0_judgeRow 173 = .ok (.iconst 0, 1) := dk_3 (dk_at dksX0_judgeRow_7 9 rfl rfl)
theorem dX0_judgeRow_174 : decode cX0_judgeRow 174 = .ok (.aload_n 0, 1) := dk_42 (dk_at dksX0_judgeRow_7 10 rfl rfl)
theorem dX0_judgeRow_175 : decode cX0_judgeRow 175 = .ok (.getfield 453, 3) := dk_180 1 197 (dk_at dksX0_judgeRow_7 11 rfl rfl)
theorem dX0_judgeRow_178 : decode cX0_judgeRow 178 = .ok (.invokestatic 517, 3) := dk_184 2 5 (dk_at dksX0_judgeRow_7 14 rfl rfl)
theorem dX0_judgeRow_181 : decode cX0_judgeRow 181 = .ok (.return_, 1) := dk_177 (dk_at dksX0_judgeRow_7 17 rfl rfl)
abbrev cX0_isAllowed : ByteArray := prog_1_method_66_code
def yX0_isAllowed : MethodName := ⟨RX0, "isAllowed", "()Z"⟩
def dkwX0_isAllowed_2 : List UInt8 := [153, 0, 7, 4, 167, 0, 4, 3, 60, 132, 2, 1, 167, 255, 200, 27, 172]
abbrev dktX0_isAllowed_2 : List UInt8 := dkwX0_isAllowed_2 ++ []
def dkwX0_isAllowed_1 : List UInt8 := [182, 1, 213, 153, 0, 28, 42, 180, 0, 88, 28, 46, 42, 180, 1, 194, 159, 0, 11, 42, 28, 182, 1, 216]
abbrev dktX0_isAllowed_1 : List UInt8 := dkwX0_isAllowed_1 ++ dktX0_isAllowed_2
def dkwX0_isAllowed_0 : List UInt8 := [4, 60, 3, 61, 28, 42, 180, 1, 197, 162, 0, 54, 27, 153, 0, 50, 42, 28, 42, 180, 0, 88, 28, 46]
abbrev dktX0_isAllowed_0 : List UInt8 := dkwX0_isAllowed_0 ++ dktX0_isAllowed_1
theorem dksX0_isAllowed_0 : cX0_isAllowed.data.toList.drop 0 = dktX0_isAllowed_0 := by decide +kernel
theorem dksX0_isAllowed_1 : cX0_isAllowed.data.toList.drop 24 = dktX0_isAllowed_1 := dk_seg dksX0_isAllowed_0 24 rfl rfl
theorem dksX0_isAllowed_2 : cX0_isAllowed.data.toList.drop 48 = dktX0_isAllowed_2 := dk_seg dksX0_isAllowed_1 24 rfl rfl
theorem dX0_isAllowed_0 : decode cX0_isAllowed 0 = .ok (.iconst 1, 1) := dk_4 (dk_at dksX0_isAllowed_0 0 rfl rfl)
theorem dX0_isAllowed_1 : decode cX0_isAllowed 1 = .ok (.istore_n 1, 1) := dk_60 (dk_at dksX0_isAllowed_0 1 rfl rfl)
theorem dX0_isAllowed_2 : decode cX0_isAllowed 2 = .ok (.iconst 0, 1) := dk_3 (dk_at dksX0_isAllowed_0 2 rfl rfl)
theorem dX0_isAllowed_3 : decode cX0_isAllowed 3 = .ok (.istore_n 2, 1) := dk_61 (dk_at dksX0_isAllowed_0 3 rfl rfl)
theorem dX0_isAllowed_4 : decode cX0_isAllowed 4 = .ok (.iload_n 2, 1) := dk_28 (dk_at dksX0_isAllowed_0 4 rfl rfl)
theorem dX0_isAllowed_5 : decode cX0_isAllowed 5 = .ok (.aload_n 0, 1) := dk_42 (dk_at dksX0_isAllowed_0 5 rfl rfl)
theorem dX0_isAllowed_6 : decode cX0_isAllowed 6 = .ok (.getfield 453, 3) := dk_180 1 197 (dk_at dksX0_isAllowed_0 6 rfl rfl)
theorem dX0_isAllowed_9 : decode cX0_isAllowed 9 = .ok (.if_icmp .ge 54, 3) := dk_162 0 54 (dk_at dksX0_isAllowed_0 9 rfl rfl)
theorem dX0_isAllowed_12 : decode cX0_isAllowed 12 = .ok (.iload_n 1, 1) := dk_27 (dk_at dksX0_isAllowed_0 12 rfl rfl)
theorem dX0_isAllowed_13 : decode cX0_isAllowed 13 = .ok (.ifCond .eq 50, 3) := dk_153 0 50 (dk_at dksX0_isAllowed_0 13 rfl rfl)
theorem dX0_isAllowed_16 : decode cX0_isAllowed 16 = .ok (.aload_n 0, 1) := dk_42 (dk_at dksX0_isAllowed_0 16 rfl rfl)
theorem dX0_isAllowed_17 : decode cX0_isAllowed 17 = .ok (.iload_n 2, 1) := dk_28 (dk_at dksX0_isAllowed_0 17 rfl rfl)
theorem dX0_isAllowed_18 : decode cX0_isAllowed 18 = .ok (.aload_n 0, 1) := dk_42 (dk_at dksX0_isAllowed_0 18 rfl rfl)
theorem dX0_isAllowed_19 : decode cX0_isAllowed 19 = .ok (.getfield 88, 3) := dk_180 0 88 (dk_at dksX0_isAllowed_0 19 rfl rfl)
theorem dX0_isAllowed_22 : decode cX0_isAllowed 22 = .ok (.iload_n 2, 1) := dk_28 (dk_at dksX0_isAllowed_0 22 rfl rfl)
theorem dX0_isAllowed_23 : decode cX0_isAllowed 23 = .ok (.iaload, 1) := dk_46 (dk_at dksX0_isAllowed_0 23 rfl rfl)
theorem dX0_isAllowed_24 : decode cX0_isAllowed 24 = .ok (.invokevirtual 469, 3) := dk_182 1 213 (dk_at dksX0_isAllowed_1 0 rfl rfl)
theorem dX0_isAllowed_27 : decode cX0_isAllowed 27 = .ok (.ifCond .eq 28, 3) := dk_153 0 28 (dk_at dksX0_isAllowed_1 3 rfl rfl)
theorem dX0_isAllowed_30 : decode cX0_isAllowed 30 = .ok (.aload_n 0, 1) := dk_42 (dk_at dksX0_isAllowed_1 6 rfl rfl)
theorem dX0_isAllowed_31 : decode cX0_isAllowed 31 = .ok (.getfield 88, 3) := dk_180 0 88 (dk_at dksX0_isAllowed_1 7 rfl rfl)
theorem dX0_isAllowed_34 : decode cX0_isAllowed 34 = .ok (.iload_n 2, 1) := dk_28 (dk_at dksX0_isAllowed_1 10 rfl rfl)
theorem dX0_isAllowed_35 : decode cX0_isAllowed 35 = .ok (.iaload, 1) := dk_46 (dk_at dksX0_isAllowed_1 11 rfl rfl)
theorem dX0_isAllowed_36 : decode cX0_isAllowed 36 = .ok (.aload_n 0, 1) := dk_42 (dk_at dksX0_isAllowed_1 12 rfl rfl)
theorem dX0_isAllowed_37 : decode cX0_isAllowed 37 = .ok (.getfield 450, 3) := dk_180 1 194 (dk_at dksX0_isAllowed_1 13 rfl rfl)
theorem dX0_isAllowed_40 : decode cX0_isAllowed 40 = .ok (.if_icmp .eq 11, 3) := dk_159 0 11 (dk_at dksX0_isAllowed_1 16 rfl rfl)
theorem dX0_isAllowed_43 : decode cX0_isAllowed 43 = .ok (.aload_n 0, 1) := dk_42 (dk_at dksX0_isAllowed_1 19 rfl rfl)
theorem dX0_isAllowed_44 : decode cX0_isAllowed 44 = .ok (.iload_n 2, 1) := dk_28 (dk_at dksX0_isAllowed_1 20 rfl rfl)
theorem dX0_isAllowed_45 : decode cX0_isAllowed 45 = .ok (.invokevirtual 472, 3) := dk_182 1 216 (dk_at dksX0_isAllowed_1 21 rfl rfl)
theorem dX0_isAllowed_48 : decode cX0_isAllowed 48 = .ok (.ifCond .eq 7, 3) := dk_153 0 7 (dk_at dksX0_isAllowed_2 0 rfl rfl)
theorem dX0_isAllowed_51 : decode cX0_isAllowed 51 = .ok (.iconst 1, 1) := dk_4 (dk_at dksX0_isAllowed_2 3 rfl rfl)
theorem dX0_isAllowed_52 : decode cX0_isAllowed 52 = .ok (.goto 4, 3) := dk_167 0 4 (dk_at dksX0_isAllowed_2 4 rfl rfl)
theorem dX0_isAllowed_55 : decode cX0_isAllowed 55 = .ok (.iconst 0, 1) := dk_3 (dk_at dksX0_isAllowed_2 7 rfl rfl)
theorem dX0_isAllowed_56 : decode cX0_isAllowed 56 = .ok (.istore_n 1, 1) := dk_60 (dk_at dksX0_isAllowed_2 8 rfl rfl)
theorem dX0_isAllowed_57 : decode cX0_isAllowed 57 = .ok (.iinc 2 1, 3) := dk_132 2 1 (dk_at dksX0_isAllowed_2 9 rfl rfl)
theorem dX0_isAllowed_60 : decode cX0_isAllowed 60 = .ok (.goto (-56), 3) := dk_167 255 200 (dk_at dksX0_isAllowed_2 12 rfl rfl)
theorem dX0_isAllowed_63 : decode cX0_isAllowed 63 = .ok (.iload_n 1, 1) := dk_27 (dk_at dksX0_isAllowed_2 15 rfl rfl)
theorem dX0_isAllowed_64 : decode cX0_isAllowed 64 = .ok (.ireturn, 1) := dk_172 (dk_at dksX0_isAllowed_2 16 rfl rfl)
abbrev cX0_fits : ByteArray := prog_1_method_64_code
def yX0_fits : MethodName := ⟨RX0, "fits", "(II)Z"⟩
def dkwX0_fits_3 : List UInt8 := [46, 28, 159, 0, 7, 4, 167, 0, 4, 3, 62, 132, 4, 1, 167, 255, 203, 29, 172]
abbrev dktX0_fits_3 : List UInt8 := dkwX0_fits_3 ++ []
def dkwX0_fits_2 : List UInt8 := [153, 0, 33, 42, 180, 0, 85, 16, 7, 27, 104, 21, 4, 96, 51, 153, 0, 14, 42, 180, 0, 88, 21, 4]
abbrev dktX0_fits_2 : List UInt8 := dkwX0_fits_2 ++ dktX0_fits_3
def dkwX0_fits_1 : List UInt8 := [167, 0, 4, 3, 62, 3, 54, 4, 21, 4, 27, 162, 0, 53, 28, 42, 180, 1, 194, 162, 0, 45, 29]
abbrev dktX0_fits_1 : List UInt8 := dkwX0_fits_1 ++ dktX0_fits_2
def dkwX0_fits_0 : List UInt8 := [28, 42, 180, 1, 194, 159, 0, 16, 42, 180, 0, 75, 7, 27, 104, 28, 96, 51, 153, 0, 7, 4]
abbrev dktX0_fits_0 : List UInt8 := dkwX0_fits_0 ++ dktX0_fits_1
theorem dksX0_fits_0 : cX0_fits.data.toList.drop 0 = dktX0_fits_0 := by decide +kernel
theorem dksX0_fits_1 : cX0_fits.data.toList.drop 22 = dktX0_fits_1 := dk_seg dksX0_fits_0 22 rfl rfl
theorem dksX0_fits_2 : cX0_fits.data.toList.drop 45 = dktX0_fits_2 := dk_seg dksX0_fits_1 23 rfl rfl
theorem dksX0_fits_3 : cX0_fits.data.toList.drop 69 = dktX0_fits_3 := dk_seg dksX0_fits_2 24 rfl rfl
theorem dX0_fits_0 : decode cX0_fits 0 = .ok (.iload_n 2, 1) := dk_28 (dk_at dksX0_fits_0 0 rfl rfl)
theorem dX0_fits_1 : decode cX0_fits 1 = .ok (.aload_n 0, 1) := dk_42 (dk_at dksX0_fits_0 1 rfl rfl)
theorem dX0_fits_2 : decode cX0_fits 2 = .ok (.getfield 450, 3) := dk_180 1 194 (dk_at dksX0_fits_0 2 rfl rfl)
theorem dX0_fits_5 : decode cX0_fits 5 = .ok (.if_icmp .eq 16, 3) := dk_159 0 16 (dk_at dksX0_fits_0 5 rfl rfl)
theorem dX0_fits_8 : decode cX0_fits 8 = .ok (.aload_n 0, 1) := dk_42 (dk_at dksX0_fits_0 8 rfl rfl)
theorem dX0_fits_9 : decode cX0_fits 9 = .ok (.getfield 75, 3) := dk_180 0 75 (dk_at dksX0_fits_0 9 rfl rfl)
theorem dX0_fits_12 : decode cX0_fits 12 = .ok (.iconst 4, 1) := dk_7 (dk_at dksX0_fits_0 12 rfl rfl)
theorem dX0_fits_13 : decode cX0_fits 13 = .ok (.iload_n 1, 1) := dk_27 (dk_at dksX0_fits_0 13 rfl rfl)
theorem dX0_fits_14 : decode cX0_fits 14 = .ok (.imul, 1) := dk_104 (dk_at dksX0_fits_0 14 rfl rfl)
theorem dX0_fits_15 : decode cX0_fits 15 = .ok (.iload_n 2, 1) := dk_28 (dk_at dksX0_fits_0 15 rfl rfl)
theorem dX0_fits_16 : decode cX0_fits 16 = .ok (.iadd, 1) := dk_96 (dk_at dksX0_fits_0 16 rfl rfl)
theorem dX0_fits_17 : decode cX0_fits 17 = .ok (.baload, 1) := dk_51 (dk_at dksX0_fits_0 17 rfl rfl)
theorem dX0_fits_18 : decode cX0_fits 18 = .ok (.ifCond .eq 7, 3) := dk_153 0 7 (dk_at dksX0_fits_0 18 rfl rfl)
theorem dX0_fits_21 : decode cX0_fits 21 = .ok (.iconst 1, 1) := dk_4 (dk_at dksX0_fits_0 21 rfl rfl)
theorem dX0_fits_22 : decode cX0_fits 22 = .ok (.goto 4, 3) := dk_167 0 4 (dk_at dksX0_fits_1 0 rfl rfl)
theorem dX0_fits_25 : decode cX0_fits 25 = .ok (.iconst 0, 1) := dk_3 (dk_at dksX0_fits_1 3 rfl rfl)
theorem dX0_fits_26 : decode cX0_fits 26 = .ok (.istore_n 3, 1) := dk_62 (dk_at dksX0_fits_1 4 rfl rfl)
theorem dX0_fits_27 : decode cX0_fits 27 = .ok (.iconst 0, 1) := dk_3 (dk_at dksX0_fits_1 5 rfl rfl)
theorem dX0_fits_28 : decode cX0_fits 28 = .ok (.istore 4, 2) := dk_54 4 (dk_at dksX0_fits_1 6 rfl rfl)
theorem dX0_fits_30 : decode cX0_fits 30 = .ok (.iload 4, 2) := dk_21 4 (dk_at dksX0_fits_1 8 rfl rfl)
theorem dX0_fits_32 : decode cX0_fits 32 = .ok (.iload_n 1, 1) := dk_27 (dk_at dksX0_fits_1 10 rfl rfl)
theorem dX0_fits_33 : decode cX0_fits 33 = .ok (.if_icmp .ge 53, 3) := dk_162 0 53 (dk_at dksX0_fits_1 11 rfl rfl)
theorem dX0_fits_36 : decode cX0_fits 36 = .ok (.iload_n 2, 1) := dk_28 (dk_at dksX0_fits_1 14 rfl rfl)
theorem dX0_fits_37 : decode cX0_fits 37 = .ok (.aload_n 0, 1) := dk_42 (dk_at dksX0_fits_1 15 rfl rfl)
theorem dX0_fits_38 : decode cX0_fits 38 = .ok (.getfield 450, 3) := dk_180 1 194 (dk_at dksX0_fits_1 16 rfl rfl)
theorem dX0_fits_41 : decode cX0_fits 41 = .ok (.if_icmp .ge 45, 3) := dk_162 0 45 (dk_at dksX0_fits_1 19 rfl rfl)
theorem dX0_fits_44 : decode cX0_fits 44 = .ok (.iload_n 3, 1) := dk_29 (dk_at dksX0_fits_1 22 rfl rfl)
theorem dX0_fits_45 : decode cX0_fits 45 = .ok (.ifCond .eq 33, 3) := dk_153 0 33 (dk_at dksX0_fits_2 0 rfl rfl)
theorem dX0_fits_48 : decode cX0_fits 48 = .ok (.aload_n 0, 1) := dk_42 (dk_at dksX0_fits_2 3 rfl rfl)
theorem dX0_fits_49 : decode cX0_fits 49 = .ok (.getfield 85, 3) := dk_180 0 85 (dk_at dksX0_fits_2 4 rfl rfl)
theorem dX0_fits_52 : decode cX0_fits 52 = .ok (.bipush 7, 2) := dk_16 7 (dk_at dksX0_fits_2 7 rfl rfl)
theorem dX0_fits_54 : decode cX0_fits 54 = .ok (.iload_n 1, 1) := dk_27 (dk_at dksX0_fits_2 9 rfl rfl)
theorem dX0_fits_55 : decode cX0_fits 55 = .ok (.imul, 1) := dk_104 (dk_at dksX0_fits_2 10 rfl rfl)
theorem dX0_fits_56 : decode cX0_fits 56 = .ok (.iload 4, 2) := dk_21 4 (dk_at dksX0_fits_2 11 rfl rfl)
theorem dX0_fits_58 : decode cX0_fits 58 = .ok (.iadd, 1) := dk_96 (dk_at dksX0_fits_2 13 rfl rfl)
theorem dX0_fits_59 : decode cX0_fits 59 = .ok (.baload, 1) := dk_51 (dk_at dksX0_fits_2 14 rfl rfl)
theorem dX0_fits_60 : decode cX0_fits 60 = .ok (.ifCond .eq 14, 3) := dk_153 0 14 (dk_at dksX0_fits_2 15 rfl rfl)
theorem dX0_fits_63 : decode cX0_fits 63 = .ok (.aload_n 0, 1) := dk_42 (dk_at dksX0_fits_2 18 rfl rfl)
theorem dX0_fits_64 : decode cX0_fits 64 = .ok (.getfield 88, 3) := dk_180 0 88 (dk_at dksX0_fits_2 19 rfl rfl)
theorem dX0_fits_67 : decode cX0_fits 67 = .ok (.iload 4, 2) := dk_21 4 (dk_at dksX0_fits_2 22 rfl rfl)
theorem dX0_fits_69 : decode cX0_fits 69 = .ok (.iaload, 1) := dk_46 (dk_at dksX0_fits_3 0 rfl rfl)
theorem dX0_fits_70 : decode cX0_fits 70 = .ok (.iload_n 2, 1) := dk_28 (dk_at dksX0_fits_3 1 rfl rfl)
theorem dX0_fits_71 : decode cX0_fits 71 = .ok (.if_icmp .eq 7, 3) := dk_159 0 7 (dk_at dksX0_fits_3 2 rfl rfl)
theorem dX0_fits_74 : decode cX0_fits 74 = .ok (.iconst 1, 1) := dk_4 (dk_at dksX0_fits_3 5 rfl rfl)
theorem dX0_fits_75 : decode cX0_fits 75 = .ok (.goto 4, 3) := dk_167 0 4 (dk_at dksX0_fits_3 6 rfl rfl)
theorem dX0_fits_78 : decode cX0_fits 78 = .ok (.iconst 0, 1) := dk_3 (dk_at dksX0_fits_3 9 rfl rfl)
theorem dX0_fits_79 : decode cX0_fits 79 = .ok (.istore_n 3, 1) := dk_62 (dk_at dksX0_fits_3 10 rfl rfl)
theorem dX0_fits_80 : decode cX0_fits 80 = .ok (.iinc 4 1, 3) := dk_132 4 1 (dk_at dksX0_fits_3 11 rfl rfl)
theorem dX0_fits_83 : decode cX0_fits 83 = .ok (.goto (-53), 3) := dk_167 255 203 (dk_at dksX0_fits_3 14 rfl rfl)
theorem dX0_fits_86 : decode cX0_fits 86 = .ok (.iload_n 3, 1) := dk_29 (dk_at dksX0_fits_3 17 rfl rfl)
theorem dX0_fits_87 : decode cX0_fits 87 = .ok (.ireturn, 1) := dk_172 (dk_at dksX0_fits_3 18 rfl rfl)
abbrev cX0_isWithin : ByteArray := prog_1_method_65_code
def yX0_isWithin : MethodName := ⟨RX0, "isWithin", "(I)Z"⟩
def dkwX0_isWithin_4 : List UInt8 := [32, 20, 1, 211, 42, 180, 0, 82, 21, 4, 46, 133, 105, 148, 157, 0, 7, 4, 167, 0, 4, 3, 172]
abbrev dktX0_isWithin_4 : List UInt8 := dkwX0_isWithin_4 ++ []
def dkwX0_isWithin_3 : List UInt8 := [180, 0, 133, 42, 180, 0, 72, 21, 5, 46, 46, 133, 97, 65, 21, 5, 54, 4, 132, 5, 1, 167, 255, 173]
abbrev dktX0_isWithin_3 : List UInt8 := dkwX0_isWithin_3 ++ dktX0_isWithin_4
def dkwX0_isWithin_2 : List UInt8 := [42, 180, 0, 19, 180, 0, 124, 42, 180, 0, 72, 27, 46, 46, 160, 0, 26, 32, 42, 180, 0, 19]
abbrev dktX0_isWithin_2 : List UInt8 := dkwX0_isWithin_2 ++ dktX0_isWithin_3
def dkwX0_isWithin_1 : List UInt8 := [42, 180, 0, 88, 27, 46, 160, 0, 58, 42, 180, 0, 19, 180, 0, 124, 42, 180, 0, 72, 21, 5, 46, 46]
abbrev dktX0_isWithin_1 : List UInt8 := dkwX0_isWithin_1 ++ dktX0_isWithin_2
def dkwX0_isWithin_0 : List UInt8 := [9, 65, 27, 54, 4, 3, 54, 5, 21, 5, 42, 180, 1, 197, 162, 0, 80, 42, 180, 0, 88, 21, 5, 46]
abbrev dktX0_isWithin_0 : List UInt8 := dkwX0_isWithin_0 ++ dktX0_isWithin_1
theorem dksX0_isWithin_0 : cX0_isWithin.data.toList.drop 0 = dktX0_isWithin_0 := by decide +kernel
theorem dksX0_isWithin_1 : cX0_isWithin.data.toList.drop 24 = dktX0_isWithin_1 := dk_seg dksX0_isWithin_0 24 rfl rfl
theorem dksX0_isWithin_2 : cX0_isWithin.data.toList.drop 48 = dktX0_isWithin_2 := dk_seg dksX0_isWithin_1 24 rfl rfl
theorem dksX0_isWithin_3 : cX0_isWithin.data.toList.drop 70 = dktX0_isWithin_3 := dk_seg dksX0_isWithin_2 22 rfl rfl
theorem dksX0_isWithin_4 : cX0_isWithin.data.toList.drop 94 = dktX0_isWithin_4 := dk_seg dksX0_isWithin_3 24 rfl rfl
theorem dX0_isWithin_0 : decode cX0_isWithin 0 = .ok (.lconst 0, 1) := dk_9 (dk_at dksX0_isWithin_0 0 rfl rfl)
theorem dX0_isWithin_1 : decode cX0_isWithin 1 = .ok (.lstore_n 2, 1) := dk_65 (dk_at dksX0_isWithin_0 1 rfl rfl)
theorem dX0_isWithin_2 : decode cX0_isWithin 2 = .ok (.iload_n 1, 1) := dk_27 (dk_at dksX0_isWithin_0 2 rfl rfl)
theorem dX0_isWithin_3 : decode cX0_isWithin 3 = .ok (.istore 4, 2) := dk_54 4 (dk_at dksX0_isWithin_0 3 rfl rfl)
theorem dX0_isWithin_5 : decode cX0_isWithin 5 = .ok (.iconst 0, 1) := dk_3 (dk_at dksX0_isWithin_0 5 rfl rfl)
theorem dX0_isWithin_6 : decode cX0_isWithin 6 = .ok (.istore 5, 2) := dk_54 5 (dk_at dksX0_isWithin_0 6 rfl rfl)
theorem dX0_isWithin_8 : decode cX0_isWithin 8 = .ok (.iload 5, 2) := dk_21 5 (dk_at dksX0_isWithin_0 8 rfl rfl)
theorem dX0_isWithin_10 : decode cX0_isWithin 10 = .ok (.aload_n 0, 1) := dk_42 (dk_at dksX0_isWithin_0 10 rfl rfl)
theorem dX0_isWithin_11 : decode cX0_isWithin 11 = .ok (.getfield 453, 3) := dk_180 1 197 (dk_at dksX0_isWithin_0 11 rfl rfl)
theorem dX0_isWithin_14 : decode cX0_isWithin 14 = .ok (.if_icmp .ge 80, 3) := dk_162 0 80 (dk_at dksX0_isWithin_0 14 rfl rfl)
theorem dX0_isWithin_17 : decode cX0_isWithin 17 = .ok (.aload_n 0, 1) := dk_42 (dk_at dksX0_isWithin_0 17 rfl rfl)
theorem dX0_isWithin_18 : decode cX0_isWithin 18 = .ok (.getfield 88, 3) := dk_180 0 88 (dk_at dksX0_isWithin_0 18 rfl rfl)
theorem dX0_isWithin_21 : decode cX0_isWithin 21 = .ok (.iload 5, 2) := dk_21 5 (dk_at dksX0_isWithin_0 21 rfl rfl)
theorem dX0_isWithin_23 : decode cX0_isWithin 23 = .ok (.iaload, 1) := dk_46 (dk_at dksX0_isWithin_0 23 rfl rfl)
theorem dX0_isWithin_24 : decode cX0_isWithin 24 = .ok (.aload_n 0, 1) := dk_42 (dk_at dksX0_isWithin_1 0 rfl rfl)
theorem dX0_isWithin_25 : decode cX0_isWithin 25 = .ok (.getfield 88, 3) := dk_180 0 88 (dk_at dksX0_isWithin_1 1 rfl rfl)
theorem dX0_isWithin_28 : decode cX0_isWithin 28 = .ok (.iload_n 1, 1) := dk_27 (dk_at dksX0_isWithin_1 4 rfl rfl)
theorem dX0_isWithin_29 : decode cX0_isWithin 29 = .ok (.iaload, 1) := dk_46 (dk_at dksX0_isWithin_1 5 rfl rfl)
theorem dX0_isWithin_30 : decode cX0_isWithin 30 = .ok (.if_icmp .ne 58, 3) := dk_160 0 58 (dk_at dksX0_isWithin_1 6 rfl rfl)
theorem dX0_isWithin_33 : decode cX0_isWithin 33 = .ok (.aload_n 0, 1) := dk_42 (dk_at dksX0_isWithin_1 9 rfl rfl)
theorem dX0_isWithin_34 : decode cX0_isWithin 34 = .ok (.getfield 19, 3) := dk_180 0 19 (dk_at dksX0_isWithin_1 10 rfl rfl)
theorem dX0_isWithin_37 : decode cX0_isWithin 37 = .ok (.getfield 124, 3) := dk_180 0 124 (dk_at dksX0_isWithin_1 13 rfl rfl)
theorem dX0_isWithin_40 : decode cX0_isWithin 40 = .ok (.aload_n 0, 1) := dk_42 (dk_at dksX0_isWithin_1 16 rfl rfl)
theorem dX0_isWithin_41 : decode cX0_isWithin 41 = .ok (.getfield 72, 3) := dk_180 0 72 (dk_at dksX0_isWithin_1 17 rfl rfl)
theorem dX0_isWithin_44 : decode cX0_isWithin 44 = .ok (.iload 5, 2) := dk_21 5 (dk_at dksX0_isWithin_1 20 rfl rfl)
theorem dX0_isWithin_46 : decode cX0_isWithin 46 = .ok (.iaload, 1) := dk_46 (dk_at dksX0_isWithin_1 22 rfl rfl)
theorem dX0_isWithin_47 : decode cX0_isWithin 47 = .ok (.iaload, 1) := dk_46 (dk_at dksX0_isWithin_1 23 rfl rfl)
theorem dX0_isWithin_48 : decode cX0_isWithin 48 = .ok (.aload_n 0, 1) := dk_42 (dk_at dksX0_isWithin_2 0 rfl rfl)
theorem dX0_isWithin_49 : decode cX0_isWithin 49 = .ok (.getfield 19, 3) := dk_180 0 19 (dk_at dksX0_isWithin_2 1 rfl rfl)
theorem dX0_isWithin_52 : decode cX0_isWithin 52 = .ok (.getfield 124, 3) := dk_180 0 124 (dk_at dksX0_isWithin_2 4 rfl rfl)
theorem dX0_isWithin_55 : decode cX0_isWithin 55 = .ok (.aload_n 0, 1) := dk_42 (dk_at dksX0_isWithin_2 7 rfl rfl)
theorem dX0_isWithin_56 : decode cX0_isWithin 56 = .ok (.getfield 72, 3) := dk_180 0 72 (dk_at dksX0_isWithin_2 8 rfl rfl)
theorem dX0_isWithin_59 : decode cX0_isWithin 59 = .ok (.iload_n 1, 1) := dk_27 (dk_at dksX0_isWithin_2 11 rfl rfl)
theorem dX0_isWithin_60 : decode cX0_isWithin 60 = .ok (.iaload, 1) := dk_46 (dk_at dksX0_isWithin_2 12 rfl rfl)
theorem dX0_isWithin_61 : decode cX0_isWithin 61 = .ok (.iaload, 1) := dk_46 (dk_at dksX0_isWithin_2 13 rfl rfl)
theorem dX0_isWithin_62 : decode cX0_isWithin 62 = .ok (.if_icmp .ne 26, 3) := dk_160 0 26 (dk_at dksX0_isWithin_2 14 rfl rfl)
theorem dX0_isWithin_65 : decode cX0_isWithin 65 = .ok (.lload_n 2, 1) := dk_32 (dk_at dksX0_isWithin_2 17 rfl rfl)
theorem dX0_isWithin_66 : decode cX0_isWithin 66 = .ok (.aload_n 0, 1) := dk_42 (dk_at dksX0_isWithin_2 18 rfl rfl)
theorem dX0_isWithin_67 : decode cX0_isWithin 67 = .ok (.getfield 19, 3) := dk_180 0 19 (dk_at dksX0_isWithin_2 19 rfl rfl)
theorem dX0_isWithin_70 : decode cX0_isWithin 70 = .ok (.getfield 133, 3) := dk_180 0 133 (dk_at dksX0_isWithin_3 0 rfl rfl)
theorem dX0_isWithin_73 : decode cX0_isWithin 73 = .ok (.aload_n 0, 1) := dk_42 (dk_at dksX0_isWithin_3 3 rfl rfl)
theorem dX0_isWithin_74 : decode cX0_isWithin 74 = .ok (.getfield 72, 3) := dk_180 0 72 (dk_at dksX0_isWithin_3 4 rfl rfl)
theorem dX0_isWithin_77 : decode cX0_isWithin 77 = .ok (.iload 5, 2) := dk_21 5 (dk_at dksX0_isWithin_3 7 rfl rfl)
theorem dX0_isWithin_79 : decode cX0_isWithin 79 = .ok (.iaload, 1) := dk_46 (dk_at dksX0_isWithin_3 9 rfl rfl)
theorem dX0_isWithin_80 : decode cX0_isWithin 80 = .ok (.iaload, 1) := dk_46 (dk_at dksX0_isWithin_3 10 rfl rfl)
theorem dX0_isWithin_81 : decode cX0_isWithin 81 = .ok (.i2l, 1) := dk_133 (dk_at dksX0_isWithin_3 11 rfl rfl)
theorem dX0_isWithin_82 : decode cX0_isWithin 82 = .ok (.ladd, 1) := dk_97 (dk_at dksX0_isWithin_3 12 rfl rfl)
theorem dX0_isWithin_83 : decode cX0_isWithin 83 = .ok (.lstore_n 2, 1) := dk_65 (dk_at dksX0_isWithin_3 13 rfl rfl)
theorem dX0_isWithin_84 : decode cX0_isWithin 84 = .ok (.iload 5, 2) := dk_21 5 (dk_at dksX0_isWithin_3 14 rfl rfl)
theorem dX0_isWithin_86 : decode cX0_isWithin 86 = .ok (.istore 4, 2) := dk_54 4 (dk_at dksX0_isWithin_3 16 rfl rfl)
theorem dX0_isWithin_88 : decode cX0_isWithin 88 = .ok (.iinc 5 1, 3) := dk_132 5 1 (dk_at dksX0_isWithin_3 18 rfl rfl)
theorem dX0_isWithin_91 : decode cX0_isWithin 91 = .ok (.goto (-83), 3) := dk_167 255 173 (dk_at dksX0_isWithin_3 21 rfl rfl)
theorem dX0_isWithin_94 : decode cX0_isWithin 94 = .ok (.lload_n 2, 1) := dk_32 (dk_at dksX0_isWithin_4 0 rfl rfl)
theorem dX0_isWithin_95 : decode cX0_isWithin 95 = .ok (.ldc2_w 467, 3) := dk_20 1 211 (dk_at dksX0_isWithin_4 1 rfl rfl)
theorem dX0_isWithin_98 : decode cX0_isWithin 98 = .ok (.aload_n 0, 1) := dk_42 (dk_at dksX0_isWithin_4 4 rfl rfl)
theorem dX0_isWithin_99 : decode cX0_isWithin 99 = .ok (.getfield 82, 3) := dk_180 0 82 (dk_at dksX0_isWithin_4 5 rfl rfl)
theorem dX0_isWithin_102 : decode cX0_isWithin 102 = .ok (.iload 4, 2) := dk_21 4 (dk_at dksX0_isWithin_4 8 rfl rfl)
theorem dX0_isWithin_104 : decode cX0_isWithin 104 = .ok (.iaload, 1) := dk_46 (dk_at dksX0_isWithin_4 10 rfl rfl)
theorem dX0_isWithin_105 : decode cX0_isWithin 105 = .ok (.i2l, 1) := dk_133 (dk_at dksX0_isWithin_4 11 rfl rfl)
theorem dX0_isWithin_106 : decode cX0_isWithin 106 = .ok (.lmul, 1) := dk_105 (dk_at dksX0_isWithin_4 12 rfl rfl)
theorem dX0_isWithin_107 : decode cX0_isWithin 107 = .ok (.lcmp, 1) := dk_148 (dk_at dksX0_isWithin_4 13 rfl rfl)
theorem dX0_isWithin_108 : decode cX0_isWithin 108 = .ok (.ifCond .gt 7, 3) := dk_157 0 7 (dk_at dksX0_isWithin_4 14 rfl rfl)
theorem dX0_isWithin_111 : decode cX0_isWithin 111 = .ok (.iconst 1, 1) := dk_4 (dk_at dksX0_isWithin_4 17 rfl rfl)
theorem dX0_isWithin_112 : decode cX0_isWithin 112 = .ok (.goto 4, 3) := dk_167 0 4 (dk_at dksX0_isWithin_4 18 rfl rfl)
theorem dX0_isWithin_115 : decode cX0_isWithin 115 = .ok (.iconst 0, 1) := dk_3 (dk_at dksX0_isWithin_4 21 rfl rfl)
theorem dX0_isWithin_116 : decode cX0_isWithin 116 = .ok (.ireturn, 1) := dk_172 (dk_at dksX0_isWithin_4 22 rfl rfl)
abbrev cX0_leastOf : ByteArray := prog_1_method_68_code
def yX0_leastOf : MethodName := ⟨RX0, "leastOf", "()J"⟩
def dkwX0_leastOf_1 : List UInt8 := [132, 3, 1, 167, 255, 235, 31, 173]
abbrev dktX0_leastOf_1 : List UInt8 := dkwX0_leastOf_1 ++ []
def dkwX0_leastOf_0 : List UInt8 := [20, 1, 221, 64, 3, 62, 29, 42, 180, 1, 194, 162, 0, 19, 31, 42, 29, 182, 1, 223, 184, 0, 232, 64]
abbrev dktX0_leastOf_0 : List UInt8 := dkwX0_leastOf_0 ++ dktX0_leastOf_1
theorem dksX0_leastOf_0 : cX0_leastOf.data.toList.drop 0 = dktX0_leastOf_0 := by decide +kernel
theorem dksX0_leastOf_1 : cX0_leastOf.data.toList.drop 24 = dktX0_leastOf_1 := dk_seg dksX0_leastOf_0 24 rfl rfl
theorem dX0_leastOf_0 : decode cX0_leastOf 0 = .ok (.ldc2_w 477, 3) := dk_20 1 221 (dk_at dksX0_leastOf_0 0 rfl rfl)
theorem dX0_leastOf_3 : decode cX0_leastOf 3 = .ok (.lstore_n 1, 1) := dk_64 (dk_at dksX0_leastOf_0 3 rfl rfl)
theorem dX0_leastOf_4 : decode cX0_leastOf 4 = .ok (.iconst 0, 1) := dk_3 (dk_at dksX0_leastOf_0 4 rfl rfl)
theorem dX0_leastOf_5 : decode cX0_leastOf 5 = .ok (.istore_n 3, 1) := dk_62 (dk_at dksX0_leastOf_0 5 rfl rfl)
theorem dX0_leastOf_6 : decode cX0_leastOf 6 = .ok (.iload_n 3, 1) := dk_29 (dk_at dksX0_leastOf_0 6 rfl rfl)
theorem dX0_leastOf_7 : decode cX0_leastOf 7 = .ok (.aload_n 0, 1) := dk_42 (dk_at dksX0_leastOf_0 7 rfl rfl)
theorem dX0_leastOf_8 : decode cX0_leastOf 8 = .ok (.getfield 450, 3) := dk_180 1 194 (dk_at dksX0_leastOf_0 8 rfl rfl)
theorem dX0_leastOf_11 : decode cX0_leastOf 11 = .ok (.if_icmp .ge 19, 3) := dk_162 0 19 (dk_at dksX0_leastOf_0 11 rfl rfl)
theorem dX0_leastOf_14 : decode cX0_leastOf 14 = .ok (.lload_n 1, 1) := dk_31 (dk_at dksX0_leastOf_0 14 rfl rfl)
theorem dX0_leastOf_15 : decode cX0_leastOf 15 = .ok (.aload_n 0, 1) := dk_42 (dk_at dksX0_leastOf_0 15 rfl rfl)
theorem dX0_leastOf_16 : decode cX0_leastOf 16 = .ok (.iload_n 3, 1) := dk_29 (dk_at dksX0_leastOf_0 16 rfl rfl)
theorem dX0_leastOf_17 : decode cX0_leastOf 17 = .ok (.invokevirtual 479, 3) := dk_182 1 223 (dk_at dksX0_leastOf_0 17 rfl rfl)
theorem dX0_leastOf_20 : decode cX0_leastOf 20 = .ok (.invokestatic 232, 3) := dk_184 0 232 (dk_at dksX0_leastOf_0 20 rfl rfl)
theorem dX0_leastOf_23 : decode cX0_leastOf 23 = .ok (.lstore_n 1, 1) := dk_64 (dk_at dksX0_leastOf_0 23 rfl rfl)
theorem dX0_leastOf_24 : decode cX0_leastOf 24 = .ok (.iinc 3 1, 3) := dk_132 3 1 (dk_at dksX0_leastOf_1 0 rfl rfl)
theorem dX0_leastOf_27 : decode cX0_leastOf 27 = .ok (.goto (-21), 3) := dk_167 255 235 (dk_at dksX0_leastOf_1 3 rfl rfl)
theorem dX0_leastOf_30 : decode cX0_leastOf 30 = .ok (.lload_n 1, 1) := dk_31 (dk_at dksX0_leastOf_1 6 rfl rfl)
theorem dX0_leastOf_31 : decode cX0_leastOf 31 = .ok (.lreturn, 1) := dk_173 (dk_at dksX0_leastOf_1 7 rfl rfl)
abbrev cX0_woodOf : ByteArray := prog_1_method_67_code
def yX0_woodOf : MethodName := ⟨RX0, "woodOf", "(I)J"⟩
def dkwX0_woodOf_2 : List UInt8 := [167, 255, 214, 32, 173]
abbrev dktX0_woodOf_2 : List UInt8 := dkwX0_woodOf_2 ++ []
def dkwX0_woodOf_1 : List UInt8 := [160, 0, 18, 42, 180, 0, 79, 7, 21, 4, 104, 27, 96, 46, 133, 167, 0, 4, 9, 97, 65, 132, 4, 1]
abbrev dktX0_woodOf_1 : List UInt8 := dkwX0_woodOf_1 ++ dktX0_woodOf_2
def dkwX0_woodOf_0 : List UInt8 := [9, 65, 3, 54, 4, 21, 4, 42, 180, 1, 197, 162, 0, 39, 32, 42, 180, 0, 88, 21, 4, 46, 27]
abbrev dktX0_woodOf_0 : List UInt8 := dkwX0_woodOf_0 ++ dktX0_woodOf_1
theorem dksX0_woodOf_0 : cX0_woodOf.data.toList.drop 0 = dktX0_woodOf_0 := by decide +kernel
theorem dksX0_woodOf_1 : cX0_woodOf.data.toList.drop 23 = dktX0_woodOf_1 := dk_seg dksX0_woodOf_0 23 rfl rfl
theorem dksX0_woodOf_2 : cX0_woodOf.data.toList.drop 47 = dktX0_woodOf_2 := dk_seg dksX0_woodOf_1 24 rfl rfl
theorem dX0_woodOf_0 : decode cX0_woodOf 0 = .ok (.lconst 0, 1) := dk_9 (dk_at dksX0_woodOf_0 0 rfl rfl)
theorem dX0_woodOf_1 : decode cX0_woodOf 1 = .ok (.lstore_n 2, 1) := dk_65 (dk_at dksX0_woodOf_0 1 rfl rfl)
theorem dX0_woodOf_2 : decode cX0_woodOf 2 = .ok (.iconst 0, 1) := dk_3 (dk_at dksX0_woodOf_0 2 rfl rfl)
theorem dX0_woodOf_3 : decode cX0_woodOf 3 = .ok (.istore 4, 2) := dk_54 4 (dk_at dksX0_woodOf_0 3 rfl rfl)
theorem dX0_woodOf_5 : decode cX0_woodOf 5 = .ok (.iload 4, 2) := dk_21 4 (dk_at dksX0_woodOf_0 5 rfl rfl)
theorem dX0_woodOf_7 : decode cX0_woodOf 7 = .ok (.aload_n 0, 1) := dk_42 (dk_at dksX0_woodOf_0 7 rfl rfl)
theorem dX0_woodOf_8 : decode cX0_woodOf 8 = .ok (.getfield 453, 3) := dk_180 1 197 (dk_at dksX0_woodOf_0 8 rfl rfl)
theorem dX0_woodOf_11 : decode cX0_woodOf 11 = .ok (.if_icmp .ge 39, 3) := dk_162 0 39 (dk_at dksX0_woodOf_0 11 rfl rfl)
theorem dX0_woodOf_14 : decode cX0_woodOf 14 = .ok (.lload_n 2, 1) := dk_32 (dk_at dksX0_woodOf_0 14 rfl rfl)
theorem dX0_woodOf_15 : decode cX0_woodOf 15 = .ok (.aload_n 0, 1) := dk_42 (dk_at dksX0_woodOf_0 15 rfl rfl)
theorem dX0_woodOf_16 : decode cX0_woodOf 16 = .ok (.getfield 88, 3) := dk_180 0 88 (dk_at dksX0_woodOf_0 16 rfl rfl)
theorem dX0_woodOf_19 : decode cX0_woodOf 19 = .ok (.iload 4, 2) := dk_21 4 (dk_at dksX0_woodOf_0 19 rfl rfl)
theorem dX0_woodOf_21 : decode cX0_woodOf 21 = .ok (.iaload, 1) := dk_46 (dk_at dksX0_woodOf_0 21 rfl rfl)
theorem dX0_woodOf_22 : decode cX0_woodOf 22 = .ok (.iload_n 1, 1) := dk_27 (dk_at dksX0_woodOf_0 22 rfl rfl)
theorem dX0_woodOf_23 : decode cX0_woodOf 23 = .ok (.if_icmp .ne 18, 3) := dk_160 0 18 (dk_at dksX0_woodOf_1 0 rfl rfl)
theorem dX0_woodOf_26 : decode cX0_woodOf 26 = .ok (.aload_n 0, 1) := dk_42 (dk_at dksX0_woodOf_1 3 rfl rfl)
theorem dX0_woodOf_27 : decode cX0_woodOf 27 = .ok (.getfield 79, 3) := dk_180 0 79 (dk_at dksX0_woodOf_1 4 rfl rfl)
theorem dX0_woodOf_30 : decode cX0_woodOf 30 = .ok (.iconst 4, 1) := dk_7 (dk_at dksX0_woodOf_1 7 rfl rfl)
theorem dX0_woodOf_31 : decode cX0_woodOf 31 = .ok (.iload 4, 2) := dk_21 4 (dk_at dksX0_woodOf_1 8 rfl rfl)
theorem dX0_woodOf_33 : decode cX0_woodOf 33 = .ok (.imul, 1) := dk_104 (dk_at dksX0_woodOf_1 10 rfl rfl)
theorem dX0_woodOf_34 : decode cX0_woodOf 34 = .ok (.iload_n 1, 1) := dk_27 (dk_at dksX0_woodOf_1 11 rfl rfl)
theorem dX0_woodOf_35 : decode cX0_woodOf 35 = .ok (.iadd, 1) := dk_96 (dk_at dksX0_woodOf_1 12 rfl rfl)
theorem dX0_woodOf_36 : decode cX0_woodOf 36 = .ok (.iaload, 1) := dk_46 (dk_at dksX0_woodOf_1 13 rfl rfl)
theorem dX0_woodOf_37 : decode cX0_woodOf 37 = .ok (.i2l, 1) := dk_133 (dk_at dksX0_woodOf_1 14 rfl rfl)
theorem dX0_woodOf_38 : decode cX0_woodOf 38 = .ok (.goto 4, 3) := dk_167 0 4 (dk_at dksX0_woodOf_1 15 rfl rfl)
theorem dX0_woodOf_41 : decode cX0_woodOf 41 = .ok (.lconst 0, 1) := dk_9 (dk_at dksX0_woodOf_1 18 rfl rfl)
theorem dX0_woodOf_42 : decode cX0_woodOf 42 = .ok (.ladd, 1) := dk_97 (dk_at dksX0_woodOf_1 19 rfl rfl)
theorem dX0_woodOf_43 : decode cX0_woodOf 43 = .ok (.lstore_n 2, 1) := dk_65 (dk_at dksX0_woodOf_1 20 rfl rfl)
theorem dX0_woodOf_44 : decode cX0_woodOf 44 = .ok (.iinc 4 1, 3) := dk_132 4 1 (dk_at dksX0_woodOf_1 21 rfl rfl)
theorem dX0_woodOf_47 : decode cX0_woodOf 47 = .ok (.goto (-42), 3) := dk_167 255 214 (dk_at dksX0_woodOf_2 0 rfl rfl)
theorem dX0_woodOf_50 : decode cX0_woodOf 50 = .ok (.lload_n 2, 1) := dk_32 (dk_at dksX0_woodOf_2 3 rfl rfl)
theorem dX0_woodOf_51 : decode cX0_woodOf 51 = .ok (.lreturn, 1) := dk_173 (dk_at dksX0_woodOf_2 4 rfl rfl)
abbrev cX0_allOf : ByteArray := prog_1_method_69_code
def yX0_allOf : MethodName := ⟨RX0, "allOf", "()J"⟩
def dkwX0_allOf_1 : List UInt8 := [167, 255, 237, 31, 173]
abbrev dktX0_allOf_1 : List UInt8 := dkwX0_allOf_1 ++ []
def dkwX0_allOf_0 : List UInt8 := [9, 64, 3, 62, 29, 42, 180, 1, 194, 162, 0, 17, 31, 42, 29, 182, 1, 223, 97, 64, 132, 3, 1]
abbrev dktX0_allOf_0 : List UInt8 := dkwX0_allOf_0 ++ dktX0_allOf_1
theorem dksX0_allOf_0 : cX0_allOf.data.toList.drop 0 = dktX0_allOf_0 := by decide +kernel
theorem dksX0_allOf_1 : cX0_allOf.data.toList.drop 23 = dktX0_allOf_1 := dk_seg dksX0_allOf_0 23 rfl rfl
theorem dX0_allOf_0 : decode cX0_allOf 0 = .ok (.lconst 0, 1) := dk_9 (dk_at dksX0_allOf_0 0 rfl rfl)
theorem dX0_allOf_1 : decode cX0_allOf 1 = .ok (.lstore_n 1, 1) := dk_64 (dk_at dksX0_allOf_0 1 rfl rfl)
theorem dX0_allOf_2 : decode cX0_allOf 2 = .ok (.iconst 0, 1) := dk_3 (dk_at dksX0_allOf_0 2 rfl rfl)
theorem dX0_allOf_3 : decode cX0_allOf 3 = .ok (.istore_n 3, 1) := dk_62 (dk_at dksX0_allOf_0 3 rfl rfl)
theorem dX0_allOf_4 : decode cX0_allOf 4 = .ok (.iload_n 3, 1) := dk_29 (dk_at dksX0_allOf_0 4 rfl rfl)
theorem dX0_allOf_5 : decode cX0_allOf 5 = .ok (.aload_n 0, 1) := dk_42 (dk_at dksX0_allOf_0 5 rfl rfl)
theorem dX0_allOf_6 : decode cX0_allOf 6 = .ok (.getfield 450, 3) := dk_180 1 194 (dk_at dksX0_allOf_0 6 rfl rfl)
theorem dX0_allOf_9 : decode cX0_allOf 9 = .ok (.if_icmp .ge 17, 3) := dk_162 0 17 (dk_at dksX0_allOf_0 9 rfl rfl)
theorem dX0_allOf_12 : decode cX0_allOf 12 = .ok (.lload_n 1, 1) := dk_31 (dk_at dksX0_allOf_0 12 rfl rfl)
theorem dX0_allOf_13 : decode cX0_allOf 13 = .ok (.aload_n 0, 1) := dk_42 (dk_at dksX0_allOf_0 13 rfl rfl)
theorem dX0_allOf_14 : decode cX0_allOf 14 = .ok (.iload_n 3, 1) := dk_29 (dk_at dksX0_allOf_0 14 rfl rfl)
theorem dX0_allOf_15 : decode cX0_allOf 15 = .ok (.invokevirtual 479, 3) := dk_182 1 223 (dk_at dksX0_allOf_0 15 rfl rfl)
theorem dX0_allOf_18 : decode cX0_allOf 18 = .ok (.ladd, 1) := dk_97 (dk_at dksX0_allOf_0 18 rfl rfl)
theorem dX0_allOf_19 : decode cX0_allOf 19 = .ok (.lstore_n 1, 1) := dk_64 (dk_at dksX0_allOf_0 19 rfl rfl)
theorem dX0_allOf_20 : decode cX0_allOf 20 = .ok (.iinc 3 1, 3) := dk_132 3 1 (dk_at dksX0_allOf_0 20 rfl rfl)
theorem dX0_allOf_23 : decode cX0_allOf 23 = .ok (.goto (-19), 3) := dk_167 255 237 (dk_at dksX0_allOf_1 0 rfl rfl)
theorem dX0_allOf_26 : decode cX0_allOf 26 = .ok (.lload_n 1, 1) := dk_31 (dk_at dksX0_allOf_1 3 rfl rfl)
theorem dX0_allOf_27 : decode cX0_allOf 27 = .ok (.lreturn, 1) := dk_173 (dk_at dksX0_allOf_1 4 rfl rfl)
abbrev cX0_movedOf : ByteArray := prog_1_method_70_code
def yX0_movedOf : MethodName := ⟨RX0, "movedOf", "()I"⟩
def dkwX0_movedOf_3 : List UInt8 := [167, 0, 4, 3, 96, 60, 132, 2, 1, 167, 255, 183, 27, 172]
abbrev dktX0_movedOf_3 : List UInt8 := dkwX0_movedOf_3 ++ []
def dkwX0_movedOf_2 : List UInt8 := [180, 1, 227, 29, 122, 4, 126, 153, 0, 14, 42, 180, 0, 94, 29, 46, 21, 4, 159, 0, 7, 4]
abbrev dktX0_movedOf_2 : List UInt8 := dkwX0_movedOf_2 ++ dktX0_movedOf_3
def dkwX0_movedOf_1 : List UInt8 := [46, 42, 180, 1, 194, 160, 0, 7, 2, 167, 0, 9, 42, 180, 0, 88, 28, 46, 54, 4, 27, 42]
abbrev dktX0_movedOf_1 : List UInt8 := dkwX0_movedOf_1 ++ dktX0_movedOf_2
def dkwX0_movedOf_0 : List UInt8 := [3, 60, 3, 61, 28, 42, 180, 1, 197, 162, 0, 71, 42, 180, 0, 72, 28, 46, 62, 42, 180, 0, 88, 28]
abbrev dktX0_movedOf_0 : List UInt8 := dkwX0_movedOf_0 ++ dktX0_movedOf_1
theorem dksX0_movedOf_0 : cX0_movedOf.data.toList.drop 0 = dktX0_movedOf_0 := by decide +kernel
theorem dksX0_movedOf_1 : cX0_movedOf.data.toList.drop 24 = dktX0_movedOf_1 := dk_seg dksX0_movedOf_0 24 rfl rfl
theorem dksX0_movedOf_2 : cX0_movedOf.data.toList.drop 46 = dktX0_movedOf_2 := dk_seg dksX0_movedOf_1 22 rfl rfl
theorem dksX0_movedOf_3 : cX0_movedOf.data.toList.drop 68 = dktX0_movedOf_3 := dk_seg dksX0_movedOf_2 22 rfl rfl
theorem dX0_movedOf_0 : decode cX0_movedOf 0 = .ok (.iconst 0, 1) := dk_3 (dk_at dksX0_movedOf_0 0 rfl rfl)
theorem dX0_movedOf_1 : decode cX0_movedOf 1 = .ok (.istore_n 1, 1) := dk_60 (dk_at dksX0_movedOf_0 1 rfl rfl)
theorem dX0_movedOf_2 : decode cX0_movedOf 2 = .ok (.iconst 0, 1) := dk_3 (dk_at dksX0_movedOf_0 2 rfl rfl)
theorem dX0_movedOf_3 : decode cX0_movedOf 3 = .ok (.istore_n 2, 1) := dk_61 (dk_at dksX0_movedOf_0 3 rfl rfl)
theorem dX0_movedOf_4 : decode cX0_movedOf 4 = .ok (.iload_n 2, 1) := dk_28 (dk_at dksX0_movedOf_0 4 rfl rfl)
theorem dX0_movedOf_5 : decode cX0_movedOf 5 = .ok (.aload_n 0, 1) := dk_42 (dk_at dksX0_movedOf_0 5 rfl rfl)
theorem dX0_movedOf_6 : decode cX0_movedOf 6 = .ok (.getfield 453, 3) := dk_180 1 197 (dk_at dksX0_movedOf_0 6 rfl rfl)
theorem dX0_movedOf_9 : decode cX0_movedOf 9 = .ok (.if_icmp .ge 71, 3) := dk_162 0 71 (dk_at dksX0_movedOf_0 9 rfl rfl)
theorem dX0_movedOf_12 : decode cX0_movedOf 12 = .ok (.aload_n 0, 1) := dk_42 (dk_at dksX0_movedOf_0 12 rfl rfl)
theorem dX0_movedOf_13 : decode cX0_movedOf 13 = .ok (.getfield 72, 3) := dk_180 0 72 (dk_at dksX0_movedOf_0 13 rfl rfl)
theorem dX0_movedOf_16 : decode cX0_movedOf 16 = .ok (.iload_n 2, 1) := dk_28 (dk_at dksX0_movedOf_0 16 rfl rfl)
theorem dX0_movedOf_17 : decode cX0_movedOf 17 = .ok (.iaload, 1) := dk_46 (dk_at dksX0_movedOf_0 17 rfl rfl)
theorem dX0_movedOf_18 : decode cX0_movedOf 18 = .ok (.istore_n 3, 1) := dk_62 (dk_at dksX0_movedOf_0 18 rfl rfl)
theorem dX0_movedOf_19 : decode cX0_movedOf 19 = .ok (.aload_n 0, 1) := dk_42 (dk_at dksX0_movedOf_0 19 rfl rfl)
theorem dX0_movedOf_20 : decode cX0_movedOf 20 = .ok (.getfield 88, 3) := dk_180 0 88 (dk_at dksX0_movedOf_0 20 rfl rfl)
theorem dX0_movedOf_23 : decode cX0_movedOf 23 = .ok (.iload_n 2, 1) := dk_28 (dk_at dksX0_movedOf_0 23 rfl rfl)
theorem dX0_movedOf_24 : decode cX0_movedOf 24 = .ok (.iaload, 1) := dk_46 (dk_at dksX0_movedOf_1 0 rfl rfl)
theorem dX0_movedOf_25 : decode cX0_movedOf 25 = .ok (.aload_n 0, 1) := dk_42 (dk_at dksX0_movedOf_1 1 rfl rfl)
theorem dX0_movedOf_26 : decode cX0_movedOf 26 = .ok (.getfield 450, 3) := dk_180 1 194 (dk_at dksX0_movedOf_1 2 rfl rfl)
theorem dX0_movedOf_29 : decode cX0_movedOf 29 = .ok (.if_icmp .ne 7, 3) := dk_160 0 7 (dk_at dksX0_movedOf_1 5 rfl rfl)
theorem dX0_movedOf_32 : decode cX0_movedOf 32 = .ok (.iconst (-1), 1) := dk_2 (dk_at dksX0_movedOf_1 8 rfl rfl)
theorem dX0_movedOf_33 : decode cX0_movedOf 33 = .ok (.goto 9, 3) := dk_167 0 9 (dk_at dksX0_movedOf_1 9 rfl rfl)
theorem dX0_movedOf_36 : decode cX0_movedOf 36 = .ok (.aload_n 0, 1) := dk_42 (dk_at dksX0_movedOf_1 12 rfl rfl)
theorem dX0_movedOf_37 : decode cX0_movedOf 37 = .ok (.getfield 88, 3) := dk_180 0 88 (dk_at dksX0_movedOf_1 13 rfl rfl)
theorem dX0_movedOf_40 : decode cX0_movedOf 40 = .ok (.iload_n 2, 1) := dk_28 (dk_at dksX0_movedOf_1 16 rfl rfl)
theorem dX0_movedOf_41 : decode cX0_movedOf 41 = .ok (.iaload, 1) := dk_46 (dk_at dksX0_movedOf_1 17 rfl rfl)
theorem dX0_movedOf_42 : decode cX0_movedOf 42 = .ok (.istore 4, 2) := dk_54 4 (dk_at dksX0_movedOf_1 18 rfl rfl)
theorem dX0_movedOf_44 : decode cX0_movedOf 44 = .ok (.iload_n 1, 1) := dk_27 (dk_at dksX0_movedOf_1 20 rfl rfl)
theorem dX0_movedOf_45 : decode cX0_movedOf 45 = .ok (.aload_n 0, 1) := dk_42 (dk_at dksX0_movedOf_1 21 rfl rfl)
theorem dX0_movedOf_46 : decode cX0_movedOf 46 = .ok (.getfield 483, 3) := dk_180 1 227 (dk_at dksX0_movedOf_2 0 rfl rfl)
theorem dX0_movedOf_49 : decode cX0_movedOf 49 = .ok (.iload_n 3, 1) := dk_29 (dk_at dksX0_movedOf_2 3 rfl rfl)
theorem dX0_movedOf_50 : decode cX0_movedOf 50 = .ok (.ishr, 1) := dk_122 (dk_at dksX0_movedOf_2 4 rfl rfl)
theorem dX0_movedOf_51 : decode cX0_movedOf 51 = .ok (.iconst 1, 1) := dk_4 (dk_at dksX0_movedOf_2 5 rfl rfl)
theorem dX0_movedOf_52 : decode cX0_movedOf 52 = .ok (.iand, 1) := dk_126 (dk_at dksX0_movedOf_2 6 rfl rfl)
theorem dX0_movedOf_53 : decode cX0_movedOf 53 = .ok (.ifCond .eq 14, 3) := dk_153 0 14 (dk_at dksX0_movedOf_2 7 rfl rfl)
theorem dX0_movedOf_56 : decode cX0_movedOf 56 = .ok (.aload_n 0, 1) := dk_42 (dk_at dksX0_movedOf_2 10 rfl rfl)
theorem dX0_movedOf_57 : decode cX0_movedOf 57 = .ok (.getfield 94, 3) := dk_180 0 94 (dk_at dksX0_movedOf_2 11 rfl rfl)
theorem dX0_movedOf_60 : decode cX0_movedOf 60 = .ok (.iload_n 3, 1) := dk_29 (dk_at dksX0_movedOf_2 14 rfl rfl)
theorem dX0_movedOf_61 : decode cX0_movedOf 61 = .ok (.iaload, 1) := dk_46 (dk_at dksX0_movedOf_2 15 rfl rfl)
theorem dX0_movedOf_62 : decode cX0_movedOf 62 = .ok (.iload 4, 2) := dk_21 4 (dk_at dksX0_movedOf_2 16 rfl rfl)
theorem dX0_movedOf_64 : decode cX0_movedOf 64 = .ok (.if_icmp .eq 7, 3) := dk_159 0 7 (dk_at dksX0_movedOf_2 18 rfl rfl)
theorem dX0_movedOf_67 : decode cX0_movedOf 67 = .ok (.iconst 1, 1) := dk_4 (dk_at dksX0_movedOf_2 21 rfl rfl)
theorem dX0_movedOf_68 : decode cX0_movedOf 68 = .ok (.goto 4, 3) := dk_167 0 4 (dk_at dksX0_movedOf_3 0 rfl rfl)
theorem dX0_movedOf_71 : decode cX0_movedOf 71 = .ok (.iconst 0, 1) := dk_3 (dk_at dksX0_movedOf_3 3 rfl rfl)
theorem dX0_movedOf_72 : decode cX0_movedOf 72 = .ok (.iadd, 1) := dk_96 (dk_at dksX0_movedOf_3 4 rfl rfl)
theorem dX0_movedOf_73 : decode cX0_movedOf 73 = .ok (.istore_n 1, 1) := dk_60 (dk_at dksX0_movedOf_3 5 rfl rfl)
theorem dX0_movedOf_74 : decode cX0_movedOf 74 = .ok (.iinc 2 1, 3) := dk_132 2 1 (dk_at dksX0_movedOf_3 6 rfl rfl)
theorem dX0_movedOf_77 : decode cX0_movedOf 77 = .ok (.goto (-73), 3) := dk_167 255 183 (dk_at dksX0_movedOf_3 9 rfl rfl)
theorem dX0_movedOf_80 : decode cX0_movedOf 80 = .ok (.iload_n 1, 1) := dk_27 (dk_at dksX0_movedOf_3 12 rfl rfl)
theorem dX0_movedOf_81 : decode cX0_movedOf 81 = .ok (.ireturn, 1) := dk_172 (dk_at dksX0_movedOf_3 13 rfl rfl)
abbrev cX0_keep : ByteArray := prog_1_method_74_code
def yX0_keep : MethodName := ⟨RX0, "keep", "(I)V"⟩
def dkwX0_keep_2 : List UInt8 := [79, 132, 2, 1, 167, 255, 211, 177]
abbrev dktX0_keep_2 : List UInt8 := dkwX0_keep_2 ++ []
def dkwX0_keep_1 : List UInt8 := [46, 42, 180, 0, 91, 28, 46, 42, 180, 1, 194, 160, 0, 7, 2, 167, 0, 9, 42, 180, 0, 91, 28, 46]
abbrev dktX0_keep_1 : List UInt8 := dkwX0_keep_1 ++ dktX0_keep_2
def dkwX0_keep_0 : List UInt8 := [42, 27, 181, 1, 227, 3, 61, 28, 42, 180, 1, 197, 162, 0, 43, 42, 180, 0, 94, 42, 180, 0, 72, 28]
abbrev dktX0_keep_0 : List UInt8 := dkwX0_keep_0 ++ dktX0_keep_1
theorem dksX0_keep_0 : cX0_keep.data.toList.drop 0 = dktX0_keep_0 := by decide +kernel
theorem dksX0_keep_1 : cX0_keep.data.toList.drop 24 = dktX0_keep_1 := dk_seg dksX0_keep_0 24 rfl rfl
theorem dksX0_keep_2 : cX0_keep.data.toList.drop 48 = dktX0_keep_2 := dk_seg dksX0_keep_1 24 rfl rfl
theorem dX0_keep_0 : decode cX0_keep 0 = .ok (.aload_n 0, 1) := dk_42 (dk_at dksX0_keep_0 0 rfl rfl)
theorem dX0_keep_1 : decode cX0_keep 1 = .ok (.iload_n 1, 1) := dk_27 (dk_at dksX0_keep_0 1 rfl rfl)
theorem dX0_keep_2 : decode cX0_keep 2 = .ok (.putfield 483, 3) := dk_181 1 227 (dk_at dksX0_keep_0 2 rfl rfl)
theorem dX0_keep_5 : decode cX0_keep 5 = .ok (.iconst 0, 1) := dk_3 (dk_at dksX0_keep_0 5 rfl rfl)
theorem dX0_keep_6 : decode cX0_keep 6 = .ok (.istore_n 2, 1) := dk_61 (dk_at dksX0_keep_0 6 rfl rfl)
theorem dX0_keep_7 : decode cX0_keep 7 = .ok (.iload_n 2, 1) := dk_28 (dk_at dksX0_keep_0 7 rfl rfl)
theorem dX0_keep_8 : decode cX0_keep 8 = .ok (.aload_n 0, 1) := dk_42 (dk_at dksX0_keep_0 8 rfl rfl)
theorem dX0_keep_9 : decode cX0_keep 9 = .ok (.getfield 453, 3) := dk_180 1 197 (dk_at dksX0_keep_0 9 rfl rfl)
theorem dX0_keep_12 : decode cX0_keep 12 = .ok (.if_icmp .ge 43, 3) := dk_162 0 43 (dk_at dksX0_keep_0 12 rfl rfl)
theorem dX0_keep_15 : decode cX0_keep 15 = .ok (.aload_n 0, 1) := dk_42 (dk_at dksX0_keep_0 15 rfl rfl)
theorem dX0_keep_16 : decode cX0_keep 16 = .ok (.getfield 94, 3) := dk_180 0 94 (dk_at dksX0_keep_0 16 rfl rfl)
theorem dX0_keep_19 : decode cX0_keep 19 = .ok (.aload_n 0, 1) := dk_42 (dk_at dksX0_keep_0 19 rfl rfl)
theorem dX0_keep_20 : decode cX0_keep 20 = .ok (.getfield 72, 3) := dk_180 0 72 (dk_at dksX0_keep_0 20 rfl rfl)
theorem dX0_keep_23 : decode cX0_keep 23 = .ok (.iload_n 2, 1) := dk_28 (dk_at dksX0_keep_0 23 rfl rfl)
theorem dX0_keep_24 : decode cX0_keep 24 = .ok (.iaload, 1) := dk_46 (dk_at dksX0_keep_1 0 rfl rfl)
theorem dX0_keep_25 : decode cX0_keep 25 = .ok (.aload_n 0, 1) := dk_42 (dk_at dksX0_keep_1 1 rfl rfl)
theorem dX0_keep_26 : decode cX0_keep 26 = .ok (.getfield 91, 3) := dk_180 0 91 (dk_at dksX0_keep_1 2 rfl rfl)
theorem dX0_keep_29 : decode cX0_keep 29 = .ok (.iload_n 2, 1) := dk_28 (dk_at dksX0_keep_1 5 rfl rfl)
theorem dX0_keep_30 : decode cX0_keep 30 = .ok (.iaload, 1) := dk_46 (dk_at dksX0_keep_1 6 rfl rfl)
theorem dX0_keep_31 : decode cX0_keep 31 = .ok (.aload_n 0, 1) := dk_42 (dk_at dksX0_keep_1 7 rfl rfl)
theorem dX0_keep_32 : decode cX0_keep 32 = .ok (.getfield 450, 3) := dk_180 1 194 (dk_at dksX0_keep_1 8 rfl rfl)
theorem dX0_keep_35 : decode cX0_keep 35 = .ok (.if_icmp .ne 7, 3) := dk_160 0 7 (dk_at dksX0_keep_1 11 rfl rfl)
theorem dX0_keep_38 : decode cX0_keep 38 = .ok (.iconst (-1), 1) := dk_2 (dk_at dksX0_keep_1 14 rfl rfl)
theorem dX0_keep_39 : decode cX0_keep 39 = .ok (.goto 9, 3) := dk_167 0 9 (dk_at dksX0_keep_1 15 rfl rfl)
theorem dX0_keep_42 : decode cX0_keep 42 = .ok (.aload_n 0, 1) := dk_42 (dk_at dksX0_keep_1 18 rfl rfl)
theorem dX0_keep_43 : decode cX0_keep 43 = .ok (.getfield 91, 3) := dk_180 0 91 (dk_at dksX0_keep_1 19 rfl rfl)
theorem dX0_keep_46 : decode cX0_keep 46 = .ok (.iload_n 2, 1) := dk_28 (dk_at dksX0_keep_1 22 rfl rfl)
theorem dX0_keep_47 : decode cX0_keep 47 = .ok (.iaload, 1) := dk_46 (dk_at dksX0_keep_1 23 rfl rfl)
theorem dX0_keep_48 : decode cX0_keep 48 = .ok (.iastore, 1) := dk_79 (dk_at dksX0_keep_2 0 rfl rfl)
theorem dX0_keep_49 : decode cX0_keep 49 = .ok (.iinc 2 1, 3) := dk_132 2 1 (dk_at dksX0_keep_2 1 rfl rfl)
theorem dX0_keep_52 : decode cX0_keep 52 = .ok (.goto (-45), 3) := dk_167 255 211 (dk_at dksX0_keep_2 4 rfl rfl)
theorem dX0_keep_55 : decode cX0_keep 55 = .ok (.return_, 1) := dk_177 (dk_at dksX0_keep_2 7 rfl rfl)
abbrev cX0_anew : ByteArray := prog_1_method_78_code
def yX0_anew : MethodName := ⟨RX0, "anew", "(IIJ)I"⟩
def dkwX0_anew_0 : List UInt8 := [42, 27, 28, 33, 182, 2, 37, 172, 58, 5, 42, 25, 5, 180, 1, 32, 182, 0, 118, 172]
abbrev dktX0_anew_0 : List UInt8 := dkwX0_anew_0 ++ []
theorem dksX0_anew_0 : cX0_anew.data.toList.drop 0 = dktX0_anew_0 := by decide +kernel
theorem dX0_anew_0 : decode cX0_anew 0 = .ok (.aload_n 0, 1) := dk_42 (dk_at dksX0_anew_0 0 rfl rfl)
theorem dX0_anew_1 : decode cX0_anew 1 = .ok (.iload_n 1, 1) := dk_27 (dk_at dksX0_anew_0 1 rfl rfl)
theorem dX0_anew_2 : decode cX0_anew 2 = .ok (.iload_n 2, 1) := dk_28 (dk_at dksX0_anew_0 2 rfl rfl)
theorem dX0_anew_3 : decode cX0_anew 3 = .ok (.lload_n 3, 1) := dk_33 (dk_at dksX0_anew_0 3 rfl rfl)
theorem dX0_anew_4 : decode cX0_anew 4 = .ok (.invokevirtual 549, 3) := dk_182 2 37 (dk_at dksX0_anew_0 4 rfl rfl)
theorem dX0_anew_7 : decode cX0_anew 7 = .ok (.ireturn, 1) := dk_172 (dk_at dksX0_anew_0 7 rfl rfl)
theorem dX0_anew_8 : decode cX0_anew 8 = .ok (.astore 5, 2) := dk_58 5 (dk_at dksX0_anew_0 8 rfl rfl)
theorem dX0_anew_10 : decode cX0_anew 10 = .ok (.aload_n 0, 1) := dk_42 (dk_at dksX0_anew_0 10 rfl rfl)
theorem dX0_anew_11 : decode cX0_anew 11 = .ok (.aload 5, 2) := dk_25 5 (dk_at dksX0_anew_0 11 rfl rfl)
theorem dX0_anew_13 : decode cX0_anew 13 = .ok (.getfield 288, 3) := dk_180 1 32 (dk_at dksX0_anew_0 13 rfl rfl)
theorem dX0_anew_16 : decode cX0_anew 16 = .ok (.invokevirtual 118, 3) := dk_182 0 118 (dk_at dksX0_anew_0 16 rfl rfl)
theorem dX0_anew_19 : decode cX0_anew 19 = .ok (.ireturn, 1) := dk_172 (dk_at dksX0_anew_0 19 rfl rfl)
abbrev cX0_anewTold : ByteArray := prog_1_method_77_code
def yX0_anewTold : MethodName := ⟨RX0, "anewTold", "(IIJ)I"⟩
def dkwX0_anewTold_3 : List UInt8 := [42, 180, 2, 1, 16, 249, 182, 1, 20, 42, 27, 182, 2, 30, 42, 180, 1, 254, 172]
abbrev dktX0_anewTold_3 : List UInt8 := dkwX0_anewTold_3 ++ []
def dkwX0_anewTold_2 : List UInt8 := [33, 9, 148, 155, 0, 7, 4, 167, 0, 4, 3, 16, 249, 182, 1, 20, 42, 27, 28, 33, 182, 2, 26, 42]
abbrev dktX0_anewTold_2 : List UInt8 := dkwX0_anewTold_2 ++ dktX0_anewTold_3
def dkwX0_anewTold_1 : List UInt8 := [42, 180, 1, 227, 153, 0, 7, 4, 167, 0, 4, 3, 16, 254, 182, 1, 20, 42, 27, 28, 182, 2, 21, 42]
abbrev dktX0_anewTold_1 : List UInt8 := dkwX0_anewTold_1 ++ dktX0_anewTold_2
def dkwX0_anewTold_0 : List UInt8 := [42, 27, 133, 9, 10, 42, 180, 0, 19, 180, 0, 23, 121, 10, 101, 184, 0, 31, 16, 253, 182, 1, 20, 42]
abbrev dktX0_anewTold_0 : List UInt8 := dkwX0_anewTold_0 ++ dktX0_anewTold_1
theorem dksX0_anewTold_0 : cX0_anewTold.data.toList.drop 0 = dktX0_anewTold_0 := by decide +kernel
theorem dksX0_anewTold_1 : cX0_anewTold.data.toList.drop 24 = dktX0_anewTold_1 := dk_seg dksX0_anewTold_0 24 rfl rfl
theorem dksX0_anewTold_2 : cX0_anewTold.data.toList.drop 48 = dktX0_anewTold_2 := dk_seg dksX0_anewTold_1 24 rfl rfl
theorem dksX0_anewTold_3 : cX0_anewTold.data.toList.drop 72 = dktX0_anewTold_3 := dk_seg dksX0_anewTold_2 24 rfl rfl
theorem dX0_anewTold_0 : decode cX0_anewTold 0 = .ok (.aload_n 0, 1) := dk_42 (dk_at dksX0_anewTold_0 0 rfl rfl)
theorem dX0_anewTold_1 : decode cX0_anewTold 1 = .ok (.iload_n 1, 1) := dk_27 (dk_at dksX0_anewTold_0 1 rfl rfl)
theorem dX0_anewTold_2 : decode cX0_anewTold 2 = .ok (.i2l, 1) := dk_133 (dk_at dksX0_anewTold_0 2 rfl rfl)
theorem dX0_anewTold_3 : decode cX0_anewTold 3 = .ok (.lconst 0, 1) := dk_9 (dk_at dksX0_anewTold_0 3 rfl rfl)
theorem dX0_anewTold_4 : decode cX0_anewTold 4 = .ok (.lconst 1, 1) := dk_10 (dk_at dksX0_anewTold_0 4 rfl rfl)
theorem dX0_anewTold_5 : decode cX0_anewTold 5 = .ok (.aload_n 0, 1) := dk_42 (dk_at dksX0_anewTold_0 5 rfl rfl)
theorem dX0_anewTold_6 : decode cX0_anewTold 6 = .ok (.getfield 19, 3) := dk_180 0 19 (dk_at dksX0_anewTold_0 6 rfl rfl)
theorem dX0_anewTold_9 : decode cX0_anewTold 9 = .ok (.getfield 23, 3) := dk_180 0 23 (dk_at dksX0_anewTold_0 9 rfl rfl)
theorem dX0_anewTold_12 : decode cX0_anewTold 12 = .ok (.lshl, 1) := dk_121 (dk_at dksX0_anewTold_0 12 rfl rfl)
theorem dX0_anewTold_13 : decode cX0_anewTold 13 = .ok (.lconst 1, 1) := dk_10 (dk_at dksX0_anewTold_0 13 rfl rfl)
theorem dX0_anewTold_14 : decode cX0_anewTold 14 = .ok (.lsub, 1) := dk_101 (dk_at dksX0_anewTold_0 14 rfl rfl)
theorem dX0_anewTold_15 : decode cX0_anewTold 15 = .ok (.invokestatic 31, 3) := dk_184 0 31 (dk_at dksX0_anewTold_0 15 rfl rfl)
theorem dX0_anewTold_18 : decode cX0_anewTold 18 = .ok (.bipush (-3), 2) := dk_16 253 (dk_at dksX0_anewTold_0 18 rfl rfl)
theorem dX0_anewTold_20 : decode cX0_anewTold 20 = .ok (.invokevirtual 276, 3) := dk_182 1 20 (dk_at dksX0_anewTold_0 20 rfl rfl)
theorem dX0_anewTold_23 : decode cX0_anewTold 23 = .ok (.aload_n 0, 1) := dk_42 (dk_at dksX0_anewTold_0 23 rfl rfl)
theorem dX0_anewTold_24 : decode cX0_anewTold 24 = .ok (.aload_n 0, 1) := dk_42 (dk_at dksX0_anewTold_1 0 rfl rfl)
theorem dX0_anewTold_25 : decode cX0_anewTold 25 = .ok (.getfield 483, 3) := dk_180 1 227 (dk_at dksX0_anewTold_1 1 rfl rfl)
theorem dX0_anewTold_28 : decode cX0_anewTold 28 = .ok (.ifCond .eq 7, 3) := dk_153 0 7 (dk_at dksX0_anewTold_1 4 rfl rfl)
theorem dX0_anewTold_31 : decode cX0_anewTold 31 = .ok (.iconst 1, 1) := dk_4 (dk_at dksX0_anewTold_1 7 rfl rfl)
theorem dX0_anewTold_32 : decode cX0_anewTold 32 = .ok (.goto 4, 3) := dk_167 0 4 (dk_at dksX0_anewTold_1 8 rfl rfl)
theorem dX0_anewTold_35 : decode cX0_anewTold 35 = .ok (.iconst 0, 1) := dk_3 (dk_at dksX0_anewTold_1 11 rfl rfl)
theorem dX0_anewTold_36 : decode cX0_anewTold 36 = .ok (.bipush (-2), 2) := dk_16 254 (dk_at dksX0_anewTold_1 12 rfl rfl)
theorem dX0_anewTold_38 : decode cX0_anewTold 38 = .ok (.invokevirtual 276, 3) := dk_182 1 20 (dk_at dksX0_anewTold_1 14 rfl rfl)
theorem dX0_anewTold_41 : decode cX0_anewTold 41 = .ok (.aload_n 0, 1) := dk_42 (dk_at dksX0_anewTold_1 17 rfl rfl)
theorem dX0_anewTold_42 : decode cX0_anewTold 42 = .ok (.iload_n 1, 1) := dk_27 (dk_at dksX0_anewTold_1 18 rfl rfl)
theorem dX0_anewTold_43 : decode cX0_anewTold 43 = .ok (.iload_n 2, 1) := dk_28 (dk_at dksX0_anewTold_1 19 rfl rfl)
theorem dX0_anewTold_44 : decode cX0_anewTold 44 = .ok (.invokevirtual 533, 3) := dk_182 2 21 (dk_at dksX0_anewTold_1 20 rfl rfl)
theorem dX0_anewTold_47 : decode cX0_anewTold 47 = .ok (.aload_n 0, 1) := dk_42 (dk_at dksX0_anewTold_1 23 rfl rfl)
theorem dX0_anewTold_48 : decode cX0_anewTold 48 = .ok (.lload_n 3, 1) := dk_33 (dk_at dksX0_anewTold_2 0 rfl rfl)
theorem dX0_anewTold_49 : decode cX0_anewTold 49 = .ok (.lconst 0, 1) := dk_9 (dk_at dksX0_anewTold_2 1 rfl rfl)
theorem dX0_anewTold_50 : decode cX0_anewTold 50 = .ok (.lcmp, 1) := dk_148 (dk_at dksX0_anewTold_2 2 rfl rfl)
theorem dX0_anewTold_51 : decode cX0_anewTold 51 = .ok (.ifCond .lt 7, 3) := dk_155 0 7 (dk_at dksX0_anewTold_2 3 rfl rfl)
theorem dX0_anewTold_54 : decode cX0_anewTold 54 = .ok (.iconst 1, 1) := dk_4 (dk_at dksX0_anewTold_2 6 rfl rfl)
theorem dX0_anewTold_55 : decode cX0_anewTold 55 = .ok (.goto 4, 3) := dk_167 0 4 (dk_at dksX0_anewTold_2 7 rfl rfl)
theorem dX0_anewTold_58 : decode cX0_anewTold 58 = .ok (.iconst 0, 1) := dk_3 (dk_at dksX0_anewTold_2 10 rfl rfl)
theorem dX0_anewTold_59 : decode cX0_anewTold 59 = .ok (.bipush (-7), 2) := dk_16 249 (dk_at dksX0_anewTold_2 11 rfl rfl)
theorem dX0_anewTold_61 : decode cX0_anewTold 61 = .ok (.invokevirtual 276, 3) := dk_182 1 20 (dk_at dksX0_anewTold_2 13 rfl rfl)
theorem dX0_anewTold_64 : decode cX0_anewTold 64 = .ok (.aload_n 0, 1) := dk_42 (dk_at dksX0_anewTold_2 16 rfl rfl)
theorem dX0_anewTold_65 : decode cX0_anewTold 65 = .ok (.iload_n 1, 1) := dk_27 (dk_at dksX0_anewTold_2 17 rfl rfl)
theorem dX0_anewTold_66 : decode cX0_anewTold 66 = .ok (.iload_n 2, 1) := dk_28 (dk_at dksX0_anewTold_2 18 rfl rfl)
theorem dX0_anewTold_67 : decode cX0_anewTold 67 = .ok (.lload_n 3, 1) := dk_33 (dk_at dksX0_anewTold_2 19 rfl rfl)
theorem dX0_anewTold_68 : decode cX0_anewTold 68 = .ok (.invokevirtual 538, 3) := dk_182 2 26 (dk_at dksX0_anewTold_2 20 rfl rfl)
theorem dX0_anewTold_71 : decode cX0_anewTold 71 = .ok (.aload_n 0, 1) := dk_42 (dk_at dksX0_anewTold_2 23 rfl rfl)
theorem dX0_anewTold_72 : decode cX0_anewTold 72 = .ok (.aload_n 0, 1) := dk_42 (dk_at dksX0_anewTold_3 0 rfl rfl)
theorem dX0_anewTold_73 : decode cX0_anewTold 73 = .ok (.getfield 513, 3) := dk_180 2 1 (dk_at dksX0_anewTold_3 1 rfl rfl)
theorem dX0_anewTold_76 : decode cX0_anewTold 76 = .ok (.bipush (-7), 2) := dk_16 249 (dk_at dksX0_anewTold_3 4 rfl rfl)
theorem dX0_anewTold_78 : decode cX0_anewTold 78 = .ok (.invokevirtual 276, 3) := dk_182 1 20 (dk_at dksX0_anewTold_3 6 rfl rfl)
theorem dX0_anewTold_81 : decode cX0_anewTold 81 = .ok (.aload_n 0, 1) := dk_42 (dk_at dksX0_anewTold_3 9 rfl rfl)
theorem dX0_anewTold_82 : decode cX0_anewTold 82 = .ok (.iload_n 1, 1) := dk_27 (dk_at dksX0_anewTold_3 10 rfl rfl)
theorem dX0_anewTold_83 : decode cX0_anewTold 83 = .ok (.invokevirtual 542, 3) := dk_182 2 30 (dk_at dksX0_anewTold_3 11 rfl rfl)
theorem dX0_anewTold_86 : decode cX0_anewTold 86 = .ok (.aload_n 0, 1) := dk_42 (dk_at dksX0_anewTold_3 14 rfl rfl)
theorem dX0_anewTold_87 : decode cX0_anewTold 87 = .ok (.getfield 510, 3) := dk_180 1 254 (dk_at dksX0_anewTold_3 15 rfl rfl)
theorem dX0_anewTold_90 : decode cX0_anewTold 90 = .ok (.ireturn, 1) := dk_172 (dk_at dksX0_anewTold_3 18 rfl rfl)
abbrev cX0_planned : ByteArray := prog_1_method_79_code
def yX0_planned : MethodName := ⟨RX0, "planned", "(I)I"⟩
def dkwX0_planned_2 : List UInt8 := [182, 0, 118, 172]
abbrev dktX0_planned_2 : List UInt8 := dkwX0_planned_2 ++ []
def dkwX0_planned_1 : List UInt8 := [180, 1, 227, 27, 122, 4, 126, 4, 160, 0, 12, 42, 180, 0, 94, 27, 46, 167, 0, 9, 42, 16, 253]
abbrev dktX0_planned_1 : List UInt8 := dkwX0_planned_1 ++ dktX0_planned_2
def dkwX0_planned_0 : List UInt8 := [42, 180, 1, 227, 154, 0, 10, 42, 16, 254, 182, 0, 118, 172, 42, 27, 182, 0, 148, 153, 0, 24, 42]
abbrev dktX0_planned_0 : List UInt8 := dkwX0_planned_0 ++ dktX0_planned_1
theorem dksX0_planned_0 : cX0_planned.data.toList.drop 0 = dktX0_planned_0 := by decide +kernel
theorem dksX0_planned_1 : cX0_planned.data.toList.drop 23 = dktX0_planned_1 := dk_seg dksX0_planned_0 23 rfl rfl
theorem dksX0_planned_2 : cX0_planned.data.toList.drop 46 = dktX0_planned_2 := dk_seg dksX0_planned_1 23 rfl rfl
theorem dX0_planned_0 : decode cX0_planned 0 = .ok (.aload_n 0, 1) := dk_42 (dk_at dksX0_planned_0 0 rfl rfl)
theorem dX0_planned_1 : decode cX0_planned 1 = .ok (.getfield 483, 3) := dk_180 1 227 (dk_at dksX0_planned_0 1 rfl rfl)
theorem dX0_planned_4 : decode cX0_planned 4 = .ok (.ifCond .ne 10, 3) := dk_154 0 10 (dk_at dksX0_planned_0 4 rfl rfl)
theorem dX0_planned_7 : decode cX0_planned 7 = .ok (.aload_n 0, 1) := dk_42 (dk_at dksX0_planned_0 7 rfl rfl)
theorem dX0_planned_8 : decode cX0_planned 8 = .ok (.bipush (-2), 2) := dk_16 254 (dk_at dksX0_planned_0 8 rfl rfl)
theorem dX0_planned_10 : decode cX0_planned 10 = .ok (.invokevirtual 118, 3) := dk_182 0 118 (dk_at dksX0_planned_0 10 rfl rfl)
theorem dX0_planned_13 : decode cX0_planned 13 = .ok (.ireturn, 1) := dk_172 (dk_at dksX0_planned_0 13 rfl rfl)
theorem dX0_planned_14 : decode cX0_planned 14 = .ok (.aload_n 0, 1) := dk_42 (dk_at dksX0_planned_0 14 rfl rfl)
theorem dX0_planned_15 : decode cX0_planned 15 = .ok (.iload_n 1, 1) := dk_27 (dk_at dksX0_planned_0 15 rfl rfl)
theorem dX0_planned_16 : decode cX0_planned 16 = .ok (.invokevirtual 148, 3) := dk_182 0 148 (dk_at dksX0_planned_0 16 rfl rfl)
theorem dX0_planned_19 : decode cX0_planned 19 = .ok (.ifCond .eq 24, 3) := dk_153 0 24 (dk_at dksX0_planned_0 19 rfl rfl)
theorem dX0_planned_22 : decode cX0_planned 22 = .ok (.aload_n 0, 1) := dk_42 (dk_at dksX0_planned_0 22 rfl rfl)
theorem dX0_planned_23 : decode cX0_planned 23 = .ok (.getfield 483, 3) := dk_180 1 227 (dk_at dksX0_planned_1 0 rfl rfl)
theorem dX0_planned_26 : decode cX0_planned 26 = .ok (.iload_n 1, 1) := dk_27 (dk_at dksX0_planned_1 3 rfl rfl)
theorem dX0_planned_27 : decode cX0_planned 27 = .ok (.ishr, 1) := dk_122 (dk_at dksX0_planned_1 4 rfl rfl)
theorem dX0_planned_28 : decode cX0_planned 28 = .ok (.iconst 1, 1) := dk_4 (dk_at dksX0_planned_1 5 rfl rfl)
theorem dX0_planned_29 : decode cX0_planned 29 = .ok (.iand, 1) := dk_126 (dk_at dksX0_planned_1 6 rfl rfl)
theorem dX0_planned_30 : decode cX0_planned 30 = .ok (.iconst 1, 1) := dk_4 (dk_at dksX0_planned_1 7 rfl rfl)
theorem dX0_planned_31 : decode cX0_planned 31 = .ok (.if_icmp .ne 12, 3) := dk_160 0 12 (dk_at dksX0_planned_1 8 rfl rfl)
theorem dX0_planned_34 : decode cX0_planned 34 = .ok (.aload_n 0, 1) := dk_42 (dk_at dksX0_planned_1 11 rfl rfl)
theorem dX0_planned_35 : decode cX0_planned 35 = .ok (.getfield 94, 3) := dk_180 0 94 (dk_at dksX0_planned_1 12 rfl rfl)
theorem dX0_planned_38 : decode cX0_planned 38 = .ok (.iload_n 1, 1) := dk_27 (dk_at dksX0_planned_1 15 rfl rfl)
theorem dX0_planned_39 : decode cX0_planned 39 = .ok (.iaload, 1) := dk_46 (dk_at dksX0_planned_1 16 rfl rfl)
theorem dX0_planned_40 : decode cX0_planned 40 = .ok (.goto 9, 3) := dk_167 0 9 (dk_at dksX0_planned_1 17 rfl rfl)
theorem dX0_planned_43 : decode cX0_planned 43 = .ok (.aload_n 0, 1) := dk_42 (dk_at dksX0_planned_1 20 rfl rfl)
theorem dX0_planned_44 : decode cX0_planned 44 = .ok (.bipush (-3), 2) := dk_16 253 (dk_at dksX0_planned_1 21 rfl rfl)
theorem dX0_planned_46 : decode cX0_planned 46 = .ok (.invokevirtual 118, 3) := dk_182 0 118 (dk_at dksX0_planned_2 0 rfl rfl)
theorem dX0_planned_49 : decode cX0_planned 49 = .ok (.ireturn, 1) := dk_172 (dk_at dksX0_planned_2 3 rfl rfl)
abbrev cX0_judge : ByteArray := prog_1_method_82_code
def yX0_judge : MethodName := ⟨RX0, "judge", "(II)I"⟩
def dkwX0_judge_0 : List UInt8 := [42, 27, 28, 182, 2, 44, 172, 78, 42, 45, 180, 1, 32, 182, 0, 118, 172]
abbrev dktX0_judge_0 : List UInt8 := dkwX0_judge_0 ++ []
theorem dksX0_judge_0 : cX0_judge.data.toList.drop 0 = dktX0_judge_0 := by decide +kernel
theorem dX0_judge_0 : decode cX0_judge 0 = .ok (.aload_n 0, 1) := dk_42 (dk_at dksX0_judge_0 0 rfl rfl)
theorem dX0_judge_1 : decode cX0_judge 1 = .ok (.iload_n 1, 1) := dk_27 (dk_at dksX0_judge_0 1 rfl rfl)
theorem dX0_judge_2 : decode cX0_judge 2 = .ok (.iload_n 2, 1) := dk_28 (dk_at dksX0_judge_0 2 rfl rfl)
theorem dX0_judge_3 : decode cX0_judge 3 = .ok (.invokevirtual 556, 3) := dk_182 2 44 (dk_at dksX0_judge_0 3 rfl rfl)
theorem dX0_judge_6 : decode cX0_judge 6 = .ok (.ireturn, 1) := dk_172 (dk_at dksX0_judge_0 6 rfl rfl)
theorem dX0_judge_7 : decode cX0_judge 7 = .ok (.astore_n 3, 1) := dk_78 (dk_at dksX0_judge_0 7 rfl rfl)
theorem dX0_judge_8 : decode cX0_judge 8 = .ok (.aload_n 0, 1) := dk_42 (dk_at dksX0_judge_0 8 rfl rfl)
theorem dX0_judge_9 : decode cX0_judge 9 = .ok (.aload_n 3, 1) := dk_45 (dk_at dksX0_judge_0 9 rfl rfl)
theorem dX0_judge_10 : decode cX0_judge 10 = .ok (.getfield 288, 3) := dk_180 1 32 (dk_at dksX0_judge_0 10 rfl rfl)
theorem dX0_judge_13 : decode cX0_judge 13 = .ok (.invokevirtual 118, 3) := dk_182 0 118 (dk_at dksX0_judge_0 13 rfl rfl)
theorem dX0_judge_16 : decode cX0_judge 16 = .ok (.ireturn, 1) := dk_172 (dk_at dksX0_judge_0 16 rfl rfl)
abbrev cX0_judgeTold : ByteArray := prog_1_method_81_code
def yX0_judgeTold : MethodName := ⟨RX0, "judgeTold", "(II)I"⟩
def dkwX0_judgeTold_0 : List UInt8 := [42, 27, 28, 182, 2, 41, 153, 0, 14, 42, 182, 1, 230, 153, 0, 7, 4, 167, 0, 4, 3, 172]
abbrev dktX0_judgeTold_0 : List UInt8 := dkwX0_judgeTold_0 ++ []
theorem dksX0_judgeTold_0 : cX0_judgeTold.data.toList.drop 0 = dktX0_judgeTold_0 := by decide +kernel
theorem dX0_judgeTold_0 : decode cX0_judgeTold 0 = .ok (.aload_n 0, 1) := dk_42 (dk_at dksX0_judgeTold_0 0 rfl rfl)
theorem dX0_judgeTold_1 : decode cX0_judgeTold 1 = .ok (.iload_n 1, 1) := dk_27 (dk_at dksX0_judgeTold_0 1 rfl rfl)
theorem dX0_judgeTold_2 : decode cX0_judgeTold 2 = .ok (.iload_n 2, 1) := dk_28 (dk_at dksX0_judgeTold_0 2 rfl rfl)
theorem dX0_judgeTold_3 : decode cX0_judgeTold 3 = .ok (.invokevirtual 553, 3) := dk_182 2 41 (dk_at dksX0_judgeTold_0 3 rfl rfl)
theorem dX0_judgeTold_6 : decode cX0_judgeTold 6 = .ok (.ifCond .eq 14, 3) := dk_153 0 14 (dk_at dksX0_judgeTold_0 6 rfl rfl)
theorem dX0_judgeTold_9 : decode cX0_judgeTold 9 = .ok (.aload_n 0, 1) := dk_42 (dk_at dksX0_judgeTold_0 9 rfl rfl)
theorem dX0_judgeTold_10 : decode cX0_judgeTold 10 = .ok (.invokevirtual 486, 3) := dk_182 1 230 (dk_at dksX0_judgeTold_0 10 rfl rfl)
theorem dX0_judgeTold_13 : decode cX0_judgeTold 13 = .ok (.ifCond .eq 7, 3) := dk_153 0 7 (dk_at dksX0_judgeTold_0 13 rfl rfl)
theorem dX0_judgeTold_16 : decode cX0_judgeTold 16 = .ok (.iconst 1, 1) := dk_4 (dk_at dksX0_judgeTold_0 16 rfl rfl)
theorem dX0_judgeTold_17 : decode cX0_judgeTold 17 = .ok (.goto 4, 3) := dk_167 0 4 (dk_at dksX0_judgeTold_0 17 rfl rfl)
theorem dX0_judgeTold_20 : decode cX0_judgeTold 20 = .ok (.iconst 0, 1) := dk_3 (dk_at dksX0_judgeTold_0 20 rfl rfl)
theorem dX0_judgeTold_21 : decode cX0_judgeTold 21 = .ok (.ireturn, 1) := dk_172 (dk_at dksX0_judgeTold_0 21 rfl rfl)
abbrev cX0_takeRow : ByteArray := prog_1_method_80_code
def yX0_takeRow : MethodName := ⟨RX0, "takeRow", "(II)Z"⟩
def dkwX0_takeRow_4 : List UInt8 := [62, 42, 180, 0, 88, 21, 4, 42, 180, 1, 157, 21, 4, 46, 79, 132, 4, 1, 167, 255, 200, 29, 172]
abbrev dktX0_takeRow_4 : List UInt8 := dkwX0_takeRow_4 ++ []
def dkwX0_takeRow_3 : List UInt8 := [180, 1, 157, 21, 4, 46, 133, 9, 42, 180, 1, 194, 133, 184, 0, 31, 153, 0, 7, 4, 167, 0, 4, 3]
abbrev dktX0_takeRow_3 : List UInt8 := dkwX0_takeRow_3 ++ dktX0_takeRow_4
def dkwX0_takeRow_2 : List UInt8 := [27, 28, 182, 2, 17, 4, 62, 3, 54, 4, 21, 4, 42, 180, 1, 197, 162, 0, 53, 29, 153, 0, 27, 42]
abbrev dktX0_takeRow_2 : List UInt8 := dkwX0_takeRow_2 ++ dktX0_takeRow_3
def dkwX0_takeRow_1 : List UInt8 := [42, 42, 180, 1, 157, 190, 27, 184, 1, 189, 160, 0, 7, 4, 167, 0, 4, 3, 16, 251, 182, 1, 20, 42]
abbrev dktX0_takeRow_1 : List UInt8 := dkwX0_takeRow_1 ++ dktX0_takeRow_2
def dkwX0_takeRow_0 : List UInt8 := [42, 27, 28, 182, 2, 21, 42, 42, 180, 1, 157, 198, 0, 7, 4, 167, 0, 4, 3, 16, 254, 182, 1, 20]
abbrev dktX0_takeRow_0 : List UInt8 := dkwX0_takeRow_0 ++ dktX0_takeRow_1
theorem dksX0_takeRow_0 : cX0_takeRow.data.toList.drop 0 = dktX0_takeRow_0 := by decide +kernel
theorem dksX0_takeRow_1 : cX0_takeRow.data.toList.drop 24 = dktX0_takeRow_1 := dk_seg dksX0_takeRow_0 24 rfl rfl
theorem dksX0_takeRow_2 : cX0_takeRow.data.toList.drop 48 = dktX0_takeRow_2 := dk_seg dksX0_takeRow_1 24 rfl rfl
theorem dksX0_takeRow_3 : cX0_takeRow.data.toList.drop 72 = dktX0_takeRow_3 := dk_seg dksX0_takeRow_2 24 rfl rfl
theorem dksX0_takeRow_4 : cX0_takeRow.data.toList.drop 96 = dktX0_takeRow_4 := dk_seg dksX0_takeRow_3 24 rfl rfl
theorem dX0_takeRow_0 : decode cX0_takeRow 0 = .ok (.aload_n 0, 1) := dk_42 (dk_at dksX0_takeRow_0 0 rfl rfl)
theorem dX0_takeRow_1 : decode cX0_takeRow 1 = .ok (.iload_n 1, 1) := dk_27 (dk_at dksX0_takeRow_0 1 rfl rfl)
theorem dX0_takeRow_2 : decode cX0_takeRow 2 = .ok (.iload_n 2, 1) := dk_28 (dk_at dksX0_takeRow_0 2 rfl rfl)
theorem dX0_takeRow_3 : decode cX0_takeRow 3 = .ok (.invokevirtual 533, 3) := dk_182 2 21 (dk_at dksX0_takeRow_0 3 rfl rfl)
theorem dX0_takeRow_6 : decode cX0_takeRow 6 = .ok (.aload_n 0, 1) := dk_42 (dk_at dksX0_takeRow_0 6 rfl rfl)
theorem dX0_takeRow_7 : decode cX0_takeRow 7 = .ok (.aload_n 0, 1) := dk_42 (dk_at dksX0_takeRow_0 7 rfl rfl)
theorem dX0_takeRow_8 : decode cX0_takeRow 8 = .ok (.getfield 413, 3) := dk_180 1 157 (dk_at dksX0_takeRow_0 8 rfl rfl)
theorem dX0_takeRow_11 : decode cX0_takeRow 11 = .ok (.ifnull 7, 3) := dk_198 0 7 (dk_at dksX0_takeRow_0 11 rfl rfl)
theorem dX0_takeRow_14 : decode cX0_takeRow 14 = .ok (.iconst 1, 1) := dk_4 (dk_at dksX0_takeRow_0 14 rfl rfl)
theorem dX0_takeRow_15 : decode cX0_takeRow 15 = .ok (.goto 4, 3) := dk_167 0 4 (dk_at dksX0_takeRow_0 15 rfl rfl)
theorem dX0_takeRow_18 : decode cX0_takeRow 18 = .ok (.iconst 0, 1) := dk_3 (dk_at dksX0_takeRow_0 18 rfl rfl)
theorem dX0_takeRow_19 : decode cX0_takeRow 19 = .ok (.bipush (-2), 2) := dk_16 254 (dk_at dksX0_takeRow_0 19 rfl rfl)
theorem dX0_takeRow_21 : decode cX0_takeRow 21 = .ok (.invokevirtual 276, 3) := dk_182 1 20 (dk_at dksX0_takeRow_0 21 rfl rfl)
theorem dX0_takeRow_24 : decode cX0_takeRow 24 = .ok (.aload_n 0, 1) := dk_42 (dk_at dksX0_takeRow_1 0 rfl rfl)
theorem dX0_takeRow_25 : decode cX0_takeRow 25 = .ok (.aload_n 0, 1) := dk_42 (dk_at dksX0_takeRow_1 1 rfl rfl)
theorem dX0_takeRow_26 : decode cX0_takeRow 26 = .ok (.getfield 413, 3) := dk_180 1 157 (dk_at dksX0_takeRow_1 2 rfl rfl)
theorem dX0_takeRow_29 : decode cX0_takeRow 29 = .ok (.arraylength, 1) := dk_190 (dk_at dksX0_takeRow_1 5 rfl rfl)
theorem dX0_takeRow_30 : decode cX0_takeRow 30 = .ok (.iload_n 1, 1) := dk_27 (dk_at dksX0_takeRow_1 6 rfl rfl)
theorem dX0_takeRow_31 : decode cX0_takeRow 31 = .ok (.invokestatic 445, 3) := dk_184 1 189 (dk_at dksX0_takeRow_1 7 rfl rfl)
theorem dX0_takeRow_34 : decode cX0_takeRow 34 = .ok (.if_icmp .ne 7, 3) := dk_160 0 7 (dk_at dksX0_takeRow_1 10 rfl rfl)
theorem dX0_takeRow_37 : decode cX0_takeRow 37 = .ok (.iconst 1, 1) := dk_4 (dk_at dksX0_takeRow_1 13 rfl rfl)
theorem dX0_takeRow_38 : decode cX0_takeRow 38 = .ok (.goto 4, 3) := dk_167 0 4 (dk_at dksX0_takeRow_1 14 rfl rfl)
theorem dX0_takeRow_41 : decode cX0_takeRow 41 = .ok (.iconst 0, 1) := dk_3 (dk_at dksX0_takeRow_1 17 rfl rfl)
theorem dX0_takeRow_42 : decode cX0_takeRow 42 = .ok (.bipush (-5), 2) := dk_16 251 (dk_at dksX0_takeRow_1 18 rfl rfl)
theorem dX0_takeRow_44 : decode cX0_takeRow 44 = .ok (.invokevirtual 276, 3) := dk_182 1 20 (dk_at dksX0_takeRow_1 20 rfl rfl)
theorem dX0_takeRow_47 : decode cX0_takeRow 47 = .ok (.aload_n 0, 1) := dk_42 (dk_at dksX0_takeRow_1 23 rfl rfl)
theorem dX0_takeRow_48 : decode cX0_takeRow 48 = .ok (.iload_n 1, 1) := dk_27 (dk_at dksX0_takeRow_2 0 rfl rfl)
theorem dX0_takeRow_49 : decode cX0_takeRow 49 = .ok (.iload_n 2, 1) := dk_28 (dk_at dksX0_takeRow_2 1 rfl rfl)
theorem dX0_takeRow_50 : decode cX0_takeRow 50 = .ok (.invokevirtual 529, 3) := dk_182 2 17 (dk_at dksX0_takeRow_2 2 rfl rfl)
theorem dX0_takeRow_53 : decode cX0_takeRow 53 = .ok (.iconst 1, 1) := dk_4 (dk_at dksX0_takeRow_2 5 rfl rfl)
theorem dX0_takeRow_54 : decode cX0_takeRow 54 = .ok (.istore_n 3, 1) := dk_62 (dk_at dksX0_takeRow_2 6 rfl rfl)
theorem dX0_takeRow_55 : decode cX0_takeRow 55 = .ok (.iconst 0, 1) := dk_3 (dk_at dksX0_takeRow_2 7 rfl rfl)
theorem dX0_takeRow_56 : decode cX0_takeRow 56 = .ok (.istore 4, 2) := dk_54 4 (dk_at dksX0_takeRow_2 8 rfl rfl)
theorem dX0_takeRow_58 : decode cX0_takeRow 58 = .ok (.iload 4, 2) := dk_21 4 (dk_at dksX0_takeRow_2 10 rfl rfl)
theorem dX0_takeRow_60 : decode cX0_takeRow 60 = .ok (.aload_n 0, 1) := dk_42 (dk_at dksX0_takeRow_2 12 rfl rfl)
theorem dX0_takeRow_61 : decode cX0_takeRow 61 = .ok (.getfield 453, 3) := dk_180 1 197 (dk_at dksX0_takeRow_2 13 rfl rfl)
theorem dX0_takeRow_64 : decode cX0_takeRow 64 = .ok (.if_icmp .ge 53, 3) := dk_162 0 53 (dk_at dksX0_takeRow_2 16 rfl rfl)
theorem dX0_takeRow_67 : decode cX0_takeRow 67 = .ok (.iload_n 3, 1) := dk_29 (dk_at dksX0_takeRow_2 19 rfl rfl)
theorem dX0_takeRow_68 : decode cX0_takeRow 68 = .ok (.ifCond .eq 27, 3) := dk_153 0 27 (dk_at dksX0_takeRow_2 20 rfl rfl)
theorem dX0_takeRow_71 : decode cX0_takeRow 71 = .ok (.aload_n 0, 1) := dk_42 (dk_at dksX0_takeRow_2 23 rfl rfl)
theorem dX0_takeRow_72 : decode cX0_takeRow 72 = .ok (.getfield 413, 3) := dk_180 1 157 (dk_at dksX0_takeRow_3 0 rfl rfl)
theorem dX0_takeRow_75 : decode cX0_takeRow 75 = .ok (.iload 4, 2) := dk_21 4 (dk_at dksX0_takeRow_3 3 rfl rfl)
theorem dX0_takeRow_77 : decode cX0_takeRow 77 = .ok (.iaload, 1) := dk_46 (dk_at dksX0_takeRow_3 5 rfl rfl)
theorem dX0_takeRow_78 : decode cX0_takeRow 78 = .ok (.i2l, 1) := dk_133 (dk_at dksX0_takeRow_3 6 rfl rfl)
theorem dX0_takeRow_79 : decode cX0_takeRow 79 = .ok (.lconst 0, 1) := dk_9 (dk_at dksX0_takeRow_3 7 rfl rfl)
theorem dX0_takeRow_80 : decode cX0_takeRow 80 = .ok (.aload_n 0, 1) := dk_42 (dk_at dksX0_takeRow_3 8 rfl rfl)
theorem dX0_takeRow_81 : decode cX0_takeRow 81 = .ok (.getfield 450, 3) := dk_180 1 194 (dk_at dksX0_takeRow_3 9 rfl rfl)
theorem dX0_takeRow_84 : decode cX0_takeRow 84 = .ok (.i2l, 1) := dk_133 (dk_at dksX0_takeRow_3 12 rfl rfl)
theorem dX0_takeRow_85 : decode cX0_takeRow 85 = .ok (.invokestatic 31, 3) := dk_184 0 31 (dk_at dksX0_takeRow_3 13 rfl rfl)
theorem dX0_takeRow_88 : decode cX0_takeRow 88 = .ok (.ifCond .eq 7, 3) := dk_153 0 7 (dk_at dksX0_takeRow_3 16 rfl rfl)
theorem dX0_takeRow_91 : decode cX0_takeRow 91 = .ok (.iconst 1, 1) := dk_4 (dk_at dksX0_takeRow_3 19 rfl rfl)
theorem dX0_takeRow_92 : decode cX0_takeRow 92 = .ok (.goto 4, 3) := dk_167 0 4 (dk_at dksX0_takeRow_3 20 rfl rfl)
theorem dX0_takeRow_95 : decode cX0_takeRow 95 = .ok (.iconst 0, 1) := dk_3 (dk_at dksX0_takeRow_3 23 rfl rfl)
theorem dX0_takeRow_96 : decode cX0_takeRow 96 = .ok (.istore_n 3, 1) := dk_62 (dk_at dksX0_takeRow_4 0 rfl rfl)
theorem dX0_takeRow_97 : decode cX0_takeRow 97 = .ok (.aload_n 0, 1) := dk_42 (dk_at dksX0_takeRow_4 1 rfl rfl)
theorem dX0_takeRow_98 : decode cX0_takeRow 98 = .ok (.getfield 88, 3) := dk_180 0 88 (dk_at dksX0_takeRow_4 2 rfl rfl)
theorem dX0_takeRow_101 : decode cX0_takeRow 101 = .ok (.iload 4, 2) := dk_21 4 (dk_at dksX0_takeRow_4 5 rfl rfl)
theorem dX0_takeRow_103 : decode cX0_takeRow 103 = .ok (.aload_n 0, 1) := dk_42 (dk_at dksX0_takeRow_4 7 rfl rfl)
theorem dX0_takeRow_104 : decode cX0_takeRow 104 = .ok (.getfield 413, 3) := dk_180 1 157 (dk_at dksX0_takeRow_4 8 rfl rfl)
theorem dX0_takeRow_107 : decode cX0_takeRow 107 = .ok (.iload 4, 2) := dk_21 4 (dk_at dksX0_takeRow_4 11 rfl rfl)
theorem dX0_takeRow_109 : decode cX0_takeRow 109 = .ok (.iaload, 1) := dk_46 (dk_at dksX0_takeRow_4 13 rfl rfl)
theorem dX0_takeRow_110 : decode cX0_takeRow 110 = .ok (.iastore, 1) := dk_79 (dk_at dksX0_takeRow_4 14 rfl rfl)
theorem dX0_takeRow_111 : decode cX0_takeRow 111 = .ok (.iinc 4 1, 3) := dk_132 4 1 (dk_at dksX0_takeRow_4 15 rfl rfl)
theorem dX0_takeRow_114 : decode cX0_takeRow 114 = .ok (.goto (-56), 3) := dk_167 255 200 (dk_at dksX0_takeRow_4 18 rfl rfl)
theorem dX0_takeRow_117 : decode cX0_takeRow 117 = .ok (.iload_n 3, 1) := dk_29 (dk_at dksX0_takeRow_4 21 rfl rfl)
theorem dX0_takeRow_118 : decode cX0_takeRow 118 = .ok (.ireturn, 1) := dk_172 (dk_at dksX0_takeRow_4 22 rfl rfl)
abbrev cX0_worth : ByteArray := prog_1_method_84_code
def yX0_worth : MethodName := ⟨RX0, "worth", "(IIZ)J"⟩
def dkwX0_worth_0 : List UInt8 := [42, 27, 28, 29, 182, 2, 47, 173, 58, 4, 42, 25, 4, 180, 1, 32, 182, 1, 56, 133, 173]
abbrev dktX0_worth_0 : List UInt8 := dkwX0_worth_0 ++ []
theorem dksX0_worth_0 : cX0_worth.data.toList.drop 0 = dktX0_worth_0 := by decide +kernel
theorem dX0_worth_0 : decode cX0_worth 0 = .ok (.aload_n 0, 1) := dk_42 (dk_at dksX0_worth_0 0 rfl rfl)
theorem dX0_worth_1 : decode cX0_worth 1 = .ok (.iload_n 1, 1) := dk_27 (dk_at dksX0_worth_0 1 rfl rfl)
theorem dX0_worth_2 : decode cX0_worth 2 = .ok (.iload_n 2, 1) := dk_28 (dk_at dksX0_worth_0 2 rfl rfl)
theorem dX0_worth_3 : decode cX0_worth 3 = .ok (.iload_n 3, 1) := dk_29 (dk_at dksX0_worth_0 3 rfl rfl)
theorem dX0_worth_4 : decode cX0_worth 4 = .ok (.invokevirtual 559, 3) := dk_182 2 47 (dk_at dksX0_worth_0 4 rfl rfl)
theorem dX0_worth_7 : decode cX0_worth 7 = .ok (.lreturn, 1) := dk_173 (dk_at dksX0_worth_0 7 rfl rfl)
theorem dX0_worth_8 : decode cX0_worth 8 = .ok (.astore 4, 2) := dk_58 4 (dk_at dksX0_worth_0 8 rfl rfl)
theorem dX0_worth_10 : decode cX0_worth 10 = .ok (.aload_n 0, 1) := dk_42 (dk_at dksX0_worth_0 10 rfl rfl)
theorem dX0_worth_11 : decode cX0_worth 11 = .ok (.aload 4, 2) := dk_25 4 (dk_at dksX0_worth_0 11 rfl rfl)
theorem dX0_worth_13 : decode cX0_worth 13 = .ok (.getfield 288, 3) := dk_180 1 32 (dk_at dksX0_worth_0 13 rfl rfl)
theorem dX0_worth_16 : decode cX0_worth 16 = .ok (.invokevirtual 312, 3) := dk_182 1 56 (dk_at dksX0_worth_0 16 rfl rfl)
theorem dX0_worth_19 : decode cX0_worth 19 = .ok (.i2l, 1) := dk_133 (dk_at dksX0_worth_0 19 rfl rfl)
theorem dX0_worth_20 : decode cX0_worth 20 = .ok (.lreturn, 1) := dk_173 (dk_at dksX0_worth_0 20 rfl rfl)
abbrev cX0_worthTold : ByteArray := prog_1_method_83_code
def yX0_worthTold : MethodName := ⟨RX0, "worthTold", "(IIZ)J"⟩
def dkwX0_worthTold_1 : List UInt8 := [182, 1, 234, 173]
abbrev dktX0_worthTold_1 : List UInt8 := dkwX0_worthTold_1 ++ []
def dkwX0_worthTold_0 : List UInt8 := [42, 42, 27, 28, 182, 2, 41, 16, 249, 182, 1, 20, 29, 153, 0, 10, 42, 182, 1, 238, 167, 0, 7, 42]
abbrev dktX0_worthTold_0 : List UInt8 := dkwX0_worthTold_0 ++ dktX0_worthTold_1
theorem dksX0_worthTold_0 : cX0_worthTold.data.toList.drop 0 = dktX0_worthTold_0 := by decide +kernel
theorem dksX0_worthTold_1 : cX0_worthTold.data.toList.drop 24 = dktX0_worthTold_1 := dk_seg dksX0_worthTold_0 24 rfl rfl
theorem dX0_worthTold_0 : decode cX0_worthTold 0 = .ok (.aload_n 0, 1) := dk_42 (dk_at dksX0_worthTold_0 0 rfl rfl)
theorem dX0_worthTold_1 : decode cX0_worthTold 1 = .ok (.aload_n 0, 1) := dk_42 (dk_at dksX0_worthTold_0 1 rfl rfl)
theorem dX0_worthTold_2 : decode cX0_worthTold 2 = .ok (.iload_n 1, 1) := dk_27 (dk_at dksX0_worthTold_0 2 rfl rfl)
theorem dX0_worthTold_3 : decode cX0_worthTold 3 = .ok (.iload_n 2, 1) := dk_28 (dk_at dksX0_worthTold_0 3 rfl rfl)
theorem dX0_worthTold_4 : decode cX0_worthTold 4 = .ok (.invokevirtual 553, 3) := dk_182 2 41 (dk_at dksX0_worthTold_0 4 rfl rfl)
theorem dX0_worthTold_7 : decode cX0_worthTold 7 = .ok (.bipush (-7), 2) := dk_16 249 (dk_at dksX0_worthTold_0 7 rfl rfl)
theorem dX0_worthTold_9 : decode cX0_worthTold 9 = .ok (.invokevirtual 276, 3) := dk_182 1 20 (dk_at dksX0_worthTold_0 9 rfl rfl)
theorem dX0_worthTold_12 : decode cX0_worthTold 12 = .ok (.iload_n 3, 1) := dk_29 (dk_at dksX0_worthTold_0 12 rfl rfl)
theorem dX0_worthTold_13 : decode cX0_worthTold 13 = .ok (.ifCond .eq 10, 3) := dk_153 0 10 (dk_at dksX0_worthTold_0 13 rfl rfl)
theorem dX0_worthTold_16 : decode cX0_worthTold 16 = .ok (.aload_n 0, 1) := dk_42 (dk_at dksX0_worthTold_0 16 rfl rfl)
theorem dX0_worthTold_17 : decode cX0_worthTold 17 = .ok (.invokevirtual 494, 3) := dk_182 1 238 (dk_at dksX0_worthTold_0 17 rfl rfl)
theorem dX0_worthTold_20 : decode cX0_worthTold 20 = .ok (.goto 7, 3) := dk_167 0 7 (dk_at dksX0_worthTold_0 20 rfl rfl)
theorem dX0_worthTold_23 : decode cX0_worthTold 23 = .ok (.aload_n 0, 1) := dk_42 (dk_at dksX0_worthTold_0 23 rfl rfl)
theorem dX0_worthTold_24 : decode cX0_worthTold 24 = .ok (.invokevirtual 490, 3) := dk_182 1 234 (dk_at dksX0_worthTold_1 0 rfl rfl)
theorem dX0_worthTold_27 : decode cX0_worthTold 27 = .ok (.lreturn, 1) := dk_173 (dk_at dksX0_worthTold_1 3 rfl rfl)
abbrev cX0_attempt : ByteArray := prog_1_method_88_code
def yX0_attempt : MethodName := ⟨RX0, "attempt", "(II)J"⟩
def dkwX0_attempt_4 : List UInt8 := [28, 182, 2, 67, 173]
abbrev dktX0_attempt_4 : List UInt8 := dkwX0_attempt_4 ++ []
def dkwX0_attempt_3 : List UInt8 := [182, 2, 63, 3, 62, 29, 27, 162, 0, 16, 42, 180, 0, 59, 182, 1, 171, 132, 3, 1, 167, 255, 241, 42]
abbrev dktX0_attempt_3 : List UInt8 := dkwX0_attempt_3 ++ dktX0_attempt_4
def dkwX0_attempt_2 : List UInt8 := [27, 96, 17, 1, 144, 164, 0, 11, 42, 16, 248, 182, 1, 56, 133, 173, 42, 180, 0, 59, 42, 180, 0, 19]
abbrev dktX0_attempt_2 : List UInt8 := dkwX0_attempt_2 ++ dktX0_attempt_3
def dkwX0_attempt_1 : List UInt8 := [20, 2, 61, 184, 0, 31, 154, 0, 11, 42, 16, 249, 182, 1, 56, 133, 173, 42, 180, 0, 19, 180, 1, 88]
abbrev dktX0_attempt_1 : List UInt8 := dkwX0_attempt_1 ++ dktX0_attempt_2
def dkwX0_attempt_0 : List UInt8 := [28, 133, 9, 20, 2, 59, 184, 0, 31, 154, 0, 11, 42, 16, 253, 182, 1, 56, 133, 173, 27, 133, 10]
abbrev dktX0_attempt_0 : List UInt8 := dkwX0_attempt_0 ++ dktX0_attempt_1
theorem dksX0_attempt_0 : cX0_attempt.data.toList.drop 0 = dktX0_attempt_0 := by decide +kernel
theorem dksX0_attempt_1 : cX0_attempt.data.toList.drop 23 = dktX0_attempt_1 := dk_seg dksX0_attempt_0 23 rfl rfl
theorem dksX0_attempt_2 : cX0_attempt.data.toList.drop 47 = dktX0_attempt_2 := dk_seg dksX0_attempt_1 24 rfl rfl
theorem dksX0_attempt_3 : cX0_attempt.data.toList.drop 71 = dktX0_attempt_3 := dk_seg dksX0_attempt_2 24 rfl rfl
theorem dksX0_attempt_4 : cX0_attempt.data.toList.drop 95 = dktX0_attempt_4 := dk_seg dksX0_attempt_3 24 rfl rfl
theorem dX0_attempt_0 : decode cX0_attempt 0 = .ok (.iload_n 2, 1) := dk_28 (dk_at dksX0_attempt_0 0 rfl rfl)
theorem dX0_attempt_1 : decode cX0_attempt 1 = .ok (.i2l, 1) := dk_133 (dk_at dksX0_attempt_0 1 rfl rfl)
theorem dX0_attempt_2 : decode cX0_attempt 2 = .ok (.lconst 0, 1) := dk_9 (dk_at dksX0_attempt_0 2 rfl rfl)
theorem dX0_attempt_3 : decode cX0_attempt 3 = .ok (.ldc2_w 571, 3) := dk_20 2 59 (dk_at dksX0_attempt_0 3 rfl rfl)
theorem dX0_attempt_6 : decode cX0_attempt 6 = .ok (.invokestatic 31, 3) := dk_184 0 31 (dk_at dksX0_attempt_0 6 rfl rfl)
theorem dX0_attempt_9 : decode cX0_attempt 9 = .ok (.ifCond .ne 11, 3) := dk_154 0 11 (dk_at dksX0_attempt_0 9 rfl rfl)
theorem dX0_attempt_12 : decode cX0_attempt 12 = .ok (.aload_n 0, 1) := dk_42 (dk_at dksX0_attempt_0 12 rfl rfl)
theorem dX0_attempt_13 : decode cX0_attempt 13 = .ok (.bipush (-3), 2) := dk_16 253 (dk_at dksX0_attempt_0 13 rfl rfl)
theorem dX0_attempt_15 : decode cX0_attempt 15 = .ok (.invokevirtual 312, 3) := dk_182 1 56 (dk_at dksX0_attempt_0 15 rfl rfl)
theorem dX0_attempt_18 : decode cX0_attempt 18 = .ok (.i2l, 1) := dk_133 (dk_at dksX0_attempt_0 18 rfl rfl)
theorem dX0_attempt_19 : decode cX0_attempt 19 = .ok (.lreturn, 1) := dk_173 (dk_at dksX0_attempt_0 19 rfl rfl)
theorem dX0_attempt_20 : decode cX0_attempt 20 = .ok (.iload_n 1, 1) := dk_27 (dk_at dksX0_attempt_0 20 rfl rfl)
theorem dX0_attempt_21 : decode cX0_attempt 21 = .ok (.i2l, 1) := dk_133 (dk_at dksX0_attempt_0 21 rfl rfl)
theorem dX0_attempt_22 : decode cX0_attempt 22 = .ok (.lconst 1, 1) := dk_10 (dk_at dksX0_attempt_0 22 rfl rfl)
theorem dX0_attempt_23 : decode cX0_attempt 23 = .ok (.ldc2_w 573, 3) := dk_20 2 61 (dk_at dksX0_attempt_1 0 rfl rfl)
theorem dX0_attempt_26 : decode cX0_attempt 26 = .ok (.invokestatic 31, 3) := dk_184 0 31 (dk_at dksX0_attempt_1 3 rfl rfl)
theorem dX0_attempt_29 : decode cX0_attempt 29 = .ok (.ifCond .ne 11, 3) := dk_154 0 11 (dk_at dksX0_attempt_1 6 rfl rfl)
theorem dX0_attempt_32 : decode cX0_attempt 32 = .ok (.aload_n 0, 1) := dk_42 (dk_at dksX0_attempt_1 9 rfl rfl)
theorem dX0_attempt_33 : decode cX0_attempt 33 = .ok (.bipush (-7), 2) := dk_16 249 (dk_at dksX0_attempt_1 10 rfl rfl)
theorem dX0_attempt_35 : decode cX0_attempt 35 = .ok (.invokevirtual 312, 3) := dk_182 1 56 (dk_at dksX0_attempt_1 12 rfl rfl)
theorem dX0_attempt_38 : decode cX0_attempt 38 = .ok (.i2l, 1) := dk_133 (dk_at dksX0_attempt_1 15 rfl rfl)
theorem dX0_attempt_39 : decode cX0_attempt 39 = .ok (.lreturn, 1) := dk_173 (dk_at dksX0_attempt_1 16 rfl rfl)
theorem dX0_attempt_40 : decode cX0_attempt 40 = .ok (.aload_n 0, 1) := dk_42 (dk_at dksX0_attempt_1 17 rfl rfl)
theorem dX0_attempt_41 : decode cX0_attempt 41 = .ok (.getfield 19, 3) := dk_180 0 19 (dk_at dksX0_attempt_1 18 rfl rfl)
theorem dX0_attempt_44 : decode cX0_attempt 44 = .ok (.getfield 344, 3) := dk_180 1 88 (dk_at dksX0_attempt_1 21 rfl rfl)
theorem dX0_attempt_47 : decode cX0_attempt 47 = .ok (.iload_n 1, 1) := dk_27 (dk_at dksX0_attempt_2 0 rfl rfl)
theorem dX0_attempt_48 : decode cX0_attempt 48 = .ok (.iadd, 1) := dk_96 (dk_at dksX0_attempt_2 1 rfl rfl)
theorem dX0_attempt_49 : decode cX0_attempt 49 = .ok (.sipush 400, 3) := dk_17 1 144 (dk_at dksX0_attempt_2 2 rfl rfl)
theorem dX0_attempt_52 : decode cX0_attempt 52 = .ok (.if_icmp .le 11, 3) := dk_164 0 11 (dk_at dksX0_attempt_2 5 rfl rfl)
theorem dX0_attempt_55 : decode cX0_attempt 55 = .ok (.aload_n 0, 1) := dk_42 (dk_at dksX0_attempt_2 8 rfl rfl)
theorem dX0_attempt_56 : decode cX0_attempt 56 = .ok (.bipush (-8), 2) := dk_16 248 (dk_at dksX0_attempt_2 9 rfl rfl)
theorem dX0_attempt_58 : decode cX0_attempt 58 = .ok (.invokevirtual 312, 3) := dk_182 1 56 (dk_at dksX0_attempt_2 11 rfl rfl)
theorem dX0_attempt_61 : decode cX0_attempt 61 = .ok (.i2l, 1) := dk_133 (dk_at dksX0_attempt_2 14 rfl rfl)
theorem dX0_attempt_62 : decode cX0_attempt 62 = .ok (.lreturn, 1) := dk_173 (dk_at dksX0_attempt_2 15 rfl rfl)
theorem dX0_attempt_63 : decode cX0_attempt 63 = .ok (.aload_n 0, 1) := dk_42 (dk_at dksX0_attempt_2 16 rfl rfl)
theorem dX0_attempt_64 : decode cX0_attempt 64 = .ok (.getfield 59, 3) := dk_180 0 59 (dk_at dksX0_attempt_2 17 rfl rfl)
theorem dX0_attempt_67 : decode cX0_attempt 67 = .ok (.aload_n 0, 1) := dk_42 (dk_at dksX0_attempt_2 20 rfl rfl)
theorem dX0_attempt_68 : decode cX0_attempt 68 = .ok (.getfield 19, 3) := dk_180 0 19 (dk_at dksX0_attempt_2 21 rfl rfl)
theorem dX0_attempt_71 : decode cX0_attempt 71 = .ok (.invokevirtual 575, 3) := dk_182 2 63 (dk_at dksX0_attempt_3 0 rfl rfl)
theorem dX0_attempt_74 : decode cX0_attempt 74 = .ok (.iconst 0, 1) := dk_3 (dk_at dksX0_attempt_3 3 rfl rfl)
theorem dX0_attempt_75 : decode cX0_attempt 75 = .ok (.istore_n 3, 1) := dk_62 (dk_at dksX0_attempt_3 4 rfl rfl)
theorem dX0_attempt_76 : decode cX0_attempt 76 = .ok (.iload_n 3, 1) := dk_29 (dk_at dksX0_attempt_3 5 rfl rfl)
theorem dX0_attempt_77 : decode cX0_attempt 77 = .ok (.iload_n 1, 1) := dk_27 (dk_at dksX0_attempt_3 6 rfl rfl)
theorem dX0_attempt_78 : decode cX0_attempt 78 = .ok (.if_icmp .ge 16, 3) := dk_162 0 16 (dk_at dksX0_attempt_3 7 rfl rfl)
theorem dX0_attempt_81 : decode cX0_attempt 81 = .ok (.aload_n 0, 1) := dk_42 (dk_at dksX0_attempt_3 10 rfl rfl)
theorem dX0_attempt_82 : decode cX0_attempt 82 = .ok (.getfield 59, 3) := dk_180 0 59 (dk_at dksX0_attempt_3 11 rfl rfl)
theorem dX0_attempt_85 : decode cX0_attempt 85 = .ok (.invokevirtual 427, 3) := dk_182 1 171 (dk_at dksX0_attempt_3 14 rfl rfl)
theorem dX0_attempt_88 : decode cX0_attempt 88 = .ok (.iinc 3 1, 3) := dk_132 3 1 (dk_at dksX0_attempt_3 17 rfl rfl)
theorem dX0_attempt_91 : decode cX0_attempt 91 = .ok (.goto (-15), 3) := dk_167 255 241 (dk_at dksX0_attempt_3 20 rfl rfl)
theorem dX0_attempt_94 : decode cX0_attempt 94 = .ok (.aload_n 0, 1) := dk_42 (dk_at dksX0_attempt_3 23 rfl rfl)
theorem dX0_attempt_95 : decode cX0_attempt 95 = .ok (.iload_n 2, 1) := dk_28 (dk_at dksX0_attempt_4 0 rfl rfl)
theorem dX0_attempt_96 : decode cX0_attempt 96 = .ok (.invokevirtual 579, 3) := dk_182 2 67 (dk_at dksX0_attempt_4 1 rfl rfl)
theorem dX0_attempt_99 : decode cX0_attempt 99 = .ok (.lreturn, 1) := dk_173 (dk_at dksX0_attempt_4 4 rfl rfl)
abbrev cX0_outcome : ByteArray := prog_1_method_87_code
def yX0_outcome : MethodName := ⟨RX0, "outcome", "(I)J"⟩
def dkwX0_outcome_6 : List UInt8 := [184, 1, 174, 133, 173, 42, 180, 0, 59, 180, 0, 238, 42, 180, 0, 59, 180, 0, 35, 184, 2, 55, 173]
abbrev dktX0_outcome_6 : List UInt8 := dkwX0_outcome_6 ++ []
def dkwX0_outcome_5 : List UInt8 := [180, 1, 16, 16, 6, 47, 42, 180, 0, 19, 180, 1, 16, 16, 6, 47, 101, 173, 42, 180, 0, 59]
abbrev dktX0_outcome_5 : List UInt8 := dkwX0_outcome_5 ++ dktX0_outcome_6
def dkwX0_outcome_4 : List UInt8 := [42, 180, 0, 59, 180, 1, 16, 8, 47, 42, 180, 0, 19, 180, 1, 16, 8, 47, 101, 173, 42, 180, 0, 59]
abbrev dktX0_outcome_4 : List UInt8 := dkwX0_outcome_4 ++ dktX0_outcome_5
def dkwX0_outcome_3 : List UInt8 := [184, 2, 55, 173, 42, 180, 0, 59, 180, 1, 16, 6, 47, 42, 180, 0, 19, 180, 1, 16, 6, 47, 101, 173]
abbrev dktX0_outcome_3 : List UInt8 := dkwX0_outcome_3 ++ dktX0_outcome_4
def dkwX0_outcome_2 : List UInt8 := [42, 180, 0, 59, 184, 2, 51, 173, 42, 180, 0, 59, 180, 0, 167, 42, 180, 0, 59, 180, 0, 23]
abbrev dktX0_outcome_2 : List UInt8 := dkwX0_outcome_2 ++ dktX0_outcome_3
def dkwX0_outcome_1 : List UInt8 := [170, 0, 0, 0, 0, 0, 136, 0, 0, 0, 0, 0, 0, 0, 5, 0, 0, 0, 39, 0, 0, 0, 47, 0, 0, 0, 65, 0, 0, 0, 85, 0, 0, 0, 105, 0, 0, 0, 127]
abbrev dktX0_outcome_1 : List UInt8 := dkwX0_outcome_1 ++ dktX0_outcome_2
def dkwX0_outcome_0 : List UInt8 := [27]
abbrev dktX0_outcome_0 : List UInt8 := dkwX0_outcome_0 ++ dktX0_outcome_1
theorem dksX0_outcome_0 : cX0_outcome.data.toList.drop 0 = dktX0_outcome_0 := by decide +kernel
theorem dksX0_outcome_1 : cX0_outcome.data.toList.drop 1 = dktX0_outcome_1 := dk_seg dksX0_outcome_0 1 rfl rfl
theorem dksX0_outcome_2 : cX0_outcome.data.toList.drop 40 = dktX0_outcome_2 := dk_seg dksX0_outcome_1 39 rfl rfl
theorem dksX0_outcome_3 : cX0_outcome.data.toList.drop 62 = dktX0_outcome_3 := dk_seg dksX0_outcome_2 22 rfl rfl
theorem dksX0_outcome_4 : cX0_outcome.data.toList.drop 86 = dktX0_outcome_4 := dk_seg dksX0_outcome_3 24 rfl rfl
theorem dksX0_outcome_5 : cX0_outcome.data.toList.drop 110 = dktX0_outcome_5 := dk_seg dksX0_outcome_4 24 rfl rfl
theorem dksX0_outcome_6 : cX0_outcome.data.toList.drop 132 = dktX0_outcome_6 := dk_seg dksX0_outcome_5 22 rfl rfl
theorem dX0_outcome_0 : decode cX0_outcome 0 = .ok (.iload_n 1, 1) := dk_27 (dk_at dksX0_outcome_0 0 rfl rfl)
theorem dX0_outcome_1 : decode cX0_outcome 1 = .ok (.tableswitch 136 0 5 #[39, 47, 65, 85, 105, 127], 39) := by decide +kernel
theorem dX0_outcome_40 : decode cX0_outcome 40 = .ok (.aload_n 0, 1) := dk_42 (dk_at dksX0_outcome_2 0 rfl rfl)
theorem dX0_outcome_41 : decode cX0_outcome 41 = .ok (.getfield 59, 3) := dk_180 0 59 (dk_at dksX0_outcome_2 1 rfl rfl)
theorem dX0_outcome_44 : decode cX0_outcome 44 = .ok (.invokestatic 563, 3) := dk_184 2 51 (dk_at dksX0_outcome_2 4 rfl rfl)
theorem dX0_outcome_47 : decode cX0_outcome 47 = .ok (.lreturn, 1) := dk_173 (dk_at dksX0_outcome_2 7 rfl rfl)
theorem dX0_outcome_48 : decode cX0_outcome 48 = .ok (.aload_n 0, 1) := dk_42 (dk_at dksX0_outcome_2 8 rfl rfl)
theorem dX0_outcome_49 : decode cX0_outcome 49 = .ok (.getfield 59, 3) := dk_180 0 59 (dk_at dksX0_outcome_2 9 rfl rfl)
theorem dX0_outcome_52 : decode cX0_outcome 52 = .ok (.getfield 167, 3) := dk_180 0 167 (dk_at dksX0_outcome_2 12 rfl rfl)
theorem dX0_outcome_55 : decode cX0_outcome 55 = .ok (.aload_n 0, 1) := dk_42 (dk_at dksX0_outcome_2 15 rfl rfl)
theorem dX0_outcome_56 : decode cX0_outcome 56 = .ok (.getfield 59, 3) := dk_180 0 59 (dk_at dksX0_outcome_2 16 rfl rfl)
theorem dX0_outcome_59 : decode cX0_outcome 59 = .ok (.getfield 23, 3) := dk_180 0 23 (dk_at dksX0_outcome_2 19 rfl rfl)
theorem dX0_outcome_62 : decode cX0_outcome 62 = .ok (.invokestatic 567, 3) := dk_184 2 55 (dk_at dksX0_outcome_3 0 rfl rfl)
theorem dX0_outcome_65 : decode cX0_outcome 65 = .ok (.lreturn, 1) := dk_173 (dk_at dksX0_outcome_3 3 rfl rfl)
theorem dX0_outcome_66 : decode cX0_outcome 66 = .ok (.aload_n 0, 1) := dk_42 (dk_at dksX0_outcome_3 4 rfl rfl)
theorem dX0_outcome_67 : decode cX0_outcome 67 = .ok (.getfield 59, 3) := dk_180 0 59 (dk_at dksX0_outcome_3 5 rfl rfl)
theorem dX0_outcome_70 : decode cX0_outcome 70 = .ok (.getfield 272, 3) := dk_180 1 16 (dk_at dksX0_outcome_3 8 rfl rfl)
theorem dX0_outcome_73 : decode cX0_outcome 73 = .ok (.iconst 3, 1) := dk_6 (dk_at dksX0_outcome_3 11 rfl rfl)
theorem dX0_outcome_74 : decode cX0_outcome 74 = .ok (.laload, 1) := dk_47 (dk_at dksX0_outcome_3 12 rfl rfl)
theorem dX0_outcome_75 : decode cX0_outcome 75 = .ok (.aload_n 0, 1) := dk_42 (dk_at dksX0_outcome_3 13 rfl rfl)
theorem dX0_outcome_76 : decode cX0_outcome 76 = .ok (.getfield 19, 3) := dk_180 0 19 (dk_at dksX0_outcome_3 14 rfl rfl)
theorem dX0_outcome_79 : decode cX0_outcome 79 = .ok (.getfield 272, 3) := dk_180 1 16 (dk_at dksX0_outcome_3 17 rfl rfl)
theorem dX0_outcome_82 : decode cX0_outcome 82 = .ok (.iconst 3, 1) := dk_6 (dk_at dksX0_outcome_3 20 rfl rfl)
theorem dX0_outcome_83 : decode cX0_outcome 83 = .ok (.laload, 1) := dk_47 (dk_at dksX0_outcome_3 21 rfl rfl)
theorem dX0_outcome_84 : decode cX0_outcome 84 = .ok (.lsub, 1) := dk_101 (dk_at dksX0_outcome_3 22 rfl rfl)
theorem dX0_outcome_85 : decode cX0_outcome 85 = .ok (.lreturn, 1) := dk_173 (dk_at dksX0_outcome_3 23 rfl rfl)
theorem dX0_outcome_86 : decode cX0_outcome 86 = .ok (.aload_n 0, 1) := dk_42 (dk_at dksX0_outcome_4 0 rfl rfl)
theorem dX0_outcome_87 : decode cX0_outcome 87 = .ok (.getfield 59, 3) := dk_180 0 59 (dk_at dksX0_outcome_4 1 rfl rfl)
theorem dX0_outcome_90 : decode cX0_outcome 90 = .ok (.getfield 272, 3) := dk_180 1 16 (dk_at dksX0_outcome_4 4 rfl rfl)
theorem dX0_outcome_93 : decode cX0_outcome 93 = .ok (.iconst 5, 1) := dk_8 (dk_at dksX0_outcome_4 7 rfl rfl)
theorem dX0_outcome_94 : decode cX0_outcome 94 = .ok (.laload, 1) := dk_47 (dk_at dksX0_outcome_4 8 rfl rfl)
theorem dX0_outcome_95 : decode cX0_outcome 95 = .ok (.aload_n 0, 1) := dk_42 (dk_at dksX0_outcome_4 9 rfl rfl)
theorem dX0_outcome_96 : decode cX0_outcome 96 = .ok (.getfield 19, 3) := dk_180 0 19 (dk_at dksX0_outcome_4 10 rfl rfl)
theorem dX0_outcome_99 : decode cX0_outcome 99 = .ok (.getfield 272, 3) := dk_180 1 16 (dk_at dksX0_outcome_4 13 rfl rfl)
theorem dX0_outcome_102 : decode cX0_outcome 102 = .ok (.iconst 5, 1) := dk_8 (dk_at dksX0_outcome_4 16 rfl rfl)
theorem dX0_outcome_103 : decode cX0_outcome 103 = .ok (.laload, 1) := dk_47 (dk_at dksX0_outcome_4 17 rfl rfl)
theorem dX0_outcome_104 : decode cX0_outcome 104 = .ok (.lsub, 1) := dk_101 (dk_at dksX0_outcome_4 18 rfl rfl)
theorem dX0_outcome_105 : decode cX0_outcome 105 = .ok (.lreturn, 1) := dk_173 (dk_at dksX0_outcome_4 19 rfl rfl)
theorem dX0_outcome_106 : decode cX0_outcome 106 = .ok (.aload_n 0, 1) := dk_42 (dk_at dksX0_outcome_4 20 rfl rfl)
theorem dX0_outcome_107 : decode cX0_outcome 107 = .ok (.getfield 59, 3) := dk_180 0 59 (dk_at dksX0_outcome_4 21 rfl rfl)
theorem dX0_outcome_110 : decode cX0_outcome 110 = .ok (.getfield 272, 3) := dk_180 1 16 (dk_at dksX0_outcome_5 0 rfl rfl)
theorem dX0_outcome_113 : decode cX0_outcome 113 = .ok (.bipush 6, 2) := dk_16 6 (dk_at dksX0_outcome_5 3 rfl rfl)
theorem dX0_outcome_115 : decode cX0_outcome 115 = .ok (.laload, 1) := dk_47 (dk_at dksX0_outcome_5 5 rfl rfl)
theorem dX0_outcome_116 : decode cX0_outcome 116 = .ok (.aload_n 0, 1) := dk_42 (dk_at dksX0_outcome_5 6 rfl rfl)
theorem dX0_outcome_117 : decode cX0_outcome 117 = .ok (.getfield 19, 3) := dk_180 0 19 (dk_at dksX0_outcome_5 7 rfl rfl)
theorem dX0_outcome_120 : decode cX0_outcome 120 = .ok (.getfield 272, 3) := dk_180 1 16 (dk_at dksX0_outcome_5 10 rfl rfl)
theorem dX0_outcome_123 : decode cX0_outcome 123 = .ok (.bipush 6, 2) := dk_16 6 (dk_at dksX0_outcome_5 13 rfl rfl)
theorem dX0_outcome_125 : decode cX0_outcome 125 = .ok (.laload, 1) := dk_47 (dk_at dksX0_outcome_5 15 rfl rfl)
theorem dX0_outcome_126 : decode cX0_outcome 126 = .ok (.lsub, 1) := dk_101 (dk_at dksX0_outcome_5 16 rfl rfl)
theorem dX0_outcome_127 : decode cX0_outcome 127 = .ok (.lreturn, 1) := dk_173 (dk_at dksX0_outcome_5 17 rfl rfl)
theorem dX0_outcome_128 : decode cX0_outcome 128 = .ok (.aload_n 0, 1) := dk_42 (dk_at dksX0_outcome_5 18 rfl rfl)
theorem dX0_outcome_129 : decode cX0_outcome 129 = .ok (.getfield 59, 3) := dk_180 0 59 (dk_at dksX0_outcome_5 19 rfl rfl)
theorem dX0_outcome_132 : decode cX0_outcome 132 = .ok (.invokestatic 430, 3) := dk_184 1 174 (dk_at dksX0_outcome_6 0 rfl rfl)
theorem dX0_outcome_135 : decode cX0_outcome 135 = .ok (.i2l, 1) := dk_133 (dk_at dksX0_outcome_6 3 rfl rfl)
theorem dX0_outcome_136 : decode cX0_outcome 136 = .ok (.lreturn, 1) := dk_173 (dk_at dksX0_outcome_6 4 rfl rfl)
theorem dX0_outcome_137 : decode cX0_outcome 137 = .ok (.aload_n 0, 1) := dk_42 (dk_at dksX0_outcome_6 5 rfl rfl)
theorem dX0_outcome_138 : decode cX0_outcome 138 = .ok (.getfield 59, 3) := dk_180 0 59 (dk_at dksX0_outcome_6 6 rfl rfl)
theorem dX0_outcome_141 : decode cX0_outcome 141 = .ok (.getfield 238, 3) := dk_180 0 238 (dk_at dksX0_outcome_6 9 rfl rfl)
theorem dX0_outcome_144 : decode cX0_outcome 144 = .ok (.aload_n 0, 1) := dk_42 (dk_at dksX0_outcome_6 12 rfl rfl)
theorem dX0_outcome_145 : decode cX0_outcome 145 = .ok (.getfield 59, 3) := dk_180 0 59 (dk_at dksX0_outcome_6 13 rfl rfl)
theorem dX0_outcome_148 : decode cX0_outcome 148 = .ok (.getfield 35, 3) := dk_180 0 35 (dk_at dksX0_outcome_6 16 rfl rfl)
theorem dX0_outcome_151 : decode cX0_outcome 151 = .ok (.invokestatic 567, 3) := dk_184 2 55 (dk_at dksX0_outcome_6 19 rfl rfl)
theorem dX0_outcome_154 : decode cX0_outcome 154 = .ok (.lreturn, 1) := dk_173 (dk_at dksX0_outcome_6 22 rfl rfl)
abbrev cX0_allWood : ByteArray := prog_1_method_86_code
def yX0_allWood : MethodName := ⟨RX0, "allWood", "(LWoodState$Forest;)J"⟩
def dkwX0_allWood_1 : List UInt8 := [167, 255, 236, 31, 173]
abbrev dktX0_allWood_1 : List UInt8 := dkwX0_allWood_1 ++ []
def dkwX0_allWood_0 : List UInt8 := [9, 64, 3, 62, 29, 42, 180, 0, 23, 162, 0, 18, 31, 42, 29, 182, 0, 164, 133, 97, 64, 132, 3, 1]
abbrev dktX0_allWood_0 : List UInt8 := dkwX0_allWood_0 ++ dktX0_allWood_1
theorem dksX0_allWood_0 : cX0_allWood.data.toList.drop 0 = dktX0_allWood_0 := by decide +kernel
theorem dksX0_allWood_1 : cX0_allWood.data.toList.drop 24 = dktX0_allWood_1 := dk_seg dksX0_allWood_0 24 rfl rfl
theorem dX0_allWood_0 : decode cX0_allWood 0 = .ok (.lconst 0, 1) := dk_9 (dk_at dksX0_allWood_0 0 rfl rfl)
theorem dX0_allWood_1 : decode cX0_allWood 1 = .ok (.lstore_n 1, 1) := dk_64 (dk_at dksX0_allWood_0 1 rfl rfl)
theorem dX0_allWood_2 : decode cX0_allWood 2 = .ok (.iconst 0, 1) := dk_3 (dk_at dksX0_allWood_0 2 rfl rfl)
theorem dX0_allWood_3 : decode cX0_allWood 3 = .ok (.istore_n 3, 1) := dk_62 (dk_at dksX0_allWood_0 3 rfl rfl)
theorem dX0_allWood_4 : decode cX0_allWood 4 = .ok (.iload_n 3, 1) := dk_29 (dk_at dksX0_allWood_0 4 rfl rfl)
theorem dX0_allWood_5 : decode cX0_allWood 5 = .ok (.aload_n 0, 1) := dk_42 (dk_at dksX0_allWood_0 5 rfl rfl)
theorem dX0_allWood_6 : decode cX0_allWood 6 = .ok (.getfield 23, 3) := dk_180 0 23 (dk_at dksX0_allWood_0 6 rfl rfl)
theorem dX0_allWood_9 : decode cX0_allWood 9 = .ok (.if_icmp .ge 18, 3) := dk_162 0 18 (dk_at dksX0_allWood_0 9 rfl rfl)
theorem dX0_allWood_12 : decode cX0_allWood 12 = .ok (.lload_n 1, 1) := dk_31 (dk_at dksX0_allWood_0 12 rfl rfl)
theorem dX0_allWood_13 : decode cX0_allWood 13 = .ok (.aload_n 0, 1) := dk_42 (dk_at dksX0_allWood_0 13 rfl rfl)
theorem dX0_allWood_14 : decode cX0_allWood 14 = .ok (.iload_n 3, 1) := dk_29 (dk_at dksX0_allWood_0 14 rfl rfl)
theorem dX0_allWood_15 : decode cX0_allWood 15 = .ok (.invokevirtual 164, 3) := dk_182 0 164 (dk_at dksX0_allWood_0 15 rfl rfl)
theorem dX0_allWood_18 : decode cX0_allWood 18 = .ok (.i2l, 1) := dk_133 (dk_at dksX0_allWood_0 18 rfl rfl)
theorem dX0_allWood_19 : decode cX0_allWood 19 = .ok (.ladd, 1) := dk_97 (dk_at dksX0_allWood_0 19 rfl rfl)
theorem dX0_allWood_20 : decode cX0_allWood 20 = .ok (.lstore_n 1, 1) := dk_64 (dk_at dksX0_allWood_0 20 rfl rfl)
theorem dX0_allWood_21 : decode cX0_allWood 21 = .ok (.iinc 3 1, 3) := dk_132 3 1 (dk_at dksX0_allWood_0 21 rfl rfl)
theorem dX0_allWood_24 : decode cX0_allWood 24 = .ok (.goto (-20), 3) := dk_167 255 236 (dk_at dksX0_allWood_1 0 rfl rfl)
theorem dX0_allWood_27 : decode cX0_allWood 27 = .ok (.lload_n 1, 1) := dk_31 (dk_at dksX0_allWood_1 3 rfl rfl)
theorem dX0_allWood_28 : decode cX0_allWood 28 = .ok (.lreturn, 1) := dk_173 (dk_at dksX0_allWood_1 4 rfl rfl)
abbrev cX0_sumOf : ByteArray := prog_1_method_85_code
def yX0_sumOf : MethodName := ⟨RX0, "sumOf", "([II)J"⟩
def dkwX0_sumOf_1 : List UInt8 := [167, 255, 239, 32, 173]
abbrev dktX0_sumOf_1 : List UInt8 := dkwX0_sumOf_1 ++ []
def dkwX0_sumOf_0 : List UInt8 := [9, 65, 3, 54, 4, 21, 4, 27, 162, 0, 17, 32, 42, 21, 4, 46, 133, 97, 65, 132, 4, 1]
abbrev dktX0_sumOf_0 : List UInt8 := dkwX0_sumOf_0 ++ dktX0_sumOf_1
theorem dksX0_sumOf_0 : cX0_sumOf.data.toList.drop 0 = dktX0_sumOf_0 := by decide +kernel
theorem dksX0_sumOf_1 : cX0_sumOf.data.toList.drop 22 = dktX0_sumOf_1 := dk_seg dksX0_sumOf_0 22 rfl rfl
theorem dX0_sumOf_0 : decode cX0_sumOf 0 = .ok (.lconst 0, 1) := dk_9 (dk_at dksX0_sumOf_0 0 rfl rfl)
theorem dX0_sumOf_1 : decode cX0_sumOf 1 = .ok (.lstore_n 2, 1) := dk_65 (dk_at dksX0_sumOf_0 1 rfl rfl)
theorem dX0_sumOf_2 : decode cX0_sumOf 2 = .ok (.iconst 0, 1) := dk_3 (dk_at dksX0_sumOf_0 2 rfl rfl)
theorem dX0_sumOf_3 : decode cX0_sumOf 3 = .ok (.istore 4, 2) := dk_54 4 (dk_at dksX0_sumOf_0 3 rfl rfl)
theorem dX0_sumOf_5 : decode cX0_sumOf 5 = .ok (.iload 4, 2) := dk_21 4 (dk_at dksX0_sumOf_0 5 rfl rfl)
theorem dX0_sumOf_7 : decode cX0_sumOf 7 = .ok (.iload_n 1, 1) := dk_27 (dk_at dksX0_sumOf_0 7 rfl rfl)
theorem dX0_sumOf_8 : decode cX0_sumOf 8 = .ok (.if_icmp .ge 17, 3) := dk_162 0 17 (dk_at dksX0_sumOf_0 8 rfl rfl)
theorem dX0_sumOf_11 : decode cX0_sumOf 11 = .ok (.lload_n 2, 1) := dk_32 (dk_at dksX0_sumOf_0 11 rfl rfl)
theorem dX0_sumOf_12 : decode cX0_sumOf 12 = .ok (.aload_n 0, 1) := dk_42 (dk_at dksX0_sumOf_0 12 rfl rfl)
theorem dX0_sumOf_13 : decode cX0_sumOf 13 = .ok (.iload 4, 2) := dk_21 4 (dk_at dksX0_sumOf_0 13 rfl rfl)
theorem dX0_sumOf_15 : decode cX0_sumOf 15 = .ok (.iaload, 1) := dk_46 (dk_at dksX0_sumOf_0 15 rfl rfl)
theorem dX0_sumOf_16 : decode cX0_sumOf 16 = .ok (.i2l, 1) := dk_133 (dk_at dksX0_sumOf_0 16 rfl rfl)
theorem dX0_sumOf_17 : decode cX0_sumOf 17 = .ok (.ladd, 1) := dk_97 (dk_at dksX0_sumOf_0 17 rfl rfl)
theorem dX0_sumOf_18 : decode cX0_sumOf 18 = .ok (.lstore_n 2, 1) := dk_65 (dk_at dksX0_sumOf_0 18 rfl rfl)
theorem dX0_sumOf_19 : decode cX0_sumOf 19 = .ok (.iinc 4 1, 3) := dk_132 4 1 (dk_at dksX0_sumOf_0 19 rfl rfl)
theorem dX0_sumOf_22 : decode cX0_sumOf 22 = .ok (.goto (-17), 3) := dk_167 255 239 (dk_at dksX0_sumOf_1 0 rfl rfl)
theorem dX0_sumOf_25 : decode cX0_sumOf 25 = .ok (.lload_n 2, 1) := dk_32 (dk_at dksX0_sumOf_1 3 rfl rfl)
theorem dX0_sumOf_26 : decode cX0_sumOf 26 = .ok (.lreturn, 1) := dk_173 (dk_at dksX0_sumOf_1 4 rfl rfl)
abbrev cX0_image : ByteArray := prog_1_method_89_code
def yX0_image : MethodName := ⟨RX0, "image", "()I"⟩
def dkwX0_image_1 : List UInt8 := [42, 180, 0, 94, 3, 42, 180, 0, 97, 3, 16, 24, 184, 2, 5, 42, 180, 0, 19, 180, 1, 88, 172]
abbrev dktX0_image_1 : List UInt8 := dkwX0_image_1 ++ []
def dkwX0_image_0 : List UInt8 := [42, 180, 0, 62, 42, 180, 0, 19, 182, 2, 63, 42, 4, 181, 2, 70, 42, 42, 180, 1, 227, 181, 2, 73]
abbrev dktX0_image_0 : List UInt8 := dkwX0_image_0 ++ dktX0_image_1
theorem dksX0_image_0 : cX0_image.data.toList.drop 0 = dktX0_image_0 := by decide +kernel
theorem dksX0_image_1 : cX0_image.data.toList.drop 24 = dktX0_image_1 := dk_seg dksX0_image_0 24 rfl rfl
theorem dX0_image_0 : decode cX0_image 0 = .ok (.aload_n 0, 1) := dk_42 (dk_at dksX0_image_0 0 rfl rfl)
theorem dX0_image_1 : decode cX0_image 1 = .ok (.getfield 62, 3) := dk_180 0 62 (dk_at dksX0_image_0 1 rfl rfl)
theorem dX0_image_4 : decode cX0_image 4 = .ok (.aload_n 0, 1) := dk_42 (dk_at dksX0_image_0 4 rfl rfl)
theorem dX0_image_5 : decode cX0_image 5 = .ok (.getfield 19, 3) := dk_180 0 19 (dk_at dksX0_image_0 5 rfl rfl)
theorem dX0_image_8 : decode cX0_image 8 = .ok (.invokevirtual 575, 3) := dk_182 2 63 (dk_at dksX0_image_0 8 rfl rfl)
theorem dX0_image_11 : decode cX0_image 11 = .ok (.aload_n 0, 1) := dk_42 (dk_at dksX0_image_0 11 rfl rfl)
theorem dX0_image_12 : decode cX0_image 12 = .ok (.iconst 1, 1) := dk_4 (dk_at dksX0_image_0 12 rfl rfl)
theorem dX0_image_13 : decode cX0_image 13 = .ok (.putfield 582, 3) := dk_181 2 70 (dk_at dksX0_image_0 13 rfl rfl)
theorem dX0_image_16 : decode cX0_image 16 = .ok (.aload_n 0, 1) := dk_42 (dk_at dksX0_image_0 16 rfl rfl)
theorem dX0_image_17 : decode cX0_image 17 = .ok (.aload_n 0, 1) := dk_42 (dk_at dksX0_image_0 17 rfl rfl)
theorem dX0_image_18 : decode cX0_image 18 = .ok (.getfield 483, 3) := dk_180 1 227 (dk_at dksX0_image_0 18 rfl rfl)
theorem dX0_image_21 : decode cX0_image 21 = .ok (.putfield 585, 3) := dk_181 2 73 (dk_at dksX0_image_0 21 rfl rfl)
theorem dX0_image_24 : decode cX0_image 24 = .ok (.aload_n 0, 1) := dk_42 (dk_at dksX0_image_1 0 rfl rfl)
theorem dX0_image_25 : decode cX0_image 25 = .ok (.getfield 94, 3) := dk_180 0 94 (dk_at dksX0_image_1 1 rfl rfl)
theorem dX0_image_28 : decode cX0_image 28 = .ok (.iconst 0, 1) := dk_3 (dk_at dksX0_image_1 4 rfl rfl)
theorem dX0_image_29 : decode cX0_image 29 = .ok (.aload_n 0, 1) := dk_42 (dk_at dksX0_image_1 5 rfl rfl)
theorem dX0_image_30 : decode cX0_image 30 = .ok (.getfield 97, 3) := dk_180 0 97 (dk_at dksX0_image_1 6 rfl rfl)
theorem dX0_image_33 : decode cX0_image 33 = .ok (.iconst 0, 1) := dk_3 (dk_at dksX0_image_1 9 rfl rfl)
theorem dX0_image_34 : decode cX0_image 34 = .ok (.bipush 24, 2) := dk_16 24 (dk_at dksX0_image_1 10 rfl rfl)
theorem dX0_image_36 : decode cX0_image 36 = .ok (.invokestatic 517, 3) := dk_184 2 5 (dk_at dksX0_image_1 12 rfl rfl)
theorem dX0_image_39 : decode cX0_image 39 = .ok (.aload_n 0, 1) := dk_42 (dk_at dksX0_image_1 15 rfl rfl)
theorem dX0_image_40 : decode cX0_image 40 = .ok (.getfield 19, 3) := dk_180 0 19 (dk_at dksX0_image_1 16 rfl rfl)
theorem dX0_image_43 : decode cX0_image 43 = .ok (.getfield 344, 3) := dk_180 1 88 (dk_at dksX0_image_1 19 rfl rfl)
theorem dX0_image_46 : decode cX0_image 46 = .ok (.ireturn, 1) := dk_172 (dk_at dksX0_image_1 22 rfl rfl)
abbrev cX0_back : ByteArray := prog_1_method_90_code
def yX0_back : MethodName := ⟨RX0, "back", "()I"⟩
def dkwX0_back_2 : List UInt8 := [184, 2, 5, 42, 180, 0, 19, 180, 1, 88, 172]
abbrev dktX0_back_2 : List UInt8 := dkwX0_back_2 ++ []
def dkwX0_back_1 : List UInt8 := [182, 2, 63, 42, 42, 180, 2, 73, 181, 1, 227, 42, 180, 0, 97, 3, 42, 180, 0, 94, 3, 16, 24]
abbrev dktX0_back_1 : List UInt8 := dkwX0_back_1 ++ dktX0_back_2
def dkwX0_back_0 : List UInt8 := [42, 180, 2, 70, 154, 0, 10, 42, 16, 254, 182, 0, 118, 172, 42, 180, 0, 19, 42, 180, 0, 62]
abbrev dktX0_back_0 : List UInt8 := dkwX0_back_0 ++ dktX0_back_1
theorem dksX0_back_0 : cX0_back.data.toList.drop 0 = dktX0_back_0 := by decide +kernel
theorem dksX0_back_1 : cX0_back.data.toList.drop 22 = dktX0_back_1 := dk_seg dksX0_back_0 22 rfl rfl
theorem dksX0_back_2 : cX0_back.data.toList.drop 45 = dktX0_back_2 := dk_seg dksX0_back_1 23 rfl rfl
theorem dX0_back_0 : decode cX0_back 0 = .ok (.aload_n 0, 1) := dk_42 (dk_at dksX0_back_0 0 rfl rfl)
theorem dX0_back_1 : decode cX0_back 1 = .ok (.getfield 582, 3) := dk_180 2 70 (dk_at dksX0_back_0 1 rfl rfl)
theorem dX0_back_4 : decode cX0_back 4 = .ok (.ifCond .ne 10, 3) := dk_154 0 10 (dk_at dksX0_back_0 4 rfl rfl)
theorem dX0_back_7 : decode cX0_back 7 = .ok (.aload_n 0, 1) := dk_42 (dk_at dksX0_back_0 7 rfl rfl)
theorem dX0_back_8 : decode cX0_back 8 = .ok (.bipush (-2), 2) := dk_16 254 (dk_at dksX0_back_0 8 rfl rfl)
theorem dX0_back_10 : decode cX0_back 10 = .ok (.invokevirtual 118, 3) := dk_182 0 118 (dk_at dksX0_back_0 10 rfl rfl)
theorem dX0_back_13 : decode cX0_back 13 = .ok (.ireturn, 1) := dk_172 (dk_at dksX0_back_0 13 rfl rfl)
theorem dX0_back_14 : decode cX0_back 14 = .ok (.aload_n 0, 1) := dk_42 (dk_at dksX0_back_0 14 rfl rfl)
theorem dX0_back_15 : decode cX0_back 15 = .ok (.getfield 19, 3) := dk_180 0 19 (dk_at dksX0_back_0 15 rfl rfl)
theorem dX0_back_18 : decode cX0_back 18 = .ok (.aload_n 0, 1) := dk_42 (dk_at dksX0_back_0 18 rfl rfl)
theorem dX0_back_19 : decode cX0_back 19 = .ok (.getfield 62, 3) := dk_180 0 62 (dk_at dksX0_back_0 19 rfl rfl)
theorem dX0_back_22 : decode cX0_back 22 = .ok (.invokevirtual 575, 3) := dk_182 2 63 (dk_at dksX0_back_1 0 rfl rfl)
theorem dX0_back_25 : decode cX0_back 25 = .ok (.aload_n 0, 1) := dk_42 (dk_at dksX0_back_1 3 rfl rfl)
theorem dX0_back_26 : decode cX0_back 26 = .ok (.aload_n 0, 1) := dk_42 (dk_at dksX0_back_1 4 rfl rfl)
theorem dX0_back_27 : decode cX0_back 27 = .ok (.getfield 585, 3) := dk_180 2 73 (dk_at dksX0_back_1 5 rfl rfl)
theorem dX0_back_30 : decode cX0_back 30 = .ok (.putfield 483, 3) := dk_181 1 227 (dk_at dksX0_back_1 8 rfl rfl)
theorem dX0_back_33 : decode cX0_back 33 = .ok (.aload_n 0, 1) := dk_42 (dk_at dksX0_back_1 11 rfl rfl)
theorem dX0_back_34 : decode cX0_back 34 = .ok (.getfield 97, 3) := dk_180 0 97 (dk_at dksX0_back_1 12 rfl rfl)
theorem dX0_back_37 : decode cX0_back 37 = .ok (.iconst 0, 1) := dk_3 (dk_at dksX0_back_1 15 rfl rfl)
theorem dX0_back_38 : decode cX0_back 38 = .ok (.aload_n 0, 1) := dk_42 (dk_at dksX0_back_1 16 rfl rfl)
theorem dX0_back_39 : decode cX0_back 39 = .ok (.getfield 94, 3) := dk_180 0 94 (dk_at dksX0_back_1 17 rfl rfl)
theorem dX0_back_42 : decode cX0_back 42 = .ok (.iconst 0, 1) := dk_3 (dk_at dksX0_back_1 20 rfl rfl)
theorem dX0_back_43 : decode cX0_back 43 = .ok (.bipush 24, 2) := dk_16 24 (dk_at dksX0_back_1 21 rfl rfl)
theorem dX0_back_45 : decode cX0_back 45 = .ok (.invokestatic 517, 3) := dk_184 2 5 (dk_at dksX0_back_2 0 rfl rfl)
theorem dX0_back_48 : decode cX0_back 48 = .ok (.aload_n 0, 1) := dk_42 (dk_at dksX0_back_2 3 rfl rfl)
theorem dX0_back_49 : decode cX0_back 49 = .ok (.getfield 19, 3) := dk_180 0 19 (dk_at dksX0_back_2 4 rfl rfl)
theorem dX0_back_52 : decode cX0_back 52 = .ok (.getfield 344, 3) := dk_180 1 88 (dk_at dksX0_back_2 7 rfl rfl)
theorem dX0_back_55 : decode cX0_back 55 = .ok (.ireturn, 1) := dk_172 (dk_at dksX0_back_2 10 rfl rfl)
abbrev cX0_tally : ByteArray := prog_1_method_93_code
def yX0_tally : MethodName := ⟨RX0, "tally", "(I)I"⟩
def dkwX0_tally_5 : List UInt8 := [180, 0, 19, 184, 1, 174, 172, 42, 182, 2, 79, 172, 42, 16, 249, 182, 0, 118, 172]
abbrev dktX0_tally_5 : List UInt8 := dkwX0_tally_5 ++ []
def dkwX0_tally_4 : List UInt8 := [180, 0, 68, 180, 1, 59, 172, 42, 180, 0, 19, 180, 1, 129, 172, 42, 180, 0, 19, 180, 0, 195, 172, 42]
abbrev dktX0_tally_4 : List UInt8 := dkwX0_tally_4 ++ dktX0_tally_5
def dkwX0_tally_3 : List UInt8 := [42, 180, 0, 19, 180, 0, 35, 172, 42, 182, 2, 76, 172, 42, 180, 0, 19, 180, 1, 66, 172, 42]
abbrev dktX0_tally_3 : List UInt8 := dkwX0_tally_3 ++ dktX0_tally_4
def dkwX0_tally_2 : List UInt8 := [42, 180, 0, 19, 180, 1, 88, 172, 42, 180, 0, 19, 180, 0, 23, 172, 42, 180, 0, 19, 180, 0, 155, 172]
abbrev dktX0_tally_2 : List UInt8 := dkwX0_tally_2 ++ dktX0_tally_3
def dkwX0_tally_1 : List UInt8 := [170, 0, 0, 0, 0, 0, 141, 0, 0, 0, 0, 0, 0, 0, 10, 0, 0, 0, 59, 0, 0, 0, 67, 0, 0, 0, 75, 0, 0, 0, 83, 0, 0, 0, 91, 0, 0, 0, 96, 0, 0, 0, 104, 0, 0, 0, 112, 0, 0, 0, 120, 0, 0, 0, 128, 0, 0, 0, 136]
abbrev dktX0_tally_1 : List UInt8 := dkwX0_tally_1 ++ dktX0_tally_2
def dkwX0_tally_0 : List UInt8 := [27]
abbrev dktX0_tally_0 : List UInt8 := dkwX0_tally_0 ++ dktX0_tally_1
theorem dksX0_tally_0 : cX0_tally.data.toList.drop 0 = dktX0_tally_0 := by decide +kernel
theorem dksX0_tally_1 : cX0_tally.data.toList.drop 1 = dktX0_tally_1 := dk_seg dksX0_tally_0 1 rfl rfl
theorem dksX0_tally_2 : cX0_tally.data.toList.drop 60 = dktX0_tally_2 := dk_seg dksX0_tally_1 59 rfl rfl
theorem dksX0_tally_3 : cX0_tally.data.toList.drop 84 = dktX0_tally_3 := dk_seg dksX0_tally_2 24 rfl rfl
theorem dksX0_tally_4 : cX0_tally.data.toList.drop 106 = dktX0_tally_4 := dk_seg dksX0_tally_3 22 rfl rfl
theorem dksX0_tally_5 : cX0_tally.data.toList.drop 130 = dktX0_tally_5 := dk_seg dksX0_tally_4 24 rfl rfl
theorem dX0_tally_0 : decode cX0_tally 0 = .ok (.iload_n 1, 1) := dk_27 (dk_at dksX0_tally_0 0 rfl rfl)
theorem dX0_tally_1 : decode cX0_tally 1 = .ok (.tableswitch 141 0 10 #[59, 67, 75, 83, 91, 96, 104, 112, 120, 128, 136], 59) := by decide +kernel
theorem dX0_tally_60 : decode cX0_tally 60 = .ok (.aload_n 0, 1) := dk_42 (dk_at dksX0_tally_2 0 rfl rfl)
theorem dX0_tally_61 : decode cX0_tally 61 = .ok (.getfield 19, 3) := dk_180 0 19 (dk_at dksX0_tally_2 1 rfl rfl)
theorem dX0_tally_64 : decode cX0_tally 64 = .ok (.getfield 344, 3) := dk_180 1 88 (dk_at dksX0_tally_2 4 rfl rfl)
theorem dX0_tally_67 : decode cX0_tally 67 = .ok (.ireturn, 1) := dk_172 (dk_at dksX0_tally_2 7 rfl rfl)
theorem dX0_tally_68 : decode cX0_tally 68 = .ok (.aload_n 0, 1) := dk_42 (dk_at dksX0_tally_2 8 rfl rfl)
theorem dX0_tally_69 : decode cX0_tally 69 = .ok (.getfield 19, 3) := dk_180 0 19 (dk_at dksX0_tally_2 9 rfl rfl)
theorem dX0_tally_72 : decode cX0_tally 72 = .ok (.getfield 23, 3) := dk_180 0 23 (dk_at dksX0_tally_2 12 rfl rfl)
theorem dX0_tally_75 : decode cX0_tally 75 = .ok (.ireturn, 1) := dk_172 (dk_at dksX0_tally_2 15 rfl rfl)
theorem dX0_tally_76 : decode cX0_tally 76 = .ok (.aload_n 0, 1) := dk_42 (dk_at dksX0_tally_2 16 rfl rfl)
theorem dX0_tally_77 : decode cX0_tally 77 = .ok (.getfield 19, 3) := dk_180 0 19 (dk_at dksX0_tally_2 17 rfl rfl)
theorem dX0_tally_80 : decode cX0_tally 80 = .ok (.getfield 155, 3) := dk_180 0 155 (dk_at dksX0_tally_2 20 rfl rfl)
theorem dX0_tally_83 : decode cX0_tally 83 = .ok (.ireturn, 1) := dk_172 (dk_at dksX0_tally_2 23 rfl rfl)
theorem dX0_tally_84 : decode cX0_tally 84 = .ok (.aload_n 0, 1) := dk_42 (dk_at dksX0_tally_3 0 rfl rfl)
theorem dX0_tally_85 : decode cX0_tally 85 = .ok (.getfield 19, 3) := dk_180 0 19 (dk_at dksX0_tally_3 1 rfl rfl)
theorem dX0_tally_88 : decode cX0_tally 88 = .ok (.getfield 35, 3) := dk_180 0 35 (dk_at dksX0_tally_3 4 rfl rfl)
theorem dX0_tally_91 : decode cX0_tally 91 = .ok (.ireturn, 1) := dk_172 (dk_at dksX0_tally_3 7 rfl rfl)
theorem dX0_tally_92 : decode cX0_tally 92 = .ok (.aload_n 0, 1) := dk_42 (dk_at dksX0_tally_3 8 rfl rfl)
theorem dX0_tally_93 : decode cX0_tally 93 = .ok (.invokevirtual 588, 3) := dk_182 2 76 (dk_at dksX0_tally_3 9 rfl rfl)
theorem dX0_tally_96 : decode cX0_tally 96 = .ok (.ireturn, 1) := dk_172 (dk_at dksX0_tally_3 12 rfl rfl)
theorem dX0_tally_97 : decode cX0_tally 97 = .ok (.aload_n 0, 1) := dk_42 (dk_at dksX0_tally_3 13 rfl rfl)
theorem dX0_tally_98 : decode cX0_tally 98 = .ok (.getfield 19, 3) := dk_180 0 19 (dk_at dksX0_tally_3 14 rfl rfl)
theorem dX0_tally_101 : decode cX0_tally 101 = .ok (.getfield 322, 3) := dk_180 1 66 (dk_at dksX0_tally_3 17 rfl rfl)
theorem dX0_tally_104 : decode cX0_tally 104 = .ok (.ireturn, 1) := dk_172 (dk_at dksX0_tally_3 20 rfl rfl)
theorem dX0_tally_105 : decode cX0_tally 105 = .ok (.aload_n 0, 1) := dk_42 (dk_at dksX0_tally_3 21 rfl rfl)
theorem dX0_tally_106 : decode cX0_tally 106 = .ok (.getfield 68, 3) := dk_180 0 68 (dk_at dksX0_tally_4 0 rfl rfl)
theorem dX0_tally_109 : decode cX0_tally 109 = .ok (.getfield 315, 3) := dk_180 1 59 (dk_at dksX0_tally_4 3 rfl rfl)
theorem dX0_tally_112 : decode cX0_tally 112 = .ok (.ireturn, 1) := dk_172 (dk_at dksX0_tally_4 6 rfl rfl)
theorem dX0_tally_113 : decode cX0_tally 113 = .ok (.aload_n 0, 1) := dk_42 (dk_at dksX0_tally_4 7 rfl rfl)
theorem dX0_tally_114 : decode cX0_tally 114 = .ok (.getfield 19, 3) := dk_180 0 19 (dk_at dksX0_tally_4 8 rfl rfl)
theorem dX0_tally_117 : decode cX0_tally 117 = .ok (.getfield 385, 3) := dk_180 1 129 (dk_at dksX0_tally_4 11 rfl rfl)
theorem dX0_tally_120 : decode cX0_tally 120 = .ok (.ireturn, 1) := dk_172 (dk_at dksX0_tally_4 14 rfl rfl)
theorem dX0_tally_121 : decode cX0_tally 121 = .ok (.aload_n 0, 1) := dk_42 (dk_at dksX0_tally_4 15 rfl rfl)
theorem dX0_tally_122 : decode cX0_tally 122 = .ok (.getfield 19, 3) := dk_180 0 19 (dk_at dksX0_tally_4 16 rfl rfl)
theorem dX0_tally_125 : decode cX0_tally 125 = .ok (.getfield 195, 3) := dk_180 0 195 (dk_at dksX0_tally_4 19 rfl rfl)
theorem dX0_tally_128 : decode cX0_tally 128 = .ok (.ireturn, 1) := dk_172 (dk_at dksX0_tally_4 22 rfl rfl)
theorem dX0_tally_129 : decode cX0_tally 129 = .ok (.aload_n 0, 1) := dk_42 (dk_at dksX0_tally_4 23 rfl rfl)
theorem dX0_tally_130 : decode cX0_tally 130 = .ok (.getfield 19, 3) := dk_180 0 19 (dk_at dksX0_tally_5 0 rfl rfl)
theorem dX0_tally_133 : decode cX0_tally 133 = .ok (.invokestatic 430, 3) := dk_184 1 174 (dk_at dksX0_tally_5 3 rfl rfl)
theorem dX0_tally_136 : decode cX0_tally 136 = .ok (.ireturn, 1) := dk_172 (dk_at dksX0_tally_5 6 rfl rfl)
theorem dX0_tally_137 : decode cX0_tally 137 = .ok (.aload_n 0, 1) := dk_42 (dk_at dksX0_tally_5 7 rfl rfl)
theorem dX0_tally_138 : decode cX0_tally 138 = .ok (.invokevirtual 591, 3) := dk_182 2 79 (dk_at dksX0_tally_5 8 rfl rfl)
theorem dX0_tally_141 : decode cX0_tally 141 = .ok (.ireturn, 1) := dk_172 (dk_at dksX0_tally_5 11 rfl rfl)
theorem dX0_tally_142 : decode cX0_tally 142 = .ok (.aload_n 0, 1) := dk_42 (dk_at dksX0_tally_5 12 rfl rfl)
theorem dX0_tally_143 : decode cX0_tally 143 = .ok (.bipush (-7), 2) := dk_16 249 (dk_at dksX0_tally_5 13 rfl rfl)
theorem dX0_tally_145 : decode cX0_tally 145 = .ok (.invokevirtual 118, 3) := dk_182 0 118 (dk_at dksX0_tally_5 15 rfl rfl)
theorem dX0_tally_148 : decode cX0_tally 148 = .ok (.ireturn, 1) := dk_172 (dk_at dksX0_tally_5 18 rfl rfl)
abbrev cX0_countParcels : ByteArray := prog_1_method_91_code
def yX0_countParcels : MethodName := ⟨RX0, "countParcels", "()I"⟩
def dkwX0_countParcels_1 : List UInt8 := [198, 0, 7, 4, 167, 0, 4, 3, 96, 60, 132, 2, 1, 167, 255, 224, 27, 172]
abbrev dktX0_countParcels_1 : List UInt8 := dkwX0_countParcels_1 ++ []
def dkwX0_countParcels_0 : List UInt8 := [3, 60, 3, 61, 28, 16, 60, 162, 0, 32, 27, 42, 180, 0, 19, 180, 0, 40, 28, 50, 180, 0, 44]
abbrev dktX0_countParcels_0 : List UInt8 := dkwX0_countParcels_0 ++ dktX0_countParcels_1
theorem dksX0_countParcels_0 : cX0_countParcels.data.toList.drop 0 = dktX0_countParcels_0 := by decide +kernel
theorem dksX0_countParcels_1 : cX0_countParcels.data.toList.drop 23 = dktX0_countParcels_1 := dk_seg dksX0_countParcels_0 23 rfl rfl
theorem dX0_countParcels_0 : decode cX0_countParcels 0 = .ok (.iconst 0, 1) := dk_3 (dk_at dksX0_countParcels_0 0 rfl rfl)
theorem dX0_countParcels_1 : decode cX0_countParcels 1 = .ok (.istore_n 1, 1) := dk_60 (dk_at dksX0_countParcels_0 1 rfl rfl)
theorem dX0_countParcels_2 : decode cX0_countParcels 2 = .ok (.iconst 0, 1) := dk_3 (dk_at dksX0_countParcels_0 2 rfl rfl)
theorem dX0_countParcels_3 : decode cX0_countParcels 3 = .ok (.istore_n 2, 1) := dk_61 (dk_at dksX0_countParcels_0 3 rfl rfl)
theorem dX0_countParcels_4 : decode cX0_countParcels 4 = .ok (.iload_n 2, 1) := dk_28 (dk_at dksX0_countParcels_0 4 rfl rfl)
theorem dX0_countParcels_5 : decode cX0_countParcels 5 = .ok (.bipush 60, 2) := dk_16 60 (dk_at dksX0_countParcels_0 5 rfl rfl)
theorem dX0_countParcels_7 : decode cX0_countParcels 7 = .ok (.if_icmp .ge 32, 3) := dk_162 0 32 (dk_at dksX0_countParcels_0 7 rfl rfl)
theorem dX0_countParcels_10 : decode cX0_countParcels 10 = .ok (.iload_n 1, 1) := dk_27 (dk_at dksX0_countParcels_0 10 rfl rfl)
theorem dX0_countParcels_11 : decode cX0_countParcels 11 = .ok (.aload_n 0, 1) := dk_42 (dk_at dksX0_countParcels_0 11 rfl rfl)
theorem dX0_countParcels_12 : decode cX0_countParcels 12 = .ok (.getfield 19, 3) := dk_180 0 19 (dk_at dksX0_countParcels_0 12 rfl rfl)
theorem dX0_countParcels_15 : decode cX0_countParcels 15 = .ok (.getfield 40, 3) := dk_180 0 40 (dk_at dksX0_countParcels_0 15 rfl rfl)
theorem dX0_countParcels_18 : decode cX0_countParcels 18 = .ok (.iload_n 2, 1) := dk_28 (dk_at dksX0_countParcels_0 18 rfl rfl)
theorem dX0_countParcels_19 : decode cX0_countParcels 19 = .ok (.aaload, 1) := dk_50 (dk_at dksX0_countParcels_0 19 rfl rfl)
theorem dX0_countParcels_20 : decode cX0_countParcels 20 = .ok (.getfield 44, 3) := dk_180 0 44 (dk_at dksX0_countParcels_0 20 rfl rfl)
theorem dX0_countParcels_23 : decode cX0_countParcels 23 = .ok (.ifnull 7, 3) := dk_198 0 7 (dk_at dksX0_countParcels_1 0 rfl rfl)
theorem dX0_countParcels_26 : decode cX0_countParcels 26 = .ok (.iconst 1, 1) := dk_4 (dk_at dksX0_countParcels_1 3 rfl rfl)
theorem dX0_countParcels_27 : decode cX0_countParcels 27 = .ok (.goto 4, 3) := dk_167 0 4 (dk_at dksX0_countParcels_1 4 rfl rfl)
theorem dX0_countParcels_30 : decode cX0_countParcels 30 = .ok (.iconst 0, 1) := dk_3 (dk_at dksX0_countParcels_1 7 rfl rfl)
theorem dX0_countParcels_31 : decode cX0_countParcels 31 = .ok (.iadd, 1) := dk_96 (dk_at dksX0_countParcels_1 8 rfl rfl)
theorem dX0_countParcels_32 : decode cX0_countParcels 32 = .ok (.istore_n 1, 1) := dk_60 (dk_at dksX0_countParcels_1 9 rfl rfl)
theorem dX0_countParcels_33 : decode cX0_countParcels 33 = .ok (.iinc 2 1, 3) := dk_132 2 1 (dk_at dksX0_countParcels_1 10 rfl rfl)
theorem dX0_countParcels_36 : decode cX0_countParcels 36 = .ok (.goto (-32), 3) := dk_167 255 224 (dk_at dksX0_countParcels_1 13 rfl rfl)
theorem dX0_countParcels_39 : decode cX0_countParcels 39 = .ok (.iload_n 1, 1) := dk_27 (dk_at dksX0_countParcels_1 16 rfl rfl)
theorem dX0_countParcels_40 : decode cX0_countParcels 40 = .ok (.ireturn, 1) := dk_172 (dk_at dksX0_countParcels_1 17 rfl rfl)
abbrev cX0_countLate : ByteArray := prog_1_method_92_code
def yX0_countLate : MethodName := ⟨RX0, "countLate", "()I"⟩
def dkwX0_countLate_1 : List UInt8 := [153, 0, 7, 4, 167, 0, 4, 3, 96, 60, 132, 2, 1, 167, 255, 223, 27, 172]
abbrev dktX0_countLate_1 : List UInt8 := dkwX0_countLate_1 ++ []
def dkwX0_countLate_0 : List UInt8 := [3, 60, 3, 61, 28, 42, 180, 0, 19, 180, 0, 23, 162, 0, 28, 27, 42, 180, 0, 19, 28, 182, 0, 176]
abbrev dktX0_countLate_0 : List UInt8 := dkwX0_countLate_0 ++ dktX0_countLate_1
theorem dksX0_countLate_0 : cX0_countLate.data.toList.drop 0 = dktX0_countLate_0 := by decide +kernel
theorem dksX0_countLate_1 : cX0_countLate.data.toList.drop 24 = dktX0_countLate_1 := dk_seg dksX0_countLate_0 24 rfl rfl
theorem dX0_countLate_0 : decode cX0_countLate 0 = .ok (.iconst 0, 1) := dk_3 (dk_at dksX0_countLate_0 0 rfl rfl)
theorem dX0_countLate_1 : decode cX0_countLate 1 = .ok (.istore_n 1, 1) := dk_60 (dk_at dksX0_countLate_0 1 rfl rfl)
theorem dX0_countLate_2 : decode cX0_countLate 2 = .ok (.iconst 0, 1) := dk_3 (dk_at dksX0_countLate_0 2 rfl rfl)
theorem dX0_countLate_3 : decode cX0_countLate 3 = .ok (.istore_n 2, 1) := dk_61 (dk_at dksX0_countLate_0 3 rfl rfl)
theorem dX0_countLate_4 : decode cX0_countLate 4 = .ok (.iload_n 2, 1) := dk_28 (dk_at dksX0_countLate_0 4 rfl rfl)
theorem dX0_countLate_5 : decode cX0_countLate 5 = .ok (.aload_n 0, 1) := dk_42 (dk_at dksX0_countLate_0 5 rfl rfl)
theorem dX0_countLate_6 : decode cX0_countLate 6 = .ok (.getfield 19, 3) := dk_180 0 19 (dk_at dksX0_countLate_0 6 rfl rfl)
theorem dX0_countLate_9 : decode cX0_countLate 9 = .ok (.getfield 23, 3) := dk_180 0 23 (dk_at dksX0_countLate_0 9 rfl rfl)
theorem dX0_countLate_12 : decode cX0_countLate 12 = .ok (.if_icmp .ge 28, 3) := dk_162 0 28 (dk_at dksX0_countLate_0 12 rfl rfl)
theorem dX0_countLate_15 : decode cX0_countLate 15 = .ok (.iload_n 1, 1) := dk_27 (dk_at dksX0_countLate_0 15 rfl rfl)
theorem dX0_countLate_16 : decode cX0_countLate 16 = .ok (.aload_n 0, 1) := dk_42 (dk_at dksX0_countLate_0 16 rfl rfl)
theorem dX0_countLate_17 : decode cX0_countLate 17 = .ok (.getfield 19, 3) := dk_180 0 19 (dk_at dksX0_countLate_0 17 rfl rfl)
theorem dX0_countLate_20 : decode cX0_countLate 20 = .ok (.iload_n 2, 1) := dk_28 (dk_at dksX0_countLate_0 20 rfl rfl)
theorem dX0_countLate_21 : decode cX0_countLate 21 = .ok (.invokevirtual 176, 3) := dk_182 0 176 (dk_at dksX0_countLate_0 21 rfl rfl)
theorem dX0_countLate_24 : decode cX0_countLate 24 = .ok (.ifCond .eq 7, 3) := dk_153 0 7 (dk_at dksX0_countLate_1 0 rfl rfl)
theorem dX0_countLate_27 : decode cX0_countLate 27 = .ok (.iconst 1, 1) := dk_4 (dk_at dksX0_countLate_1 3 rfl rfl)
theorem dX0_countLate_28 : decode cX0_countLate 28 = .ok (.goto 4, 3) := dk_167 0 4 (dk_at dksX0_countLate_1 4 rfl rfl)
theorem dX0_countLate_31 : decode cX0_countLate 31 = .ok (.iconst 0, 1) := dk_3 (dk_at dksX0_countLate_1 7 rfl rfl)
theorem dX0_countLate_32 : decode cX0_countLate 32 = .ok (.iadd, 1) := dk_96 (dk_at dksX0_countLate_1 8 rfl rfl)
theorem dX0_countLate_33 : decode cX0_countLate 33 = .ok (.istore_n 1, 1) := dk_60 (dk_at dksX0_countLate_1 9 rfl rfl)
theorem dX0_countLate_34 : decode cX0_countLate 34 = .ok (.iinc 2 1, 3) := dk_132 2 1 (dk_at dksX0_countLate_1 10 rfl rfl)
theorem dX0_countLate_37 : decode cX0_countLate 37 = .ok (.goto (-33), 3) := dk_167 255 223 (dk_at dksX0_countLate_1 13 rfl rfl)
theorem dX0_countLate_40 : decode cX0_countLate 40 = .ok (.iload_n 1, 1) := dk_27 (dk_at dksX0_countLate_1 16 rfl rfl)
theorem dX0_countLate_41 : decode cX0_countLate 41 = .ok (.ireturn, 1) := dk_172 (dk_at dksX0_countLate_1 17 rfl rfl)
abbrev cX0_lay : ByteArray := prog_1_method_94_code
def yX0_lay : MethodName := ⟨RX0, "lay", "(I)I"⟩
def dkwX0_lay_3 : List UInt8 := [27, 172]
abbrev dktX0_lay_3 : List UInt8 := dkwX0_lay_3 ++ []
def dkwX0_lay_2 : List UInt8 := [50, 181, 1, 157, 3, 61, 28, 27, 162, 0, 16, 42, 180, 1, 157, 28, 3, 79, 132, 2, 1, 167, 255, 241]
abbrev dktX0_lay_2 : List UInt8 := dkwX0_lay_2 ++ dktX0_lay_3
def dkwX0_lay_1 : List UInt8 := [42, 180, 0, 101, 27, 50, 199, 0, 12, 42, 180, 0, 101, 27, 27, 188, 10, 83, 42, 42, 180, 0, 101, 27]
abbrev dktX0_lay_1 : List UInt8 := dkwX0_lay_1 ++ dktX0_lay_2
def dkwX0_lay_0 : List UInt8 := [27, 156, 0, 10, 42, 16, 252, 182, 0, 118, 172, 27, 16, 100, 164, 0, 10, 42, 16, 249, 182, 0, 118, 172]
abbrev dktX0_lay_0 : List UInt8 := dkwX0_lay_0 ++ dktX0_lay_1
theorem dksX0_lay_0 : cX0_lay.data.toList.drop 0 = dktX0_lay_0 := by decide +kernel
theorem dksX0_lay_1 : cX0_lay.data.toList.drop 24 = dktX0_lay_1 := dk_seg dksX0_lay_0 24 rfl rfl
theorem dksX0_lay_2 : cX0_lay.data.toList.drop 48 = dktX0_lay_2 := dk_seg dksX0_lay_1 24 rfl rfl
theorem dksX0_lay_3 : cX0_lay.data.toList.drop 72 = dktX0_lay_3 := dk_seg dksX0_lay_2 24 rfl rfl
theorem dX0_lay_0 : decode cX0_lay 0 = .ok (.iload_n 1, 1) := dk_27 (dk_at dksX0_lay_0 0 rfl rfl)
theorem dX0_lay_1 : decode cX0_lay 1 = .ok (.ifCond .ge 10, 3) := dk_156 0 10 (dk_at dksX0_lay_0 1 rfl rfl)
theorem dX0_lay_4 : decode cX0_lay 4 = .ok (.aload_n 0, 1) := dk_42 (dk_at dksX0_lay_0 4 rfl rfl)
theorem dX0_lay_5 : decode cX0_lay 5 = .ok (.bipush (-4), 2) := dk_16 252 (dk_at dksX0_lay_0 5 rfl rfl)
theorem dX0_lay_7 : decode cX0_lay 7 = .ok (.invokevirtual 118, 3) := dk_182 0 118 (dk_at dksX0_lay_0 7 rfl rfl)
theorem dX0_lay_10 : decode cX0_lay 10 = .ok (.ireturn, 1) := dk_172 (dk_at dksX0_lay_0 10 rfl rfl)
theorem dX0_lay_11 : decode cX0_lay 11 = .ok (.iload_n 1, 1) := dk_27 (dk_at dksX0_lay_0 11 rfl rfl)
theorem dX0_lay_12 : decode cX0_lay 12 = .ok (.bipush 100, 2) := dk_16 100 (dk_at dksX0_lay_0 12 rfl rfl)
theorem dX0_lay_14 : decode cX0_lay 14 = .ok (.if_icmp .le 10, 3) := dk_164 0 10 (dk_at dksX0_lay_0 14 rfl rfl)
theorem dX0_lay_17 : decode cX0_lay 17 = .ok (.aload_n 0, 1) := dk_42 (dk_at dksX0_lay_0 17 rfl rfl)
theorem dX0_lay_18 : decode cX0_lay 18 = .ok (.bipush (-7), 2) := dk_16 249 (dk_at dksX0_lay_0 18 rfl rfl)
theorem dX0_lay_20 : decode cX0_lay 20 = .ok (.invokevirtual 118, 3) := dk_182 0 118 (dk_at dksX0_lay_0 20 rfl rfl)
theorem dX0_lay_23 : decode cX0_lay 23 = .ok (.ireturn, 1) := dk_172 (dk_at dksX0_lay_0 23 rfl rfl)
theorem dX0_lay_24 : decode cX0_lay 24 = .ok (.aload_n 0, 1) := dk_42 (dk_at dksX0_lay_1 0 rfl rfl)
theorem dX0_lay_25 : decode cX0_lay 25 = .ok (.getfield 101, 3) := dk_180 0 101 (dk_at dksX0_lay_1 1 rfl rfl)
theorem dX0_lay_28 : decode cX0_lay 28 = .ok (.iload_n 1, 1) := dk_27 (dk_at dksX0_lay_1 4 rfl rfl)
theorem dX0_lay_29 : decode cX0_lay 29 = .ok (.aaload, 1) := dk_50 (dk_at dksX0_lay_1 5 rfl rfl)
theorem dX0_lay_30 : decode cX0_lay 30 = .ok (.ifnonnull 12, 3) := dk_199 0 12 (dk_at dksX0_lay_1 6 rfl rfl)
theorem dX0_lay_33 : decode cX0_lay 33 = .ok (.aload_n 0, 1) := dk_42 (dk_at dksX0_lay_1 9 rfl rfl)
theorem dX0_lay_34 : decode cX0_lay 34 = .ok (.getfield 101, 3) := dk_180 0 101 (dk_at dksX0_lay_1 10 rfl rfl)
theorem dX0_lay_37 : decode cX0_lay 37 = .ok (.iload_n 1, 1) := dk_27 (dk_at dksX0_lay_1 13 rfl rfl)
theorem dX0_lay_38 : decode cX0_lay 38 = .ok (.iload_n 1, 1) := dk_27 (dk_at dksX0_lay_1 14 rfl rfl)
theorem dX0_lay_39 : decode cX0_lay 39 = .ok (.newarray .int, 2) := dk_188_10 (dk_at dksX0_lay_1 15 rfl rfl)
theorem dX0_lay_41 : decode cX0_lay 41 = .ok (.aastore, 1) := dk_83 (dk_at dksX0_lay_1 17 rfl rfl)
theorem dX0_lay_42 : decode cX0_lay 42 = .ok (.aload_n 0, 1) := dk_42 (dk_at dksX0_lay_1 18 rfl rfl)
theorem dX0_lay_43 : decode cX0_lay 43 = .ok (.aload_n 0, 1) := dk_42 (dk_at dksX0_lay_1 19 rfl rfl)
theorem dX0_lay_44 : decode cX0_lay 44 = .ok (.getfield 101, 3) := dk_180 0 101 (dk_at dksX0_lay_1 20 rfl rfl)
theorem dX0_lay_47 : decode cX0_lay 47 = .ok (.iload_n 1, 1) := dk_27 (dk_at dksX0_lay_1 23 rfl rfl)
theorem dX0_lay_48 : decode cX0_lay 48 = .ok (.aaload, 1) := dk_50 (dk_at dksX0_lay_2 0 rfl rfl)
theorem dX0_lay_49 : decode cX0_lay 49 = .ok (.putfield 413, 3) := dk_181 1 157 (dk_at dksX0_lay_2 1 rfl rfl)
theorem dX0_lay_52 : decode cX0_lay 52 = .ok (.iconst 0, 1) := dk_3 (dk_at dksX0_lay_2 4 rfl rfl)
theorem dX0_lay_53 : decode cX0_lay 53 = .ok (.istore_n 2, 1) := dk_61 (dk_at dksX0_lay_2 5 rfl rfl)
theorem dX0_lay_54 : decode cX0_lay 54 = .ok (.iload_n 2, 1) := dk_28 (dk_at dksX0_lay_2 6 rfl rfl)
theorem dX0_lay_55 : decode cX0_lay 55 = .ok (.iload_n 1, 1) := dk_27 (dk_at dksX0_lay_2 7 rfl rfl)
theorem dX0_lay_56 : decode cX0_lay 56 = .ok (.if_icmp .ge 16, 3) := dk_162 0 16 (dk_at dksX0_lay_2 8 rfl rfl)
theorem dX0_lay_59 : decode cX0_lay 59 = .ok (.aload_n 0, 1) := dk_42 (dk_at dksX0_lay_2 11 rfl rfl)
theorem dX0_lay_60 : decode cX0_lay 60 = .ok (.getfield 413, 3) := dk_180 1 157 (dk_at dksX0_lay_2 12 rfl rfl)
theorem dX0_lay_63 : decode cX0_lay 63 = .ok (.iload_n 2, 1) := dk_28 (dk_at dksX0_lay_2 15 rfl rfl)
theorem dX0_lay_64 : decode cX0_lay 64 = .ok (.iconst 0, 1) := dk_3 (dk_at dksX0_lay_2 16 rfl rfl)
theorem dX0_lay_65 : decode cX0_lay 65 = .ok (.iastore, 1) := dk_79 (dk_at dksX0_lay_2 17 rfl rfl)
theorem dX0_lay_66 : decode cX0_lay 66 = .ok (.iinc 2 1, 3) := dk_132 2 1 (dk_at dksX0_lay_2 18 rfl rfl)
theorem dX0_lay_69 : decode cX0_lay 69 = .ok (.goto (-15), 3) := dk_167 255 241 (dk_at dksX0_lay_2 21 rfl rfl)
theorem dX0_lay_72 : decode cX0_lay 72 = .ok (.iload_n 1, 1) := dk_27 (dk_at dksX0_lay_3 0 rfl rfl)
theorem dX0_lay_73 : decode cX0_lay 73 = .ok (.ireturn, 1) := dk_172 (dk_at dksX0_lay_3 1 rfl rfl)
abbrev cX0_set : ByteArray := prog_1_method_95_code
def yX0_set : MethodName := ⟨RX0, "set", "(II)I"⟩
def dkwX0_set_2 : List UInt8 := [29, 172]
abbrev dktX0_set_2 : List UInt8 := dkwX0_set_2 ++ []
def dkwX0_set_1 : List UInt8 := [161, 0, 10, 42, 16, 253, 182, 1, 56, 172, 42, 180, 1, 157, 27, 46, 62, 42, 180, 1, 157, 27, 28, 79]
abbrev dktX0_set_1 : List UInt8 := dkwX0_set_1 ++ dktX0_set_2
def dkwX0_set_0 : List UInt8 := [42, 180, 1, 157, 199, 0, 10, 42, 16, 254, 182, 1, 56, 172, 27, 155, 0, 12, 27, 42, 180, 1, 157, 190]
abbrev dktX0_set_0 : List UInt8 := dkwX0_set_0 ++ dktX0_set_1
theorem dksX0_set_0 : cX0_set.data.toList.drop 0 = dktX0_set_0 := by decide +kernel
theorem dksX0_set_1 : cX0_set.data.toList.drop 24 = dktX0_set_1 := dk_seg dksX0_set_0 24 rfl rfl
theorem dksX0_set_2 : cX0_set.data.toList.drop 48 = dktX0_set_2 := dk_seg dksX0_set_1 24 rfl rfl
theorem dX0_set_0 : decode cX0_set 0 = .ok (.aload_n 0, 1) := dk_42 (dk_at dksX0_set_0 0 rfl rfl)
theorem dX0_set_1 : decode cX0_set 1 = .ok (.getfield 413, 3) := dk_180 1 157 (dk_at dksX0_set_0 1 rfl rfl)
theorem dX0_set_4 : decode cX0_set 4 = .ok (.ifnonnull 10, 3) := dk_199 0 10 (dk_at dksX0_set_0 4 rfl rfl)
theorem dX0_set_7 : decode cX0_set 7 = .ok (.aload_n 0, 1) := dk_42 (dk_at dksX0_set_0 7 rfl rfl)
theorem dX0_set_8 : decode cX0_set 8 = .ok (.bipush (-2), 2) := dk_16 254 (dk_at dksX0_set_0 8 rfl rfl)
theorem dX0_set_10 : decode cX0_set 10 = .ok (.invokevirtual 312, 3) := dk_182 1 56 (dk_at dksX0_set_0 10 rfl rfl)
theorem dX0_set_13 : decode cX0_set 13 = .ok (.ireturn, 1) := dk_172 (dk_at dksX0_set_0 13 rfl rfl)
theorem dX0_set_14 : decode cX0_set 14 = .ok (.iload_n 1, 1) := dk_27 (dk_at dksX0_set_0 14 rfl rfl)
theorem dX0_set_15 : decode cX0_set 15 = .ok (.ifCond .lt 12, 3) := dk_155 0 12 (dk_at dksX0_set_0 15 rfl rfl)
theorem dX0_set_18 : decode cX0_set 18 = .ok (.iload_n 1, 1) := dk_27 (dk_at dksX0_set_0 18 rfl rfl)
theorem dX0_set_19 : decode cX0_set 19 = .ok (.aload_n 0, 1) := dk_42 (dk_at dksX0_set_0 19 rfl rfl)
theorem dX0_set_20 : decode cX0_set 20 = .ok (.getfield 413, 3) := dk_180 1 157 (dk_at dksX0_set_0 20 rfl rfl)
theorem dX0_set_23 : decode cX0_set 23 = .ok (.arraylength, 1) := dk_190 (dk_at dksX0_set_0 23 rfl rfl)
theorem dX0_set_24 : decode cX0_set 24 = .ok (.if_icmp .lt 10, 3) := dk_161 0 10 (dk_at dksX0_set_1 0 rfl rfl)
theorem dX0_set_27 : decode cX0_set 27 = .ok (.aload_n 0, 1) := dk_42 (dk_at dksX0_set_1 3 rfl rfl)
theorem dX0_set_28 : decode cX0_set 28 = .ok (.bipush (-3), 2) := dk_16 253 (dk_at dksX0_set_1 4 rfl rfl)
theorem dX0_set_30 : decode cX0_set 30 = .ok (.invokevirtual 312, 3) := dk_182 1 56 (dk_at dksX0_set_1 6 rfl rfl)
theorem dX0_set_33 : decode cX0_set 33 = .ok (.ireturn, 1) := dk_172 (dk_at dksX0_set_1 9 rfl rfl)
theorem dX0_set_34 : decode cX0_set 34 = .ok (.aload_n 0, 1) := dk_42 (dk_at dksX0_set_1 10 rfl rfl)
theorem dX0_set_35 : decode cX0_set 35 = .ok (.getfield 413, 3) := dk_180 1 157 (dk_at dksX0_set_1 11 rfl rfl)
theorem dX0_set_38 : decode cX0_set 38 = .ok (.iload_n 1, 1) := dk_27 (dk_at dksX0_set_1 14 rfl rfl)
theorem dX0_set_39 : decode cX0_set 39 = .ok (.iaload, 1) := dk_46 (dk_at dksX0_set_1 15 rfl rfl)
theorem dX0_set_40 : decode cX0_set 40 = .ok (.istore_n 3, 1) := dk_62 (dk_at dksX0_set_1 16 rfl rfl)
theorem dX0_set_41 : decode cX0_set 41 = .ok (.aload_n 0, 1) := dk_42 (dk_at dksX0_set_1 17 rfl rfl)
theorem dX0_set_42 : decode cX0_set 42 = .ok (.getfield 413, 3) := dk_180 1 157 (dk_at dksX0_set_1 18 rfl rfl)
theorem dX0_set_45 : decode cX0_set 45 = .ok (.iload_n 1, 1) := dk_27 (dk_at dksX0_set_1 21 rfl rfl)
theorem dX0_set_46 : decode cX0_set 46 = .ok (.iload_n 2, 1) := dk_28 (dk_at dksX0_set_1 22 rfl rfl)
theorem dX0_set_47 : decode cX0_set 47 = .ok (.iastore, 1) := dk_79 (dk_at dksX0_set_1 23 rfl rfl)
theorem dX0_set_48 : decode cX0_set 48 = .ok (.iload_n 3, 1) := dk_29 (dk_at dksX0_set_2 0 rfl rfl)
theorem dX0_set_49 : decode cX0_set 49 = .ok (.ireturn, 1) := dk_172 (dk_at dksX0_set_2 1 rfl rfl)
abbrev cX0_tear : ByteArray := prog_1_method_96_code
def yX0_tear : MethodName := ⟨RX0, "tear", "()I"⟩
def dkwX0_tear_1 : List UInt8 := [167, 0, 4, 3, 172]
abbrev dktX0_tear_1 : List UInt8 := dkwX0_tear_1 ++ []
def dkwX0_tear_0 : List UInt8 := [42, 180, 1, 157, 198, 0, 7, 4, 167, 0, 4, 3, 60, 42, 1, 181, 1, 157, 27, 153, 0, 7, 4]
abbrev dktX0_tear_0 : List UInt8 := dkwX0_tear_0 ++ dktX0_tear_1
theorem dksX0_tear_0 : cX0_tear.data.toList.drop 0 = dktX0_tear_0 := by decide +kernel
theorem dksX0_tear_1 : cX0_tear.data.toList.drop 23 = dktX0_tear_1 := dk_seg dksX0_tear_0 23 rfl rfl
theorem dX0_tear_0 : decode cX0_tear 0 = .ok (.aload_n 0, 1) := dk_42 (dk_at dksX0_tear_0 0 rfl rfl)
theorem dX0_tear_1 : decode cX0_tear 1 = .ok (.getfield 413, 3) := dk_180 1 157 (dk_at dksX0_tear_0 1 rfl rfl)
theorem dX0_tear_4 : decode cX0_tear 4 = .ok (.ifnull 7, 3) := dk_198 0 7 (dk_at dksX0_tear_0 4 rfl rfl)
theorem dX0_tear_7 : decode cX0_tear 7 = .ok (.iconst 1, 1) := dk_4 (dk_at dksX0_tear_0 7 rfl rfl)
theorem dX0_tear_8 : decode cX0_tear 8 = .ok (.goto 4, 3) := dk_167 0 4 (dk_at dksX0_tear_0 8 rfl rfl)
theorem dX0_tear_11 : decode cX0_tear 11 = .ok (.iconst 0, 1) := dk_3 (dk_at dksX0_tear_0 11 rfl rfl)
theorem dX0_tear_12 : decode cX0_tear 12 = .ok (.istore_n 1, 1) := dk_60 (dk_at dksX0_tear_0 12 rfl rfl)
theorem dX0_tear_13 : decode cX0_tear 13 = .ok (.aload_n 0, 1) := dk_42 (dk_at dksX0_tear_0 13 rfl rfl)
theorem dX0_tear_14 : decode cX0_tear 14 = .ok (.aconst_null, 1) := dk_1 (dk_at dksX0_tear_0 14 rfl rfl)
theorem dX0_tear_15 : decode cX0_tear 15 = .ok (.putfield 413, 3) := dk_181 1 157 (dk_at dksX0_tear_0 15 rfl rfl)
theorem dX0_tear_18 : decode cX0_tear 18 = .ok (.iload_n 1, 1) := dk_27 (dk_at dksX0_tear_0 18 rfl rfl)
theorem dX0_tear_19 : decode cX0_tear 19 = .ok (.ifCond .eq 7, 3) := dk_153 0 7 (dk_at dksX0_tear_0 19 rfl rfl)
theorem dX0_tear_22 : decode cX0_tear 22 = .ok (.iconst 1, 1) := dk_4 (dk_at dksX0_tear_0 22 rfl rfl)
theorem dX0_tear_23 : decode cX0_tear 23 = .ok (.goto 4, 3) := dk_167 0 4 (dk_at dksX0_tear_1 0 rfl rfl)
theorem dX0_tear_26 : decode cX0_tear 26 = .ok (.iconst 0, 1) := dk_3 (dk_at dksX0_tear_1 3 rfl rfl)
theorem dX0_tear_27 : decode cX0_tear 27 = .ok (.ireturn, 1) := dk_172 (dk_at dksX0_tear_1 4 rfl rfl)
abbrev cX0_row : ByteArray := prog_1_method_97_code
def yX0_row : MethodName := ⟨RX0, "row", "(I)I"⟩
def dkwX0_row_1 : List UInt8 := [162, 0, 12, 42, 180, 1, 157, 27, 46, 167, 0, 9, 42, 16, 253, 182, 1, 56, 172]
abbrev dktX0_row_1 : List UInt8 := dkwX0_row_1 ++ []
def dkwX0_row_0 : List UInt8 := [42, 180, 1, 157, 199, 0, 10, 42, 16, 254, 182, 1, 56, 172, 27, 155, 0, 21, 27, 42, 180, 1, 157, 190]
abbrev dktX0_row_0 : List UInt8 := dkwX0_row_0 ++ dktX0_row_1
theorem dksX0_row_0 : cX0_row.data.toList.drop 0 = dktX0_row_0 := by decide +kernel
theorem dksX0_row_1 : cX0_row.data.toList.drop 24 = dktX0_row_1 := dk_seg dksX0_row_0 24 rfl rfl
theorem dX0_row_0 : decode cX0_row 0 = .ok (.aload_n 0, 1) := dk_42 (dk_at dksX0_row_0 0 rfl rfl)
theorem dX0_row_1 : decode cX0_row 1 = .ok (.getfield 413, 3) := dk_180 1 157 (dk_at dksX0_row_0 1 rfl rfl)
theorem dX0_row_4 : decode cX0_row 4 = .ok (.ifnonnull 10, 3) := dk_199 0 10 (dk_at dksX0_row_0 4 rfl rfl)
theorem dX0_row_7 : decode cX0_row 7 = .ok (.aload_n 0, 1) := dk_42 (dk_at dksX0_row_0 7 rfl rfl)
theorem dX0_row_8 : decode cX0_row 8 = .ok (.bipush (-2), 2) := dk_16 254 (dk_at dksX0_row_0 8 rfl rfl)
theorem dX0_row_10 : decode cX0_row 10 = .ok (.invokevirtual 312, 3) := dk_182 1 56 (dk_at dksX0_row_0 10 rfl rfl)
theorem dX0_row_13 : decode cX0_row 13 = .ok (.ireturn, 1) := dk_172 (dk_at dksX0_row_0 13 rfl rfl)
theorem dX0_row_14 : decode cX0_row 14 = .ok (.iload_n 1, 1) := dk_27 (dk_at dksX0_row_0 14 rfl rfl)
theorem dX0_row_15 : decode cX0_row 15 = .ok (.ifCond .lt 21, 3) := dk_155 0 21 (dk_at dksX0_row_0 15 rfl rfl)
theorem dX0_row_18 : decode cX0_row 18 = .ok (.iload_n 1, 1) := dk_27 (dk_at dksX0_row_0 18 rfl rfl)
theorem dX0_row_19 : decode cX0_row 19 = .ok (.aload_n 0, 1) := dk_42 (dk_at dksX0_row_0 19 rfl rfl)
theorem dX0_row_20 : decode cX0_row 20 = .ok (.getfield 413, 3) := dk_180 1 157 (dk_at dksX0_row_0 20 rfl rfl)
theorem dX0_row_23 : decode cX0_row 23 = .ok (.arraylength, 1) := dk_190 (dk_at dksX0_row_0 23 rfl rfl)
theorem dX0_row_24 : decode cX0_row 24 = .ok (.if_icmp .ge 12, 3) := dk_162 0 12 (dk_at dksX0_row_1 0 rfl rfl)
theorem dX0_row_27 : decode cX0_row 27 = .ok (.aload_n 0, 1) := dk_42 (dk_at dksX0_row_1 3 rfl rfl)
theorem dX0_row_28 : decode cX0_row 28 = .ok (.getfield 413, 3) := dk_180 1 157 (dk_at dksX0_row_1 4 rfl rfl)
theorem dX0_row_31 : decode cX0_row 31 = .ok (.iload_n 1, 1) := dk_27 (dk_at dksX0_row_1 7 rfl rfl)
theorem dX0_row_32 : decode cX0_row 32 = .ok (.iaload, 1) := dk_46 (dk_at dksX0_row_1 8 rfl rfl)
theorem dX0_row_33 : decode cX0_row 33 = .ok (.goto 9, 3) := dk_167 0 9 (dk_at dksX0_row_1 9 rfl rfl)
theorem dX0_row_36 : decode cX0_row 36 = .ok (.aload_n 0, 1) := dk_42 (dk_at dksX0_row_1 12 rfl rfl)
theorem dX0_row_37 : decode cX0_row 37 = .ok (.bipush (-3), 2) := dk_16 253 (dk_at dksX0_row_1 13 rfl rfl)
theorem dX0_row_39 : decode cX0_row 39 = .ok (.invokevirtual 312, 3) := dk_182 1 56 (dk_at dksX0_row_1 15 rfl rfl)
theorem dX0_row_42 : decode cX0_row 42 = .ok (.ireturn, 1) := dk_172 (dk_at dksX0_row_1 18 rfl rfl)
abbrev cX0_copy : ByteArray := prog_1_method_98_code
def yX0_copy : MethodName := ⟨RX0, "copy", "(III)I"⟩
def dkwX0_copy_3 : List UInt8 := [42, 16, 254, 182, 0, 118, 172, 58, 4, 42, 16, 252, 182, 0, 118, 172]
abbrev dktX0_copy_3 : List UInt8 := dkwX0_copy_3 ++ []
def dkwX0_copy_2 : List UInt8 := [16, 250, 182, 0, 118, 172, 42, 180, 1, 157, 27, 42, 180, 1, 157, 28, 29, 184, 2, 5, 29, 172, 58, 4]
abbrev dktX0_copy_2 : List UInt8 := dkwX0_copy_2 ++ dktX0_copy_3
def dkwX0_copy_1 : List UInt8 := [155, 0, 23, 28, 155, 0, 19, 29, 21, 4, 27, 100, 163, 0, 11, 29, 21, 4, 28, 100, 164, 0, 10, 42]
abbrev dktX0_copy_1 : List UInt8 := dkwX0_copy_1 ++ dktX0_copy_2
def dkwX0_copy_0 : List UInt8 := [42, 180, 1, 157, 190, 54, 4, 29, 21, 4, 164, 0, 7, 3, 167, 0, 4, 29, 188, 8, 58, 5, 27]
abbrev dktX0_copy_0 : List UInt8 := dkwX0_copy_0 ++ dktX0_copy_1
theorem dksX0_copy_0 : cX0_copy.data.toList.drop 0 = dktX0_copy_0 := by decide +kernel
theorem dksX0_copy_1 : cX0_copy.data.toList.drop 23 = dktX0_copy_1 := dk_seg dksX0_copy_0 23 rfl rfl
theorem dksX0_copy_2 : cX0_copy.data.toList.drop 47 = dktX0_copy_2 := dk_seg dksX0_copy_1 24 rfl rfl
theorem dksX0_copy_3 : cX0_copy.data.toList.drop 71 = dktX0_copy_3 := dk_seg dksX0_copy_2 24 rfl rfl
theorem dX0_copy_0 : decode cX0_copy 0 = .ok (.aload_n 0, 1) := dk_42 (dk_at dksX0_copy_0 0 rfl rfl)
theorem dX0_copy_1 : decode cX0_copy 1 = .ok (.getfield 413, 3) := dk_180 1 157 (dk_at dksX0_copy_0 1 rfl rfl)
theorem dX0_copy_4 : decode cX0_copy 4 = .ok (.arraylength, 1) := dk_190 (dk_at dksX0_copy_0 4 rfl rfl)
theorem dX0_copy_5 : decode cX0_copy 5 = .ok (.istore 4, 2) := dk_54 4 (dk_at dksX0_copy_0 5 rfl rfl)
theorem dX0_copy_7 : decode cX0_copy 7 = .ok (.iload_n 3, 1) := dk_29 (dk_at dksX0_copy_0 7 rfl rfl)
theorem dX0_copy_8 : decode cX0_copy 8 = .ok (.iload 4, 2) := dk_21 4 (dk_at dksX0_copy_0 8 rfl rfl)
theorem dX0_copy_10 : decode cX0_copy 10 = .ok (.if_icmp .le 7, 3) := dk_164 0 7 (dk_at dksX0_copy_0 10 rfl rfl)
theorem dX0_copy_13 : decode cX0_copy 13 = .ok (.iconst 0, 1) := dk_3 (dk_at dksX0_copy_0 13 rfl rfl)
theorem dX0_copy_14 : decode cX0_copy 14 = .ok (.goto 4, 3) := dk_167 0 4 (dk_at dksX0_copy_0 14 rfl rfl)
theorem dX0_copy_17 : decode cX0_copy 17 = .ok (.iload_n 3, 1) := dk_29 (dk_at dksX0_copy_0 17 rfl rfl)
theorem dX0_copy_18 : decode cX0_copy 18 = .ok (.newarray .byte, 2) := dk_188_8 (dk_at dksX0_copy_0 18 rfl rfl)
theorem dX0_copy_20 : decode cX0_copy 20 = .ok (.astore 5, 2) := dk_58 5 (dk_at dksX0_copy_0 20 rfl rfl)
theorem dX0_copy_22 : decode cX0_copy 22 = .ok (.iload_n 1, 1) := dk_27 (dk_at dksX0_copy_0 22 rfl rfl)
theorem dX0_copy_23 : decode cX0_copy 23 = .ok (.ifCond .lt 23, 3) := dk_155 0 23 (dk_at dksX0_copy_1 0 rfl rfl)
theorem dX0_copy_26 : decode cX0_copy 26 = .ok (.iload_n 2, 1) := dk_28 (dk_at dksX0_copy_1 3 rfl rfl)
theorem dX0_copy_27 : decode cX0_copy 27 = .ok (.ifCond .lt 19, 3) := dk_155 0 19 (dk_at dksX0_copy_1 4 rfl rfl)
theorem dX0_copy_30 : decode cX0_copy 30 = .ok (.iload_n 3, 1) := dk_29 (dk_at dksX0_copy_1 7 rfl rfl)
theorem dX0_copy_31 : decode cX0_copy 31 = .ok (.iload 4, 2) := dk_21 4 (dk_at dksX0_copy_1 8 rfl rfl)
theorem dX0_copy_33 : decode cX0_copy 33 = .ok (.iload_n 1, 1) := dk_27 (dk_at dksX0_copy_1 10 rfl rfl)
theorem dX0_copy_34 : decode cX0_copy 34 = .ok (.isub, 1) := dk_100 (dk_at dksX0_copy_1 11 rfl rfl)
theorem dX0_copy_35 : decode cX0_copy 35 = .ok (.if_icmp .gt 11, 3) := dk_163 0 11 (dk_at dksX0_copy_1 12 rfl rfl)
theorem dX0_copy_38 : decode cX0_copy 38 = .ok (.iload_n 3, 1) := dk_29 (dk_at dksX0_copy_1 15 rfl rfl)
theorem dX0_copy_39 : decode cX0_copy 39 = .ok (.iload 4, 2) := dk_21 4 (dk_at dksX0_copy_1 16 rfl rfl)
theorem dX0_copy_41 : decode cX0_copy 41 = .ok (.iload_n 2, 1) := dk_28 (dk_at dksX0_copy_1 18 rfl rfl)
theorem dX0_copy_42 : decode cX0_copy 42 = .ok (.isub, 1) := dk_100 (dk_at dksX0_copy_1 19 rfl rfl)
theorem dX0_copy_43 : decode cX0_copy 43 = .ok (.if_icmp .le 10, 3) := dk_164 0 10 (dk_at dksX0_copy_1 20 rfl rfl)
theorem dX0_copy_46 : decode cX0_copy 46 = .ok (.aload_n 0, 1) := dk_42 (dk_at dksX0_copy_1 23 rfl rfl)
theorem dX0_copy_47 : decode cX0_copy 47 = .ok (.bipush (-6), 2) := dk_16 250 (dk_at dksX0_copy_2 0 rfl rfl)
theorem dX0_copy_49 : decode cX0_copy 49 = .ok (.invokevirtual 118, 3) := dk_182 0 118 (dk_at dksX0_copy_2 2 rfl rfl)
theorem dX0_copy_52 : decode cX0_copy 52 = .ok (.ireturn, 1) := dk_172 (dk_at dksX0_copy_2 5 rfl rfl)
theorem dX0_copy_53 : decode cX0_copy 53 = .ok (.aload_n 0, 1) := dk_42 (dk_at dksX0_copy_2 6 rfl rfl)
theorem dX0_copy_54 : decode cX0_copy 54 = .ok (.getfield 413, 3) := dk_180 1 157 (dk_at dksX0_copy_2 7 rfl rfl)
theorem dX0_copy_57 : decode cX0_copy 57 = .ok (.iload_n 1, 1) := dk_27 (dk_at dksX0_copy_2 10 rfl rfl)
theorem dX0_copy_58 : decode cX0_copy 58 = .ok (.aload_n 0, 1) := dk_42 (dk_at dksX0_copy_2 11 rfl rfl)
theorem dX0_copy_59 : decode cX0_copy 59 = .ok (.getfield 413, 3) := dk_180 1 157 (dk_at dksX0_copy_2 12 rfl rfl)
theorem dX0_copy_62 : decode cX0_copy 62 = .ok (.iload_n 2, 1) := dk_28 (dk_at dksX0_copy_2 15 rfl rfl)
theorem dX0_copy_63 : decode cX0_copy 63 = .ok (.iload_n 3, 1) := dk_29 (dk_at dksX0_copy_2 16 rfl rfl)
theorem dX0_copy_64 : decode cX0_copy 64 = .ok (.invokestatic 517, 3) := dk_184 2 5 (dk_at dksX0_copy_2 17 rfl rfl)
theorem dX0_copy_67 : decode cX0_copy 67 = .ok (.iload_n 3, 1) := dk_29 (dk_at dksX0_copy_2 20 rfl rfl)
theorem dX0_copy_68 : decode cX0_copy 68 = .ok (.ireturn, 1) := dk_172 (dk_at dksX0_copy_2 21 rfl rfl)
theorem dX0_copy_69 : decode cX0_copy 69 = .ok (.astore 4, 2) := dk_58 4 (dk_at dksX0_copy_2 22 rfl rfl)
theorem dX0_copy_71 : decode cX0_copy 71 = .ok (.aload_n 0, 1) := dk_42 (dk_at dksX0_copy_3 0 rfl rfl)
theorem dX0_copy_72 : decode cX0_copy 72 = .ok (.bipush (-2), 2) := dk_16 254 (dk_at dksX0_copy_3 1 rfl rfl)
theorem dX0_copy_74 : decode cX0_copy 74 = .ok (.invokevirtual 118, 3) := dk_182 0 118 (dk_at dksX0_copy_3 3 rfl rfl)
theorem dX0_copy_77 : decode cX0_copy 77 = .ok (.ireturn, 1) := dk_172 (dk_at dksX0_copy_3 6 rfl rfl)
theorem dX0_copy_78 : decode cX0_copy 78 = .ok (.astore 4, 2) := dk_58 4 (dk_at dksX0_copy_3 7 rfl rfl)
theorem dX0_copy_80 : decode cX0_copy 80 = .ok (.aload_n 0, 1) := dk_42 (dk_at dksX0_copy_3 9 rfl rfl)
theorem dX0_copy_81 : decode cX0_copy 81 = .ok (.bipush (-4), 2) := dk_16 252 (dk_at dksX0_copy_3 10 rfl rfl)
theorem dX0_copy_83 : decode cX0_copy 83 = .ok (.invokevirtual 118, 3) := dk_182 0 118 (dk_at dksX0_copy_3 12 rfl rfl)
theorem dX0_copy_86 : decode cX0_copy 86 = .ok (.ireturn, 1) := dk_172 (dk_at dksX0_copy_3 15 rfl rfl)
abbrev cX0_status : ByteArray := prog_1_method_99_code
def yX0_status : MethodName := ⟨RX0, "status", "(I)I"⟩
def dkwX0_status_1 : List UInt8 := [42, 16, 249, 182, 0, 118, 172]
abbrev dktX0_status_1 : List UInt8 := dkwX0_status_1 ++ []
def dkwX0_status_0 : List UInt8 := [27, 133, 20, 2, 84, 20, 2, 86, 184, 0, 31, 153, 0, 13, 42, 180, 0, 1, 27, 116, 46, 167, 0, 9]
abbrev dktX0_status_0 : List UInt8 := dkwX0_status_0 ++ dktX0_status_1
theorem dksX0_status_0 : cX0_status.data.toList.drop 0 = dktX0_status_0 := by decide +kernel
theorem dksX0_status_1 : cX0_status.data.toList.drop 24 = dktX0_status_1 := dk_seg dksX0_status_0 24 rfl rfl
theorem dX0_status_0 : decode cX0_status 0 = .ok (.iload_n 1, 1) := dk_27 (dk_at dksX0_status_0 0 rfl rfl)
theorem dX0_status_1 : decode cX0_status 1 = .ok (.i2l, 1) := dk_133 (dk_at dksX0_status_0 1 rfl rfl)
theorem dX0_status_2 : decode cX0_status 2 = .ok (.ldc2_w 596, 3) := dk_20 2 84 (dk_at dksX0_status_0 2 rfl rfl)
theorem dX0_status_5 : decode cX0_status 5 = .ok (.ldc2_w 598, 3) := dk_20 2 86 (dk_at dksX0_status_0 5 rfl rfl)
theorem dX0_status_8 : decode cX0_status 8 = .ok (.invokestatic 31, 3) := dk_184 0 31 (dk_at dksX0_status_0 8 rfl rfl)
theorem dX0_status_11 : decode cX0_status 11 = .ok (.ifCond .eq 13, 3) := dk_153 0 13 (dk_at dksX0_status_0 11 rfl rfl)
theorem dX0_status_14 : decode cX0_status 14 = .ok (.aload_n 0, 1) := dk_42 (dk_at dksX0_status_0 14 rfl rfl)
theorem dX0_status_15 : decode cX0_status 15 = .ok (.getfield 1, 3) := dk_180 0 1 (dk_at dksX0_status_0 15 rfl rfl)
theorem dX0_status_18 : decode cX0_status 18 = .ok (.iload_n 1, 1) := dk_27 (dk_at dksX0_status_0 18 rfl rfl)
theorem dX0_status_19 : decode cX0_status 19 = .ok (.ineg, 1) := dk_116 (dk_at dksX0_status_0 19 rfl rfl)
theorem dX0_status_20 : decode cX0_status 20 = .ok (.iaload, 1) := dk_46 (dk_at dksX0_status_0 20 rfl rfl)
theorem dX0_status_21 : decode cX0_status 21 = .ok (.goto 9, 3) := dk_167 0 9 (dk_at dksX0_status_0 21 rfl rfl)
theorem dX0_status_24 : decode cX0_status 24 = .ok (.aload_n 0, 1) := dk_42 (dk_at dksX0_status_1 0 rfl rfl)
theorem dX0_status_25 : decode cX0_status 25 = .ok (.bipush (-7), 2) := dk_16 249 (dk_at dksX0_status_1 1 rfl rfl)
theorem dX0_status_27 : decode cX0_status 27 = .ok (.invokevirtual 118, 3) := dk_182 0 118 (dk_at dksX0_status_1 3 rfl rfl)
theorem dX0_status_30 : decode cX0_status 30 = .ok (.ireturn, 1) := dk_172 (dk_at dksX0_status_1 6 rfl rfl)
