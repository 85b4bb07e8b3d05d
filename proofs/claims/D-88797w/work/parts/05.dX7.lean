set_option maxRecDepth 100000
abbrev cX7_init : ByteArray := prog_19_method_3_code
def yX7_init : MethodName := ⟨RX7, "<init>", "()V"⟩
def dkwX7_init_8 : List UInt8 := [42, 182, 0, 73, 177]
abbrev dktX7_init_8 : List UInt8 := dkwX7_init_8 ++ []
def dkwX7_init_7 : List UInt8 := [60, 27, 16, 100, 162, 0, 20, 42, 180, 0, 13, 17, 13, 130, 27, 96, 2, 79, 132, 1, 1, 167, 255, 236]
abbrev dktX7_init_7 : List UInt8 := dkwX7_init_7 ++ dktX7_init_8
def dkwX7_init_6 : List UInt8 := [16, 8, 188, 11, 181, 0, 67, 42, 16, 100, 188, 10, 181, 0, 70, 42, 180, 0, 13, 16, 7, 4, 79, 3]
abbrev dktX7_init_6 : List UInt8 := dkwX7_init_6 ++ dktX7_init_7
def dkwX7_init_5 : List UInt8 := [188, 10, 181, 0, 58, 42, 16, 8, 188, 11, 181, 0, 61, 42, 17, 17, 184, 188, 10, 181, 0, 64, 42]
abbrev dktX7_init_5 : List UInt8 := dkwX7_init_5 ++ dktX7_init_6
def dkwX7_init_4 : List UInt8 := [181, 0, 48, 42, 16, 49, 188, 4, 181, 0, 52, 42, 16, 7, 188, 10, 181, 0, 55, 42, 17, 17, 184]
abbrev dktX7_init_4 : List UInt8 := dkwX7_init_4 ++ dktX7_init_5
def dkwX7_init_3 : List UInt8 := [181, 0, 39, 42, 16, 7, 188, 10, 181, 0, 42, 42, 16, 28, 188, 10, 181, 0, 45, 42, 16, 28, 188, 4]
abbrev dktX7_init_3 : List UInt8 := dkwX7_init_3 ++ dktX7_init_4
def dkwX7_init_2 : List UInt8 := [181, 0, 30, 42, 16, 24, 188, 10, 181, 0, 33, 42, 16, 7, 188, 10, 181, 0, 36, 42, 16, 7, 188, 10]
abbrev dktX7_init_2 : List UInt8 := dkwX7_init_2 ++ dktX7_init_3
def dkwX7_init_1 : List UInt8 := [188, 10, 181, 0, 21, 42, 16, 120, 188, 10, 181, 0, 24, 42, 16, 120, 188, 10, 181, 0, 27, 42, 2]
abbrev dktX7_init_1 : List UInt8 := dkwX7_init_1 ++ dktX7_init_2
def dkwX7_init_0 : List UInt8 := [42, 183, 0, 7, 42, 17, 17, 184, 188, 10, 181, 0, 13, 42, 16, 8, 188, 11, 181, 0, 17, 42, 16, 9]
abbrev dktX7_init_0 : List UInt8 := dkwX7_init_0 ++ dktX7_init_1
theorem dksX7_init_0 : cX7_init.data.toList.drop 0 = dktX7_init_0 := by decide +kernel
theorem dksX7_init_1 : cX7_init.data.toList.drop 24 = dktX7_init_1 := dk_seg dksX7_init_0 24 rfl rfl
theorem dksX7_init_2 : cX7_init.data.toList.drop 47 = dktX7_init_2 := dk_seg dksX7_init_1 23 rfl rfl
theorem dksX7_init_3 : cX7_init.data.toList.drop 71 = dktX7_init_3 := dk_seg dksX7_init_2 24 rfl rfl
theorem dksX7_init_4 : cX7_init.data.toList.drop 95 = dktX7_init_4 := dk_seg dksX7_init_3 24 rfl rfl
theorem dksX7_init_5 : cX7_init.data.toList.drop 118 = dktX7_init_5 := dk_seg dksX7_init_4 23 rfl rfl
theorem dksX7_init_6 : cX7_init.data.toList.drop 141 = dktX7_init_6 := dk_seg dksX7_init_5 23 rfl rfl
theorem dksX7_init_7 : cX7_init.data.toList.drop 165 = dktX7_init_7 := dk_seg dksX7_init_6 24 rfl rfl
theorem dksX7_init_8 : cX7_init.data.toList.drop 189 = dktX7_init_8 := dk_seg dksX7_init_7 24 rfl rfl
theorem dX7_init_0 : decode cX7_init 0 = .ok (.aload_n 0, 1) := dk_42 (dk_at dksX7_init_0 0 rfl rfl)
theorem dX7_init_1 : decode cX7_init 1 = .ok (.invokespecial 7, 3) := dk_183 0 7 (dk_at dksX7_init_0 1 rfl rfl)
theorem dX7_init_4 : decode cX7_init 4 = .ok (.aload_n 0, 1) := dk_42 (dk_at dksX7_init_0 4 rfl rfl)
theorem dX7_init_5 : decode cX7_init 5 = .ok (.sipush 4536, 3) := dk_17 17 184 (dk_at dksX7_init_0 5 rfl rfl)
theorem dX7_init_8 : decode cX7_init 8 = .ok (.newarray .int, 2) := dk_188_10 (dk_at dksX7_init_0 8 rfl rfl)
theorem dX7_init_10 : decode cX7_init 10 = .ok (.putfield 13, 3) := dk_181 0 13 (dk_at dksX7_init_0 10 rfl rfl)
theorem dX7_init_13 : decode cX7_init 13 = .ok (.aload_n 0, 1) := dk_42 (dk_at dksX7_init_0 13 rfl rfl)
theorem dX7_init_14 : decode cX7_init 14 = .ok (.bipush 8, 2) := dk_16 8 (dk_at dksX7_init_0 14 rfl rfl)
theorem dX7_init_16 : decode cX7_init 16 = .ok (.newarray .long, 2) := dk_188_11 (dk_at dksX7_init_0 16 rfl rfl)
theorem dX7_init_18 : decode cX7_init 18 = .ok (.putfield 17, 3) := dk_181 0 17 (dk_at dksX7_init_0 18 rfl rfl)
theorem dX7_init_21 : decode cX7_init 21 = .ok (.aload_n 0, 1) := dk_42 (dk_at dksX7_init_0 21 rfl rfl)
theorem dX7_init_22 : decode cX7_init 22 = .ok (.bipush 9, 2) := dk_16 9 (dk_at dksX7_init_0 22 rfl rfl)
theorem dX7_init_24 : decode cX7_init 24 = .ok (.newarray .int, 2) := dk_188_10 (dk_at dksX7_init_1 0 rfl rfl)
theorem dX7_init_26 : decode cX7_init 26 = .ok (.putfield 21, 3) := dk_181 0 21 (dk_at dksX7_init_1 2 rfl rfl)
theorem dX7_init_29 : decode cX7_init 29 = .ok (.aload_n 0, 1) := dk_42 (dk_at dksX7_init_1 5 rfl rfl)
theorem dX7_init_30 : decode cX7_init 30 = .ok (.bipush 120, 2) := dk_16 120 (dk_at dksX7_init_1 6 rfl rfl)
theorem dX7_init_32 : decode cX7_init 32 = .ok (.newarray .int, 2) := dk_188_10 (dk_at dksX7_init_1 8 rfl rfl)
theorem dX7_init_34 : decode cX7_init 34 = .ok (.putfield 24, 3) := dk_181 0 24 (dk_at dksX7_init_1 10 rfl rfl)
theorem dX7_init_37 : decode cX7_init 37 = .ok (.aload_n 0, 1) := dk_42 (dk_at dksX7_init_1 13 rfl rfl)
theorem dX7_init_38 : decode cX7_init 38 = .ok (.bipush 120, 2) := dk_16 120 (dk_at dksX7_init_1 14 rfl rfl)
theorem dX7_init_40 : decode cX7_init 40 = .ok (.newarray .int, 2) := dk_188_10 (dk_at dksX7_init_1 16 rfl rfl)
theorem dX7_init_42 : decode cX7_init 42 = .ok (.putfield 27, 3) := dk_181 0 27 (dk_at dksX7_init_1 18 rfl rfl)
theorem dX7_init_45 : decode cX7_init 45 = .ok (.aload_n 0, 1) := dk_42 (dk_at dksX7_init_1 21 rfl rfl)
theorem dX7_init_46 : decode cX7_init 46 = .ok (.iconst (-1), 1) := dk_2 (dk_at dksX7_init_1 22 rfl rfl)
theorem dX7_init_47 : decode cX7_init 47 = .ok (.putfield 30, 3) := dk_181 0 30 (dk_at dksX7_init_2 0 rfl rfl)
theorem dX7_init_50 : decode cX7_init 50 = .ok (.aload_n 0, 1) := dk_42 (dk_at dksX7_init_2 3 rfl rfl)
theorem dX7_init_51 : decode cX7_init 51 = .ok (.bipush 24, 2) := dk_16 24 (dk_at dksX7_init_2 4 rfl rfl)
theorem dX7_init_53 : decode cX7_init 53 = .ok (.newarray .int, 2) := dk_188_10 (dk_at dksX7_init_2 6 rfl rfl)
theorem dX7_init_55 : decode cX7_init 55 = .ok (.putfield 33, 3) := dk_181 0 33 (dk_at dksX7_init_2 8 rfl rfl)
theorem dX7_init_58 : decode cX7_init 58 = .ok (.aload_n 0, 1) := dk_42 (dk_at dksX7_init_2 11 rfl rfl)
theorem dX7_init_59 : decode cX7_init 59 = .ok (.bipush 7, 2) := dk_16 7 (dk_at dksX7_init_2 12 rfl rfl)
theorem dX7_init_61 : decode cX7_init 61 = .ok (.newarray .int, 2) := dk_188_10 (dk_at dksX7_init_2 14 rfl rfl)
theorem dX7_init_63 : decode cX7_init 63 = .ok (.putfield 36, 3) := dk_181 0 36 (dk_at dksX7_init_2 16 rfl rfl)
theorem dX7_init_66 : decode cX7_init 66 = .ok (.aload_n 0, 1) := dk_42 (dk_at dksX7_init_2 19 rfl rfl)
theorem dX7_init_67 : decode cX7_init 67 = .ok (.bipush 7, 2) := dk_16 7 (dk_at dksX7_init_2 20 rfl rfl)
theorem dX7_init_69 : decode cX7_init 69 = .ok (.newarray .int, 2) := dk_188_10 (dk_at dksX7_init_2 22 rfl rfl)
theorem dX7_init_71 : decode cX7_init 71 = .ok (.putfield 39, 3) := dk_181 0 39 (dk_at dksX7_init_3 0 rfl rfl)
theorem dX7_init_74 : decode cX7_init 74 = .ok (.aload_n 0, 1) := dk_42 (dk_at dksX7_init_3 3 rfl rfl)
theorem dX7_init_75 : decode cX7_init 75 = .ok (.bipush 7, 2) := dk_16 7 (dk_at dksX7_init_3 4 rfl rfl)
theorem dX7_init_77 : decode cX7_init 77 = .ok (.newarray .int, 2) := dk_188_10 (dk_at dksX7_init_3 6 rfl rfl)
theorem dX7_init_79 : decode cX7_init 79 = .ok (.putfield 42, 3) := dk_181 0 42 (dk_at dksX7_init_3 8 rfl rfl)
theorem dX7_init_82 : decode cX7_init 82 = .ok (.aload_n 0, 1) := dk_42 (dk_at dksX7_init_3 11 rfl rfl)
theorem dX7_init_83 : decode cX7_init 83 = .ok (.bipush 28, 2) := dk_16 28 (dk_at dksX7_init_3 12 rfl rfl)
theorem dX7_init_85 : decode cX7_init 85 = .ok (.newarray .int, 2) := dk_188_10 (dk_at dksX7_init_3 14 rfl rfl)
theorem dX7_init_87 : decode cX7_init 87 = .ok (.putfield 45, 3) := dk_181 0 45 (dk_at dksX7_init_3 16 rfl rfl)
theorem dX7_init_90 : decode cX7_init 90 = .ok (.aload_n 0, 1) := dk_42 (dk_at dksX7_init_3 19 rfl rfl)
theorem dX7_init_91 : decode cX7_init 91 = .ok (.bipush 28, 2) := dk_16 28 (dk_at dksX7_init_3 20 rfl rfl)
theorem dX7_init_93 : decode cX7_init 93 = .ok (.newarray .boolean, 2) := dk_188_4 (dk_at dksX7_init_3 22 rfl rfl)
theorem dX7_init_95 : decode cX7_init 95 = .ok (.putfield 48, 3) := dk_181 0 48 (dk_at dksX7_init_4 0 rfl rfl)
theorem dX7_init_98 : decode cX7_init 98 = .ok (.aload_n 0, 1) := dk_42 (dk_at dksX7_init_4 3 rfl rfl)
theorem dX7_init_99 : decode cX7_init 99 = .ok (.bipush 49, 2) := dk_16 49 (dk_at dksX7_init_4 4 rfl rfl)
theorem dX7_init_101 : decode cX7_init 101 = .ok (.newarray .boolean, 2) := dk_188_4 (dk_at dksX7_init_4 6 rfl rfl)
theorem dX7_init_103 : decode cX7_init 103 = .ok (.putfield 52, 3) := dk_181 0 52 (dk_at dksX7_init_4 8 rfl rfl)
theorem dX7_init_106 : decode cX7_init 106 = .ok (.aload_n 0, 1) := dk_42 (dk_at dksX7_init_4 11 rfl rfl)
theorem dX7_init_107 : decode cX7_init 107 = .ok (.bipush 7, 2) := dk_16 7 (dk_at dksX7_init_4 12 rfl rfl)
theorem dX7_init_109 : decode cX7_init 109 = .ok (.newarray .int, 2) := dk_188_10 (dk_at dksX7_init_4 14 rfl rfl)
theorem dX7_init_111 : decode cX7_init 111 = .ok (.putfield 55, 3) := dk_181 0 55 (dk_at dksX7_init_4 16 rfl rfl)
theorem dX7_init_114 : decode cX7_init 114 = .ok (.aload_n 0, 1) := dk_42 (dk_at dksX7_init_4 19 rfl rfl)
theorem dX7_init_115 : decode cX7_init 115 = .ok (.sipush 4536, 3) := dk_17 17 184 (dk_at dksX7_init_4 20 rfl rfl)
theorem dX7_init_118 : decode cX7_init 118 = .ok (.newarray .int, 2) := dk_188_10 (dk_at dksX7_init_5 0 rfl rfl)
theorem dX7_init_120 : decode cX7_init 120 = .ok (.putfield 58, 3) := dk_181 0 58 (dk_at dksX7_init_5 2 rfl rfl)
theorem dX7_init_123 : decode cX7_init 123 = .ok (.aload_n 0, 1) := dk_42 (dk_at dksX7_init_5 5 rfl rfl)
theorem dX7_init_124 : decode cX7_init 124 = .ok (.bipush 8, 2) := dk_16 8 (dk_at dksX7_init_5 6 rfl rfl)
theorem dX7_init_126 : decode cX7_init 126 = .ok (.newarray .long, 2) := dk_188_11 (dk_at dksX7_init_5 8 rfl rfl)
theorem dX7_init_128 : decode cX7_init 128 = .ok (.putfield 61, 3) := dk_181 0 61 (dk_at dksX7_init_5 10 rfl rfl)
theorem dX7_init_131 : decode cX7_init 131 = .ok (.aload_n 0, 1) := dk_42 (dk_at dksX7_init_5 13 rfl rfl)
theorem dX7_init_132 : decode cX7_init 132 = .ok (.sipush 4536, 3) := dk_17 17 184 (dk_at dksX7_init_5 14 rfl rfl)
theorem dX7_init_135 : decode cX7_init 135 = .ok (.newarray .int, 2) := dk_188_10 (dk_at dksX7_init_5 17 rfl rfl)
theorem dX7_init_137 : decode cX7_init 137 = .ok (.putfield 64, 3) := dk_181 0 64 (dk_at dksX7_init_5 19 rfl rfl)
theorem dX7_init_140 : decode cX7_init 140 = .ok (.aload_n 0, 1) := dk_42 (dk_at dksX7_init_5 22 rfl rfl)
theorem dX7_init_141 : decode cX7_init 141 = .ok (.bipush 8, 2) := dk_16 8 (dk_at dksX7_init_6 0 rfl rfl)
theorem dX7_init_143 : decode cX7_init 143 = .ok (.newarray .long, 2) := dk_188_11 (dk_at dksX7_init_6 2 rfl rfl)
theorem dX7_init_145 : decode cX7_init 145 = .ok (.putfield 67, 3) := dk_181 0 67 (dk_at dksX7_init_6 4 rfl rfl)
theorem dX7_init_148 : decode cX7_init 148 = .ok (.aload_n 0, 1) := dk_42 (dk_at dksX7_init_6 7 rfl rfl)
theorem dX7_init_149 : decode cX7_init 149 = .ok (.bipush 100, 2) := dk_16 100 (dk_at dksX7_init_6 8 rfl rfl)
theorem dX7_init_151 : decode cX7_init 151 = .ok (.newarray .int, 2) := dk_188_10 (dk_at dksX7_init_6 10 rfl rfl)
theorem dX7_init_153 : decode cX7_init 153 = .ok (.putfield 70, 3) := dk_181 0 70 (dk_at dksX7_init_6 12 rfl rfl)
theorem dX7_init_156 : decode cX7_init 156 = .ok (.aload_n 0, 1) := dk_42 (dk_at dksX7_init_6 15 rfl rfl)
theorem dX7_init_157 : decode cX7_init 157 = .ok (.getfield 13, 3) := dk_180 0 13 (dk_at dksX7_init_6 16 rfl rfl)
theorem dX7_init_160 : decode cX7_init 160 = .ok (.bipush 7, 2) := dk_16 7 (dk_at dksX7_init_6 19 rfl rfl)
theorem dX7_init_162 : decode cX7_init 162 = .ok (.iconst 1, 1) := dk_4 (dk_at dksX7_init_6 21 rfl rfl)
theorem dX7_init_163 : decode cX7_init 163 = .ok (.iastore, 1) := dk_79 (dk_at dksX7_init_6 22 rfl rfl)
theorem dX7_init_164 : decode cX7_init 164 = .ok (.iconst 0, 1) := dk_3 (dk_at dksX7_init_6 23 rfl rfl)
theorem dX7_init_165 : decode cX7_init 165 = .ok (.istore_n 1, 1) := dk_60 (dk_at dksX7_init_7 0 rfl rfl)
theorem dX7_init_166 : decode cX7_init 166 = .ok (.iload_n 1, 1) := dk_27 (dk_at dksX7_init_7 1 rfl rfl)
theorem dX7_init_167 : decode cX7_init 167 = .ok (.bipush 100, 2) := dk_16 100 (dk_at dksX7_init_7 2 rfl rfl)
theorem dX7_init_169 : decode cX7_init 169 = .ok (.if_icmp .ge 20, 3) := dk_162 0 20 (dk_at dksX7_init_7 4 rfl rfl)
theorem dX7_init_172 : decode cX7_init 172 = .ok (.aload_n 0, 1) := dk_42 (dk_at dksX7_init_7 7 rfl rfl)
theorem dX7_init_173 : decode cX7_init 173 = .ok (.getfield 13, 3) := dk_180 0 13 (dk_at dksX7_init_7 8 rfl rfl)
theorem dX7_init_176 : decode cX7_init 176 = .ok (.sipush 3458, 3) := dk_17 13 130 (dk_at dksX7_init_7 11 rfl rfl)
theorem dX7_init_179 : decode cX7_init 179 = .ok (.iload_n 1, 1) := dk_27 (dk_at dksX7_init_7 14 rfl rfl)
theorem dX7_init_180 : decode cX7_init 180 = .ok (.iadd, 1) := dk_96 (dk_at dksX7_init_7 15 rfl rfl)
theorem dX7_init_181 : decode cX7_init 181 = .ok (.iconst (-1), 1) := dk_2 (dk_at dksX7_init_7 16 rfl rfl)
theorem dX7_init_182 : decode cX7_init 182 = .ok (.iastore, 1) := dk_79 (dk_at dksX7_init_7 17 rfl rfl)
theorem dX7_init_183 : decode cX7_init 183 = .ok (.iinc 1 1, 3) := dk_132 1 1 (dk_at dksX7_init_7 18 rfl rfl)
theorem dX7_init_186 : decode cX7_init 186 = .ok (.goto (-20), 3) := dk_167 255 236 (dk_at dksX7_init_7 21 rfl rfl)
theorem dX7_init_189 : decode cX7_init 189 = .ok (.aload_n 0, 1) := dk_42 (dk_at dksX7_init_8 0 rfl rfl)
theorem dX7_init_190 : decode cX7_init 190 = .ok (.invokevirtual 73, 3) := dk_182 0 73 (dk_at dksX7_init_8 1 rfl rfl)
theorem dX7_init_193 : decode cX7_init 193 = .ok (.return_, 1) := dk_177 (dk_at dksX7_init_8 4 rfl rfl)
abbrev cX7_measure : ByteArray := prog_19_method_21_code
def yX7_measure : MethodName := ⟨RX7, "measure", "()V"⟩
def dkwX7_measure_8 : List UInt8 := [167, 255, 105, 177]
abbrev dktX7_measure_8 : List UInt8 := dkwX7_measure_8 ++ []
def dkwX7_measure_7 : List UInt8 := [180, 0, 13, 29, 42, 180, 0, 13, 21, 4, 46, 21, 5, 96, 79, 132, 2, 1, 167, 255, 119, 132, 1, 1]
abbrev dktX7_measure_7 : List UInt8 := dkwX7_measure_7 ++ dktX7_measure_8
def dkwX7_measure_6 : List UInt8 := [96, 79, 42, 180, 0, 13, 21, 4, 46, 21, 5, 96, 42, 180, 0, 13, 29, 46, 162, 0, 19, 42]
abbrev dktX7_measure_6 : List UInt8 := dkwX7_measure_6 ++ dktX7_measure_7
def dkwX7_measure_5 : List UInt8 := [42, 180, 0, 13, 21, 4, 46, 162, 0, 19, 42, 180, 0, 13, 21, 4, 42, 180, 0, 13, 29, 46, 21, 5]
abbrev dktX7_measure_5 : List UInt8 := dkwX7_measure_5 ++ dktX7_measure_6
def dkwX7_measure_4 : List UInt8 := [180, 0, 13, 17, 13, 82, 6, 28, 104, 96, 5, 96, 46, 54, 5, 42, 180, 0, 13, 29, 46, 21, 5, 96]
abbrev dktX7_measure_4 : List UInt8 := dkwX7_measure_4 ++ dktX7_measure_5
def dkwX7_measure_3 : List UInt8 := [96, 62, 17, 17, 178, 42, 180, 0, 13, 17, 13, 82, 6, 28, 104, 96, 4, 96, 46, 96, 54, 4, 42]
abbrev dktX7_measure_3 : List UInt8 := dkwX7_measure_3 ++ dktX7_measure_4
def dkwX7_measure_2 : List UInt8 := [180, 0, 13, 16, 6, 46, 162, 0, 132, 17, 17, 178, 42, 180, 0, 13, 17, 13, 82, 6, 28, 104, 96, 46]
abbrev dktX7_measure_2 : List UInt8 := dkwX7_measure_2 ++ dktX7_measure_3
def dkwX7_measure_1 : List UInt8 := [167, 0, 5, 18, 136, 79, 132, 1, 1, 167, 255, 227, 3, 60, 27, 16, 6, 162, 0, 151, 3, 61, 28, 42]
abbrev dktX7_measure_1 : List UInt8 := dkwX7_measure_1 ++ dktX7_measure_2
def dkwX7_measure_0 : List UInt8 := [3, 60, 27, 16, 6, 162, 0, 29, 42, 180, 0, 13, 17, 17, 178, 27, 96, 27, 154, 0, 7, 3]
abbrev dktX7_measure_0 : List UInt8 := dkwX7_measure_0 ++ dktX7_measure_1
theorem dksX7_measure_0 : cX7_measure.data.toList.drop 0 = dktX7_measure_0 := by decide +kernel
theorem dksX7_measure_1 : cX7_measure.data.toList.drop 22 = dktX7_measure_1 := dk_seg dksX7_measure_0 22 rfl rfl
theorem dksX7_measure_2 : cX7_measure.data.toList.drop 46 = dktX7_measure_2 := dk_seg dksX7_measure_1 24 rfl rfl
theorem dksX7_measure_3 : cX7_measure.data.toList.drop 70 = dktX7_measure_3 := dk_seg dksX7_measure_2 24 rfl rfl
theorem dksX7_measure_4 : cX7_measure.data.toList.drop 93 = dktX7_measure_4 := dk_seg dksX7_measure_3 23 rfl rfl
theorem dksX7_measure_5 : cX7_measure.data.toList.drop 117 = dktX7_measure_5 := dk_seg dksX7_measure_4 24 rfl rfl
theorem dksX7_measure_6 : cX7_measure.data.toList.drop 141 = dktX7_measure_6 := dk_seg dksX7_measure_5 24 rfl rfl
theorem dksX7_measure_7 : cX7_measure.data.toList.drop 163 = dktX7_measure_7 := dk_seg dksX7_measure_6 22 rfl rfl
theorem dksX7_measure_8 : cX7_measure.data.toList.drop 187 = dktX7_measure_8 := dk_seg dksX7_measure_7 24 rfl rfl
theorem dX7_measure_0 : decode cX7_measure 0 = .ok (.iconst 0, 1) := dk_3 (dk_at dksX7_measure_0 0 rfl rfl)
theorem dX7_measure_1 : decode cX7_measure 1 = .ok (.istore_n 1, 1) := dk_60 (dk_at dksX7_measure_0 1 rfl rfl)
theorem dX7_measure_2 : decode cX7_measure 2 = .ok (.iload_n 1, 1) := dk_27 (dk_at dksX7_measure_0 2 rfl rfl)
theorem dX7_measure_3 : decode cX7_measure 3 = .ok (.bipush 6, 2) := dk_16 6 (dk_at dksX7_measure_0 3 rfl rfl)
theorem dX7_measure_5 : decode cX7_measure 5 = .ok (.if_icmp .ge 29, 3) := dk_162 0 29 (dk_at dksX7_measure_0 5 rfl rfl)
theorem dX7_measure_8 : decode cX7_measure 8 = .ok (.aload_n 0, 1) := dk_42 (dk_at dksX7_measure_0 8 rfl rfl)
theorem dX7_measure_9 : decode cX7_measure 9 = .ok (.getfield 13, 3) := dk_180 0 13 (dk_at dksX7_measure_0 9 rfl rfl)
theorem dX7_measure_12 : decode cX7_measure 12 = .ok (.sipush 4530, 3) := dk_17 17 178 (dk_at dksX7_measure_0 12 rfl rfl)
theorem dX7_measure_15 : decode cX7_measure 15 = .ok (.iload_n 1, 1) := dk_27 (dk_at dksX7_measure_0 15 rfl rfl)
theorem dX7_measure_16 : decode cX7_measure 16 = .ok (.iadd, 1) := dk_96 (dk_at dksX7_measure_0 16 rfl rfl)
theorem dX7_measure_17 : decode cX7_measure 17 = .ok (.iload_n 1, 1) := dk_27 (dk_at dksX7_measure_0 17 rfl rfl)
theorem dX7_measure_18 : decode cX7_measure 18 = .ok (.ifCond .ne 7, 3) := dk_154 0 7 (dk_at dksX7_measure_0 18 rfl rfl)
theorem dX7_measure_21 : decode cX7_measure 21 = .ok (.iconst 0, 1) := dk_3 (dk_at dksX7_measure_0 21 rfl rfl)
theorem dX7_measure_22 : decode cX7_measure 22 = .ok (.goto 5, 3) := dk_167 0 5 (dk_at dksX7_measure_1 0 rfl rfl)
theorem dX7_measure_25 : decode cX7_measure 25 = .ok (.ldc 136, 2) := dk_18 136 (dk_at dksX7_measure_1 3 rfl rfl)
theorem dX7_measure_27 : decode cX7_measure 27 = .ok (.iastore, 1) := dk_79 (dk_at dksX7_measure_1 5 rfl rfl)
theorem dX7_measure_28 : decode cX7_measure 28 = .ok (.iinc 1 1, 3) := dk_132 1 1 (dk_at dksX7_measure_1 6 rfl rfl)
theorem dX7_measure_31 : decode cX7_measure 31 = .ok (.goto (-29), 3) := dk_167 255 227 (dk_at dksX7_measure_1 9 rfl rfl)
theorem dX7_measure_34 : decode cX7_measure 34 = .ok (.iconst 0, 1) := dk_3 (dk_at dksX7_measure_1 12 rfl rfl)
theorem dX7_measure_35 : decode cX7_measure 35 = .ok (.istore_n 1, 1) := dk_60 (dk_at dksX7_measure_1 13 rfl rfl)
theorem dX7_measure_36 : decode cX7_measure 36 = .ok (.iload_n 1, 1) := dk_27 (dk_at dksX7_measure_1 14 rfl rfl)
theorem dX7_measure_37 : decode cX7_measure 37 = .ok (.bipush 6, 2) := dk_16 6 (dk_at dksX7_measure_1 15 rfl rfl)
theorem dX7_measure_39 : decode cX7_measure 39 = .ok (.if_icmp .ge 151, 3) := dk_162 0 151 (dk_at dksX7_measure_1 17 rfl rfl)
theorem dX7_measure_42 : decode cX7_measure 42 = .ok (.iconst 0, 1) := dk_3 (dk_at dksX7_measure_1 20 rfl rfl)
theorem dX7_measure_43 : decode cX7_measure 43 = .ok (.istore_n 2, 1) := dk_61 (dk_at dksX7_measure_1 21 rfl rfl)
theorem dX7_measure_44 : decode cX7_measure 44 = .ok (.iload_n 2, 1) := dk_28 (dk_at dksX7_measure_1 22 rfl rfl)
theorem dX7_measure_45 : decode cX7_measure 45 = .ok (.aload_n 0, 1) := dk_42 (dk_at dksX7_measure_1 23 rfl rfl)
theorem dX7_measure_46 : decode cX7_measure 46 = .ok (.getfield 13, 3) := dk_180 0 13 (dk_at dksX7_measure_2 0 rfl rfl)
theorem dX7_measure_49 : decode cX7_measure 49 = .ok (.bipush 6, 2) := dk_16 6 (dk_at dksX7_measure_2 3 rfl rfl)
theorem dX7_measure_51 : decode cX7_measure 51 = .ok (.iaload, 1) := dk_46 (dk_at dksX7_measure_2 5 rfl rfl)
theorem dX7_measure_52 : decode cX7_measure 52 = .ok (.if_icmp .ge 132, 3) := dk_162 0 132 (dk_at dksX7_measure_2 6 rfl rfl)
theorem dX7_measure_55 : decode cX7_measure 55 = .ok (.sipush 4530, 3) := dk_17 17 178 (dk_at dksX7_measure_2 9 rfl rfl)
theorem dX7_measure_58 : decode cX7_measure 58 = .ok (.aload_n 0, 1) := dk_42 (dk_at dksX7_measure_2 12 rfl rfl)
theorem dX7_measure_59 : decode cX7_measure 59 = .ok (.getfield 13, 3) := dk_180 0 13 (dk_at dksX7_measure_2 13 rfl rfl)
theorem dX7_measure_62 : decode cX7_measure 62 = .ok (.sipush 3410, 3) := dk_17 13 82 (dk_at dksX7_measure_2 16 rfl rfl)
theorem dX7_measure_65 : decode cX7_measure 65 = .ok (.iconst 3, 1) := dk_6 (dk_at dksX7_measure_2 19 rfl rfl)
theorem dX7_measure_66 : decode cX7_measure 66 = .ok (.iload_n 2, 1) := dk_28 (dk_at dksX7_measure_2 20 rfl rfl)
theorem dX7_measure_67 : decode cX7_measure 67 = .ok (.imul, 1) := dk_104 (dk_at dksX7_measure_2 21 rfl rfl)
theorem dX7_measure_68 : decode cX7_measure 68 = .ok (.iadd, 1) := dk_96 (dk_at dksX7_measure_2 22 rfl rfl)
theorem dX7_measure_69 : decode cX7_measure 69 = .ok (.iaload, 1) := dk_46 (dk_at dksX7_measure_2 23 rfl rfl)
theorem dX7_measure_70 : decode cX7_measure 70 = .ok (.iadd, 1) := dk_96 (dk_at dksX7_measure_3 0 rfl rfl)
theorem dX7_measure_71 : decode cX7_measure 71 = .ok (.istore_n 3, 1) := dk_62 (dk_at dksX7_measure_3 1 rfl rfl)
theorem dX7_measure_72 : decode cX7_measure 72 = .ok (.sipush 4530, 3) := dk_17 17 178 (dk_at dksX7_measure_3 2 rfl rfl)
theorem dX7_measure_75 : decode cX7_measure 75 = .ok (.aload_n 0, 1) := dk_42 (dk_at dksX7_measure_3 5 rfl rfl)
theorem dX7_measure_76 : decode cX7_measure 76 = .ok (.getfield 13, 3) := dk_180 0 13 (dk_at dksX7_measure_3 6 rfl rfl)
theorem dX7_measure_79 : decode cX7_measure 79 = .ok (.sipush 3410, 3) := dk_17 13 82 (dk_at dksX7_measure_3 9 rfl rfl)
theorem dX7_measure_82 : decode cX7_measure 82 = .ok (.iconst 3, 1) := dk_6 (dk_at dksX7_measure_3 12 rfl rfl)
theorem dX7_measure_83 : decode cX7_measure 83 = .ok (.iload_n 2, 1) := dk_28 (dk_at dksX7_measure_3 13 rfl rfl)
theorem dX7_measure_84 : decode cX7_measure 84 = .ok (.imul, 1) := dk_104 (dk_at dksX7_measure_3 14 rfl rfl)
theorem dX7_measure_85 : decode cX7_measure 85 = .ok (.iadd, 1) := dk_96 (dk_at dksX7_measure_3 15 rfl rfl)
theorem dX7_measure_86 : decode cX7_measure 86 = .ok (.iconst 1, 1) := dk_4 (dk_at dksX7_measure_3 16 rfl rfl)
theorem dX7_measure_87 : decode cX7_measure 87 = .ok (.iadd, 1) := dk_96 (dk_at dksX7_measure_3 17 rfl rfl)
theorem dX7_measure_88 : decode cX7_measure 88 = .ok (.iaload, 1) := dk_46 (dk_at dksX7_measure_3 18 rfl rfl)
theorem dX7_measure_89 : decode cX7_measure 89 = .ok (.iadd, 1) := dk_96 (dk_at dksX7_measure_3 19 rfl rfl)
theorem dX7_measure_90 : decode cX7_measure 90 = .ok (.istore 4, 2) := dk_54 4 (dk_at dksX7_measure_3 20 rfl rfl)
theorem dX7_measure_92 : decode cX7_measure 92 = .ok (.aload_n 0, 1) := dk_42 (dk_at dksX7_measure_3 22 rfl rfl)
theorem dX7_measure_93 : decode cX7_measure 93 = .ok (.getfield 13, 3) := dk_180 0 13 (dk_at dksX7_measure_4 0 rfl rfl)
theorem dX7_measure_96 : decode cX7_measure 96 = .ok (.sipush 3410, 3) := dk_17 13 82 (dk_at dksX7_measure_4 3 rfl rfl)
theorem dX7_measure_99 : decode cX7_measure 99 = .ok (.iconst 3, 1) := dk_6 (dk_at dksX7_measure_4 6 rfl rfl)
theorem dX7_measure_100 : decode cX7_measure 100 = .ok (.iload_n 2, 1) := dk_28 (dk_at dksX7_measure_4 7 rfl rfl)
theorem dX7_measure_101 : decode cX7_measure 101 = .ok (.imul, 1) := dk_104 (dk_at dksX7_measure_4 8 rfl rfl)
theorem dX7_measure_102 : decode cX7_measure 102 = .ok (.iadd, 1) := dk_96 (dk_at dksX7_measure_4 9 rfl rfl)
theorem dX7_measure_103 : decode cX7_measure 103 = .ok (.iconst 2, 1) := dk_5 (dk_at dksX7_measure_4 10 rfl rfl)
theorem dX7_measure_104 : decode cX7_measure 104 = .ok (.iadd, 1) := dk_96 (dk_at dksX7_measure_4 11 rfl rfl)
theorem dX7_measure_105 : decode cX7_measure 105 = .ok (.iaload, 1) := dk_46 (dk_at dksX7_measure_4 12 rfl rfl)
theorem dX7_measure_106 : decode cX7_measure 106 = .ok (.istore 5, 2) := dk_54 5 (dk_at dksX7_measure_4 13 rfl rfl)
theorem dX7_measure_108 : decode cX7_measure 108 = .ok (.aload_n 0, 1) := dk_42 (dk_at dksX7_measure_4 15 rfl rfl)
theorem dX7_measure_109 : decode cX7_measure 109 = .ok (.getfield 13, 3) := dk_180 0 13 (dk_at dksX7_measure_4 16 rfl rfl)
theorem dX7_measure_112 : decode cX7_measure 112 = .ok (.iload_n 3, 1) := dk_29 (dk_at dksX7_measure_4 19 rfl rfl)
theorem dX7_measure_113 : decode cX7_measure 113 = .ok (.iaload, 1) := dk_46 (dk_at dksX7_measure_4 20 rfl rfl)
theorem dX7_measure_114 : decode cX7_measure 114 = .ok (.iload 5, 2) := dk_21 5 (dk_at dksX7_measure_4 21 rfl rfl)
theorem dX7_measure_116 : decode cX7_measure 116 = .ok (.iadd, 1) := dk_96 (dk_at dksX7_measure_4 23 rfl rfl)
theorem dX7_measure_117 : decode cX7_measure 117 = .ok (.aload_n 0, 1) := dk_42 (dk_at dksX7_measure_5 0 rfl rfl)
theorem dX7_measure_118 : decode cX7_measure 118 = .ok (.getfield 13, 3) := dk_180 0 13 (dk_at dksX7_measure_5 1 rfl rfl)
theorem dX7_measure_121 : decode cX7_measure 121 = .ok (.iload 4, 2) := dk_21 4 (dk_at dksX7_measure_5 4 rfl rfl)
theorem dX7_measure_123 : decode cX7_measure 123 = .ok (.iaload, 1) := dk_46 (dk_at dksX7_measure_5 6 rfl rfl)
theorem dX7_measure_124 : decode cX7_measure 124 = .ok (.if_icmp .ge 19, 3) := dk_162 0 19 (dk_at dksX7_measure_5 7 rfl rfl)
theorem dX7_measure_127 : decode cX7_measure 127 = .ok (.aload_n 0, 1) := dk_42 (dk_at dksX7_measure_5 10 rfl rfl)
theorem dX7_measure_128 : decode cX7_measure 128 = .ok (.getfield 13, 3) := dk_180 0 13 (dk_at dksX7_measure_5 11 rfl rfl)
theorem dX7_measure_131 : decode cX7_measure 131 = .ok (.iload 4, 2) := dk_21 4 (dk_at dksX7_measure_5 14 rfl rfl)
theorem dX7_measure_133 : decode cX7_measure 133 = .ok (.aload_n 0, 1) := dk_42 (dk_at dksX7_measure_5 16 rfl rfl)
theorem dX7_measure_134 : decode cX7_measure 134 = .ok (.getfield 13, 3) := dk_180 0 13 (dk_at dksX7_measure_5 17 rfl rfl)
theorem dX7_measure_137 : decode cX7_measure 137 = .ok (.iload_n 3, 1) := dk_29 (dk_at dksX7_measure_5 20 rfl rfl)
theorem dX7_measure_138 : decode cX7_measure 138 = .ok (.iaload, 1) := dk_46 (dk_at dksX7_measure_5 21 rfl rfl)
theorem dX7_measure_139 : decode cX7_measure 139 = .ok (.iload 5, 2) := dk_21 5 (dk_at dksX7_measure_5 22 rfl rfl)
theorem dX7_measure_141 : decode cX7_measure 141 = .ok (.iadd, 1) := dk_96 (dk_at dksX7_measure_6 0 rfl rfl)
theorem dX7_measure_142 : decode cX7_measure 142 = .ok (.iastore, 1) := dk_79 (dk_at dksX7_measure_6 1 rfl rfl)
theorem dX7_measure_143 : decode cX7_measure 143 = .ok (.aload_n 0, 1) := dk_42 (dk_at dksX7_measure_6 2 rfl rfl)
theorem dX7_measure_144 : decode cX7_measure 144 = .ok (.getfield 13, 3) := dk_180 0 13 (dk_at dksX7_measure_6 3 rfl rfl)
theorem dX7_measure_147 : decode cX7_measure 147 = .ok (.iload 4, 2) := dk_21 4 (dk_at dksX7_measure_6 6 rfl rfl)
theorem dX7_measure_149 : decode cX7_measure 149 = .ok (.iaload, 1) := dk_46 (dk_at dksX7_measure_6 8 rfl rfl)
theorem dX7_measure_150 : decode cX7_measure 150 = .ok (.iload 5, 2) := dk_21 5 (dk_at dksX7_measure_6 9 rfl rfl)
theorem dX7_measure_152 : decode cX7_measure 152 = .ok (.iadd, 1) := dk_96 (dk_at dksX7_measure_6 11 rfl rfl)
theorem dX7_measure_153 : decode cX7_measure 153 = .ok (.aload_n 0, 1) := dk_42 (dk_at dksX7_measure_6 12 rfl rfl)
theorem dX7_measure_154 : decode cX7_measure 154 = .ok (.getfield 13, 3) := dk_180 0 13 (dk_at dksX7_measure_6 13 rfl rfl)
theorem dX7_measure_157 : decode cX7_measure 157 = .ok (.iload_n 3, 1) := dk_29 (dk_at dksX7_measure_6 16 rfl rfl)
theorem dX7_measure_158 : decode cX7_measure 158 = .ok (.iaload, 1) := dk_46 (dk_at dksX7_measure_6 17 rfl rfl)
theorem dX7_measure_159 : decode cX7_measure 159 = .ok (.if_icmp .ge 19, 3) := dk_162 0 19 (dk_at dksX7_measure_6 18 rfl rfl)
theorem dX7_measure_162 : decode cX7_measure 162 = .ok (.aload_n 0, 1) := dk_42 (dk_at dksX7_measure_6 21 rfl rfl)
theorem dX7_measure_163 : decode cX7_measure 163 = .ok (.getfield 13, 3) := dk_180 0 13 (dk_at dksX7_measure_7 0 rfl rfl)
theorem dX7_measure_166 : decode cX7_measure 166 = .ok (.iload_n 3, 1) := dk_29 (dk_at dksX7_measure_7 3 rfl rfl)
theorem dX7_measure_167 : decode cX7_measure 167 = .ok (.aload_n 0, 1) := dk_42 (dk_at dksX7_measure_7 4 rfl rfl)
theorem dX7_measure_168 : decode cX7_measure 168 = .ok (.getfield 13, 3) := dk_180 0 13 (dk_at dksX7_measure_7 5 rfl rfl)
theorem dX7_measure_171 : decode cX7_measure 171 = .ok (.iload 4, 2) := dk_21 4 (dk_at dksX7_measure_7 8 rfl rfl)
theorem dX7_measure_173 : decode cX7_measure 173 = .ok (.iaload, 1) := dk_46 (dk_at dksX7_measure_7 10 rfl rfl)
theorem dX7_measure_174 : decode cX7_measure 174 = .ok (.iload 5, 2) := dk_21 5 (dk_at dksX7_measure_7 11 rfl rfl)
theorem dX7_measure_176 : decode cX7_measure 176 = .ok (.iadd, 1) := dk_96 (dk_at dksX7_measure_7 13 rfl rfl)
theorem dX7_measure_177 : decode cX7_measure 177 = .ok (.iastore, 1) := dk_79 (dk_at dksX7_measure_7 14 rfl rfl)
theorem dX7_measure_178 : decode cX7_measure 178 = .ok (.iinc 2 1, 3) := dk_132 2 1 (dk_at dksX7_measure_7 15 rfl rfl)
theorem dX7_measure_181 : decode cX7_measure 181 = .ok (.goto (-137), 3) := dk_167 255 119 (dk_at dksX7_measure_7 18 rfl rfl)
theorem dX7_measure_184 : decode cX7_measure 184 = .ok (.iinc 1 1, 3) := dk_132 1 1 (dk_at dksX7_measure_7 21 rfl rfl)
theorem dX7_measure_187 : decode cX7_measure 187 = .ok (.goto (-151), 3) := dk_167 255 105 (dk_at dksX7_measure_8 0 rfl rfl)
theorem dX7_measure_190 : decode cX7_measure 190 = .ok (.return_, 1) := dk_177 (dk_at dksX7_measure_8 3 rfl rfl)
abbrev cX7_status : ByteArray := prog_19_method_6_code
def yX7_status : MethodName := ⟨RX7, "status", "(I)I"⟩
def dkwX7_status_1 : List UInt8 := [182, 0, 80, 172]
abbrev dktX7_status_1 : List UInt8 := dkwX7_status_1 ++ []
def dkwX7_status_0 : List UInt8 := [27, 16, 248, 16, 254, 184, 0, 76, 153, 0, 13, 42, 180, 0, 21, 27, 116, 46, 167, 0, 9, 42, 16, 249]
abbrev dktX7_status_0 : List UInt8 := dkwX7_status_0 ++ dktX7_status_1
theorem dksX7_status_0 : cX7_status.data.toList.drop 0 = dktX7_status_0 := by decide +kernel
theorem dksX7_status_1 : cX7_status.data.toList.drop 24 = dktX7_status_1 := dk_seg dksX7_status_0 24 rfl rfl
theorem dX7_status_0 : decode cX7_status 0 = .ok (.iload_n 1, 1) := dk_27 (dk_at dksX7_status_0 0 rfl rfl)
theorem dX7_status_1 : decode cX7_status 1 = .ok (.bipush (-8), 2) := dk_16 248 (dk_at dksX7_status_0 1 rfl rfl)
theorem dX7_status_3 : decode cX7_status 3 = .ok (.bipush (-2), 2) := dk_16 254 (dk_at dksX7_status_0 3 rfl rfl)
theorem dX7_status_5 : decode cX7_status 5 = .ok (.invokestatic 76, 3) := dk_184 0 76 (dk_at dksX7_status_0 5 rfl rfl)
theorem dX7_status_8 : decode cX7_status 8 = .ok (.ifCond .eq 13, 3) := dk_153 0 13 (dk_at dksX7_status_0 8 rfl rfl)
theorem dX7_status_11 : decode cX7_status 11 = .ok (.aload_n 0, 1) := dk_42 (dk_at dksX7_status_0 11 rfl rfl)
theorem dX7_status_12 : decode cX7_status 12 = .ok (.getfield 21, 3) := dk_180 0 21 (dk_at dksX7_status_0 12 rfl rfl)
theorem dX7_status_15 : decode cX7_status 15 = .ok (.iload_n 1, 1) := dk_27 (dk_at dksX7_status_0 15 rfl rfl)
theorem dX7_status_16 : decode cX7_status 16 = .ok (.ineg, 1) := dk_116 (dk_at dksX7_status_0 16 rfl rfl)
theorem dX7_status_17 : decode cX7_status 17 = .ok (.iaload, 1) := dk_46 (dk_at dksX7_status_0 17 rfl rfl)
theorem dX7_status_18 : decode cX7_status 18 = .ok (.goto 9, 3) := dk_167 0 9 (dk_at dksX7_status_0 18 rfl rfl)
theorem dX7_status_21 : decode cX7_status 21 = .ok (.aload_n 0, 1) := dk_42 (dk_at dksX7_status_0 21 rfl rfl)
theorem dX7_status_22 : decode cX7_status 22 = .ok (.bipush (-7), 2) := dk_16 249 (dk_at dksX7_status_0 22 rfl rfl)
theorem dX7_status_24 : decode cX7_status 24 = .ok (.invokevirtual 80, 3) := dk_182 0 80 (dk_at dksX7_status_1 0 rfl rfl)
theorem dX7_status_27 : decode cX7_status 27 = .ok (.ireturn, 1) := dk_172 (dk_at dksX7_status_1 3 rfl rfl)
abbrev cX7_in : ByteArray := prog_19_method_2_code
def yX7_in : MethodName := ⟨RX7, "in", "(III)Z"⟩
def dkwX7_in_0 : List UInt8 := [26, 27, 161, 0, 12, 26, 28, 163, 0, 7, 4, 167, 0, 4, 3, 172]
abbrev dktX7_in_0 : List UInt8 := dkwX7_in_0 ++ []
theorem dksX7_in_0 : cX7_in.data.toList.drop 0 = dktX7_in_0 := by decide +kernel
theorem dX7_in_0 : decode cX7_in 0 = .ok (.iload_n 0, 1) := dk_26 (dk_at dksX7_in_0 0 rfl rfl)
theorem dX7_in_1 : decode cX7_in 1 = .ok (.iload_n 1, 1) := dk_27 (dk_at dksX7_in_0 1 rfl rfl)
theorem dX7_in_2 : decode cX7_in 2 = .ok (.if_icmp .lt 12, 3) := dk_161 0 12 (dk_at dksX7_in_0 2 rfl rfl)
theorem dX7_in_5 : decode cX7_in 5 = .ok (.iload_n 0, 1) := dk_26 (dk_at dksX7_in_0 5 rfl rfl)
theorem dX7_in_6 : decode cX7_in 6 = .ok (.iload_n 2, 1) := dk_28 (dk_at dksX7_in_0 6 rfl rfl)
theorem dX7_in_7 : decode cX7_in 7 = .ok (.if_icmp .gt 7, 3) := dk_163 0 7 (dk_at dksX7_in_0 7 rfl rfl)
theorem dX7_in_10 : decode cX7_in 10 = .ok (.iconst 1, 1) := dk_4 (dk_at dksX7_in_0 10 rfl rfl)
theorem dX7_in_11 : decode cX7_in 11 = .ok (.goto 4, 3) := dk_167 0 4 (dk_at dksX7_in_0 11 rfl rfl)
theorem dX7_in_14 : decode cX7_in 14 = .ok (.iconst 0, 1) := dk_3 (dk_at dksX7_in_0 14 rfl rfl)
theorem dX7_in_15 : decode cX7_in 15 = .ok (.ireturn, 1) := dk_172 (dk_at dksX7_in_0 15 rfl rfl)
abbrev cX7_refuse : ByteArray := prog_19_method_4_code
def yX7_refuse : MethodName := ⟨RX7, "refuse", "(I)I"⟩
def dkwX7_refuse_0 : List UInt8 := [42, 180, 0, 21, 27, 116, 92, 46, 4, 96, 79, 27, 172]
abbrev dktX7_refuse_0 : List UInt8 := dkwX7_refuse_0 ++ []
theorem dksX7_refuse_0 : cX7_refuse.data.toList.drop 0 = dktX7_refuse_0 := by decide +kernel
theorem dX7_refuse_0 : decode cX7_refuse 0 = .ok (.aload_n 0, 1) := dk_42 (dk_at dksX7_refuse_0 0 rfl rfl)
theorem dX7_refuse_1 : decode cX7_refuse 1 = .ok (.getfield 21, 3) := dk_180 0 21 (dk_at dksX7_refuse_0 1 rfl rfl)
theorem dX7_refuse_4 : decode cX7_refuse 4 = .ok (.iload_n 1, 1) := dk_27 (dk_at dksX7_refuse_0 4 rfl rfl)
theorem dX7_refuse_5 : decode cX7_refuse 5 = .ok (.ineg, 1) := dk_116 (dk_at dksX7_refuse_0 5 rfl rfl)
theorem dX7_refuse_6 : decode cX7_refuse 6 = .ok (.dup2, 1) := dk_92 (dk_at dksX7_refuse_0 6 rfl rfl)
theorem dX7_refuse_7 : decode cX7_refuse 7 = .ok (.iaload, 1) := dk_46 (dk_at dksX7_refuse_0 7 rfl rfl)
theorem dX7_refuse_8 : decode cX7_refuse 8 = .ok (.iconst 1, 1) := dk_4 (dk_at dksX7_refuse_0 8 rfl rfl)
theorem dX7_refuse_9 : decode cX7_refuse 9 = .ok (.iadd, 1) := dk_96 (dk_at dksX7_refuse_0 9 rfl rfl)
theorem dX7_refuse_10 : decode cX7_refuse 10 = .ok (.iastore, 1) := dk_79 (dk_at dksX7_refuse_0 10 rfl rfl)
theorem dX7_refuse_11 : decode cX7_refuse 11 = .ok (.iload_n 1, 1) := dk_27 (dk_at dksX7_refuse_0 11 rfl rfl)
theorem dX7_refuse_12 : decode cX7_refuse 12 = .ok (.ireturn, 1) := dk_172 (dk_at dksX7_refuse_0 12 rfl rfl)
abbrev cX7_stand : ByteArray := prog_19_method_16_code
def yX7_stand : MethodName := ⟨RX7, "stand", "(IIII)I"⟩
def dkwX7_stand_12 : List UInt8 := [4, 46, 4, 100, 172]
abbrev dktX7_stand_12 : List UInt8 := dkwX7_stand_12 ++ []
def dkwX7_stand_11 : List UInt8 := [180, 0, 13, 21, 5, 16, 10, 96, 2, 79, 42, 180, 0, 13, 4, 92, 46, 4, 96, 79, 42, 180, 0, 13]
abbrev dktX7_stand_11 : List UInt8 := dkwX7_stand_11 ++ dktX7_stand_12
def dkwX7_stand_10 : List UInt8 := [42, 180, 0, 13, 21, 5, 16, 6, 96, 21, 4, 79, 42, 180, 0, 13, 21, 5, 16, 9, 96, 2, 79, 42]
abbrev dktX7_stand_10 : List UInt8 := dkwX7_stand_10 ++ dktX7_stand_11
def dkwX7_stand_9 : List UInt8 := [16, 10, 112, 79, 42, 180, 0, 13, 21, 5, 7, 96, 28, 79, 42, 180, 0, 13, 21, 5, 8, 96, 29, 79]
abbrev dktX7_stand_9 : List UInt8 := dkwX7_stand_9 ++ dktX7_stand_10
def dkwX7_stand_8 : List UInt8 := [180, 0, 13, 21, 5, 4, 96, 27, 16, 10, 108, 16, 10, 112, 79, 42, 180, 0, 13, 21, 5, 5, 96, 27]
abbrev dktX7_stand_8 : List UInt8 := dkwX7_stand_8 ++ dktX7_stand_9
def dkwX7_stand_7 : List UInt8 := [17, 3, 232, 108, 79, 42, 180, 0, 13, 21, 5, 3, 96, 27, 16, 100, 108, 16, 10, 112, 79, 42]
abbrev dktX7_stand_7 : List UInt8 := dkwX7_stand_7 ++ dktX7_stand_8
def dkwX7_stand_6 : List UInt8 := [21, 5, 21, 6, 96, 3, 79, 132, 6, 1, 167, 255, 235, 42, 180, 0, 13, 21, 5, 6, 96, 27]
abbrev dktX7_stand_6 : List UInt8 := dkwX7_stand_6 ++ dktX7_stand_7
def dkwX7_stand_5 : List UInt8 := [180, 0, 13, 4, 46, 104, 96, 54, 5, 3, 54, 6, 21, 6, 16, 14, 162, 0, 20, 42, 180, 0, 13]
abbrev dktX7_stand_5 : List UInt8 := dkwX7_stand_5 ++ dktX7_stand_6
def dkwX7_stand_4 : List UInt8 := [180, 0, 13, 4, 46, 16, 24, 160, 0, 10, 42, 16, 248, 182, 0, 80, 172, 16, 16, 16, 14, 42]
abbrev dktX7_stand_4 : List UInt8 := dkwX7_stand_4 ++ dktX7_stand_5
def dkwX7_stand_3 : List UInt8 := [184, 0, 76, 153, 0, 12, 21, 4, 154, 0, 14, 29, 158, 0, 10, 42, 16, 249, 182, 0, 80, 172, 42]
abbrev dktX7_stand_3 : List UInt8 := dkwX7_stand_3 ++ dktX7_stand_4
def dkwX7_stand_2 : List UInt8 := [184, 0, 76, 153, 0, 34, 29, 3, 17, 1, 144, 184, 0, 76, 153, 0, 23, 21, 4, 3, 16, 100]
abbrev dktX7_stand_2 : List UInt8 := dkwX7_stand_2 ++ dktX7_stand_3
def dkwX7_stand_1 : List UInt8 := [16, 10, 108, 16, 10, 112, 7, 163, 0, 53, 27, 16, 10, 112, 6, 163, 0, 45, 28, 4, 17, 3, 231]
abbrev dktX7_stand_1 : List UInt8 := dkwX7_stand_1 ++ dktX7_stand_2
def dkwX7_stand_0 : List UInt8 := [27, 3, 17, 7, 207, 184, 0, 76, 153, 0, 76, 27, 16, 100, 108, 16, 10, 112, 16, 6, 162, 0, 64, 27]
abbrev dktX7_stand_0 : List UInt8 := dkwX7_stand_0 ++ dktX7_stand_1
theorem dksX7_stand_0 : cX7_stand.data.toList.drop 0 = dktX7_stand_0 := by decide +kernel
theorem dksX7_stand_1 : cX7_stand.data.toList.drop 24 = dktX7_stand_1 := dk_seg dksX7_stand_0 24 rfl rfl
theorem dksX7_stand_2 : cX7_stand.data.toList.drop 47 = dktX7_stand_2 := dk_seg dksX7_stand_1 23 rfl rfl
theorem dksX7_stand_3 : cX7_stand.data.toList.drop 69 = dktX7_stand_3 := dk_seg dksX7_stand_2 22 rfl rfl
theorem dksX7_stand_4 : cX7_stand.data.toList.drop 92 = dktX7_stand_4 := dk_seg dksX7_stand_3 23 rfl rfl
theorem dksX7_stand_5 : cX7_stand.data.toList.drop 114 = dktX7_stand_5 := dk_seg dksX7_stand_4 22 rfl rfl
theorem dksX7_stand_6 : cX7_stand.data.toList.drop 137 = dktX7_stand_6 := dk_seg dksX7_stand_5 23 rfl rfl
theorem dksX7_stand_7 : cX7_stand.data.toList.drop 159 = dktX7_stand_7 := dk_seg dksX7_stand_6 22 rfl rfl
theorem dksX7_stand_8 : cX7_stand.data.toList.drop 181 = dktX7_stand_8 := dk_seg dksX7_stand_7 22 rfl rfl
theorem dksX7_stand_9 : cX7_stand.data.toList.drop 205 = dktX7_stand_9 := dk_seg dksX7_stand_8 24 rfl rfl
theorem dksX7_stand_10 : cX7_stand.data.toList.drop 229 = dktX7_stand_10 := dk_seg dksX7_stand_9 24 rfl rfl
theorem dksX7_stand_11 : cX7_stand.data.toList.drop 253 = dktX7_stand_11 := dk_seg dksX7_stand_10 24 rfl rfl
theorem dksX7_stand_12 : cX7_stand.data.toList.drop 277 = dktX7_stand_12 := dk_seg dksX7_stand_11 24 rfl rfl
theorem dX7_stand_0 : decode cX7_stand 0 = .ok (.iload_n 1, 1) := dk_27 (dk_at dksX7_stand_0 0 rfl rfl)
theorem dX7_stand_1 : decode cX7_stand 1 = .ok (.iconst 0, 1) := dk_3 (dk_at dksX7_stand_0 1 rfl rfl)
theorem dX7_stand_2 : decode cX7_stand 2 = .ok (.sipush 1999, 3) := dk_17 7 207 (dk_at dksX7_stand_0 2 rfl rfl)
theorem dX7_stand_5 : decode cX7_stand 5 = .ok (.invokestatic 76, 3) := dk_184 0 76 (dk_at dksX7_stand_0 5 rfl rfl)
theorem dX7_stand_8 : decode cX7_stand 8 = .ok (.ifCond .eq 76, 3) := dk_153 0 76 (dk_at dksX7_stand_0 8 rfl rfl)
theorem dX7_stand_11 : decode cX7_stand 11 = .ok (.iload_n 1, 1) := dk_27 (dk_at dksX7_stand_0 11 rfl rfl)
theorem dX7_stand_12 : decode cX7_stand 12 = .ok (.bipush 100, 2) := dk_16 100 (dk_at dksX7_stand_0 12 rfl rfl)
theorem dX7_stand_14 : decode cX7_stand 14 = .ok (.idiv, 1) := dk_108 (dk_at dksX7_stand_0 14 rfl rfl)
theorem dX7_stand_15 : decode cX7_stand 15 = .ok (.bipush 10, 2) := dk_16 10 (dk_at dksX7_stand_0 15 rfl rfl)
theorem dX7_stand_17 : decode cX7_stand 17 = .ok (.irem, 1) := dk_112 (dk_at dksX7_stand_0 17 rfl rfl)
theorem dX7_stand_18 : decode cX7_stand 18 = .ok (.bipush 6, 2) := dk_16 6 (dk_at dksX7_stand_0 18 rfl rfl)
theorem dX7_stand_20 : decode cX7_stand 20 = .ok (.if_icmp .ge 64, 3) := dk_162 0 64 (dk_at dksX7_stand_0 20 rfl rfl)
theorem dX7_stand_23 : decode cX7_stand 23 = .ok (.iload_n 1, 1) := dk_27 (dk_at dksX7_stand_0 23 rfl rfl)
theorem dX7_stand_24 : decode cX7_stand 24 = .ok (.bipush 10, 2) := dk_16 10 (dk_at dksX7_stand_1 0 rfl rfl)
theorem dX7_stand_26 : decode cX7_stand 26 = .ok (.idiv, 1) := dk_108 (dk_at dksX7_stand_1 2 rfl rfl)
theorem dX7_stand_27 : decode cX7_stand 27 = .ok (.bipush 10, 2) := dk_16 10 (dk_at dksX7_stand_1 3 rfl rfl)
theorem dX7_stand_29 : decode cX7_stand 29 = .ok (.irem, 1) := dk_112 (dk_at dksX7_stand_1 5 rfl rfl)
theorem dX7_stand_30 : decode cX7_stand 30 = .ok (.iconst 4, 1) := dk_7 (dk_at dksX7_stand_1 6 rfl rfl)
theorem dX7_stand_31 : decode cX7_stand 31 = .ok (.if_icmp .gt 53, 3) := dk_163 0 53 (dk_at dksX7_stand_1 7 rfl rfl)
theorem dX7_stand_34 : decode cX7_stand 34 = .ok (.iload_n 1, 1) := dk_27 (dk_at dksX7_stand_1 10 rfl rfl)
theorem dX7_stand_35 : decode cX7_stand 35 = .ok (.bipush 10, 2) := dk_16 10 (dk_at dksX7_stand_1 11 rfl rfl)
theorem dX7_stand_37 : decode cX7_stand 37 = .ok (.irem, 1) := dk_112 (dk_at dksX7_stand_1 13 rfl rfl)
theorem dX7_stand_38 : decode cX7_stand 38 = .ok (.iconst 3, 1) := dk_6 (dk_at dksX7_stand_1 14 rfl rfl)
theorem dX7_stand_39 : decode cX7_stand 39 = .ok (.if_icmp .gt 45, 3) := dk_163 0 45 (dk_at dksX7_stand_1 15 rfl rfl)
theorem dX7_stand_42 : decode cX7_stand 42 = .ok (.iload_n 2, 1) := dk_28 (dk_at dksX7_stand_1 18 rfl rfl)
theorem dX7_stand_43 : decode cX7_stand 43 = .ok (.iconst 1, 1) := dk_4 (dk_at dksX7_stand_1 19 rfl rfl)
theorem dX7_stand_44 : decode cX7_stand 44 = .ok (.sipush 999, 3) := dk_17 3 231 (dk_at dksX7_stand_1 20 rfl rfl)
theorem dX7_stand_47 : decode cX7_stand 47 = .ok (.invokestatic 76, 3) := dk_184 0 76 (dk_at dksX7_stand_2 0 rfl rfl)
theorem dX7_stand_50 : decode cX7_stand 50 = .ok (.ifCond .eq 34, 3) := dk_153 0 34 (dk_at dksX7_stand_2 3 rfl rfl)
theorem dX7_stand_53 : decode cX7_stand 53 = .ok (.iload_n 3, 1) := dk_29 (dk_at dksX7_stand_2 6 rfl rfl)
theorem dX7_stand_54 : decode cX7_stand 54 = .ok (.iconst 0, 1) := dk_3 (dk_at dksX7_stand_2 7 rfl rfl)
theorem dX7_stand_55 : decode cX7_stand 55 = .ok (.sipush 400, 3) := dk_17 1 144 (dk_at dksX7_stand_2 8 rfl rfl)
theorem dX7_stand_58 : decode cX7_stand 58 = .ok (.invokestatic 76, 3) := dk_184 0 76 (dk_at dksX7_stand_2 11 rfl rfl)
theorem dX7_stand_61 : decode cX7_stand 61 = .ok (.ifCond .eq 23, 3) := dk_153 0 23 (dk_at dksX7_stand_2 14 rfl rfl)
theorem dX7_stand_64 : decode cX7_stand 64 = .ok (.iload 4, 2) := dk_21 4 (dk_at dksX7_stand_2 17 rfl rfl)
theorem dX7_stand_66 : decode cX7_stand 66 = .ok (.iconst 0, 1) := dk_3 (dk_at dksX7_stand_2 19 rfl rfl)
theorem dX7_stand_67 : decode cX7_stand 67 = .ok (.bipush 100, 2) := dk_16 100 (dk_at dksX7_stand_2 20 rfl rfl)
theorem dX7_stand_69 : decode cX7_stand 69 = .ok (.invokestatic 76, 3) := dk_184 0 76 (dk_at dksX7_stand_3 0 rfl rfl)
theorem dX7_stand_72 : decode cX7_stand 72 = .ok (.ifCond .eq 12, 3) := dk_153 0 12 (dk_at dksX7_stand_3 3 rfl rfl)
theorem dX7_stand_75 : decode cX7_stand 75 = .ok (.iload 4, 2) := dk_21 4 (dk_at dksX7_stand_3 6 rfl rfl)
theorem dX7_stand_77 : decode cX7_stand 77 = .ok (.ifCond .ne 14, 3) := dk_154 0 14 (dk_at dksX7_stand_3 8 rfl rfl)
theorem dX7_stand_80 : decode cX7_stand 80 = .ok (.iload_n 3, 1) := dk_29 (dk_at dksX7_stand_3 11 rfl rfl)
theorem dX7_stand_81 : decode cX7_stand 81 = .ok (.ifCond .le 10, 3) := dk_158 0 10 (dk_at dksX7_stand_3 12 rfl rfl)
theorem dX7_stand_84 : decode cX7_stand 84 = .ok (.aload_n 0, 1) := dk_42 (dk_at dksX7_stand_3 15 rfl rfl)
theorem dX7_stand_85 : decode cX7_stand 85 = .ok (.bipush (-7), 2) := dk_16 249 (dk_at dksX7_stand_3 16 rfl rfl)
theorem dX7_stand_87 : decode cX7_stand 87 = .ok (.invokevirtual 80, 3) := dk_182 0 80 (dk_at dksX7_stand_3 18 rfl rfl)
theorem dX7_stand_90 : decode cX7_stand 90 = .ok (.ireturn, 1) := dk_172 (dk_at dksX7_stand_3 21 rfl rfl)
theorem dX7_stand_91 : decode cX7_stand 91 = .ok (.aload_n 0, 1) := dk_42 (dk_at dksX7_stand_3 22 rfl rfl)
theorem dX7_stand_92 : decode cX7_stand 92 = .ok (.getfield 13, 3) := dk_180 0 13 (dk_at dksX7_stand_4 0 rfl rfl)
theorem dX7_stand_95 : decode cX7_stand 95 = .ok (.iconst 1, 1) := dk_4 (dk_at dksX7_stand_4 3 rfl rfl)
theorem dX7_stand_96 : decode cX7_stand 96 = .ok (.iaload, 1) := dk_46 (dk_at dksX7_stand_4 4 rfl rfl)
theorem dX7_stand_97 : decode cX7_stand 97 = .ok (.bipush 24, 2) := dk_16 24 (dk_at dksX7_stand_4 5 rfl rfl)
theorem dX7_stand_99 : decode cX7_stand 99 = .ok (.if_icmp .ne 10, 3) := dk_160 0 10 (dk_at dksX7_stand_4 7 rfl rfl)
theorem dX7_stand_102 : decode cX7_stand 102 = .ok (.aload_n 0, 1) := dk_42 (dk_at dksX7_stand_4 10 rfl rfl)
theorem dX7_stand_103 : decode cX7_stand 103 = .ok (.bipush (-8), 2) := dk_16 248 (dk_at dksX7_stand_4 11 rfl rfl)
theorem dX7_stand_105 : decode cX7_stand 105 = .ok (.invokevirtual 80, 3) := dk_182 0 80 (dk_at dksX7_stand_4 13 rfl rfl)
theorem dX7_stand_108 : decode cX7_stand 108 = .ok (.ireturn, 1) := dk_172 (dk_at dksX7_stand_4 16 rfl rfl)
theorem dX7_stand_109 : decode cX7_stand 109 = .ok (.bipush 16, 2) := dk_16 16 (dk_at dksX7_stand_4 17 rfl rfl)
theorem dX7_stand_111 : decode cX7_stand 111 = .ok (.bipush 14, 2) := dk_16 14 (dk_at dksX7_stand_4 19 rfl rfl)
theorem dX7_stand_113 : decode cX7_stand 113 = .ok (.aload_n 0, 1) := dk_42 (dk_at dksX7_stand_4 21 rfl rfl)
theorem dX7_stand_114 : decode cX7_stand 114 = .ok (.getfield 13, 3) := dk_180 0 13 (dk_at dksX7_stand_5 0 rfl rfl)
theorem dX7_stand_117 : decode cX7_stand 117 = .ok (.iconst 1, 1) := dk_4 (dk_at dksX7_stand_5 3 rfl rfl)
theorem dX7_stand_118 : decode cX7_stand 118 = .ok (.iaload, 1) := dk_46 (dk_at dksX7_stand_5 4 rfl rfl)
theorem dX7_stand_119 : decode cX7_stand 119 = .ok (.imul, 1) := dk_104 (dk_at dksX7_stand_5 5 rfl rfl)
theorem dX7_stand_120 : decode cX7_stand 120 = .ok (.iadd, 1) := dk_96 (dk_at dksX7_stand_5 6 rfl rfl)
theorem dX7_stand_121 : decode cX7_stand 121 = .ok (.istore 5, 2) := dk_54 5 (dk_at dksX7_stand_5 7 rfl rfl)
theorem dX7_stand_123 : decode cX7_stand 123 = .ok (.iconst 0, 1) := dk_3 (dk_at dksX7_stand_5 9 rfl rfl)
theorem dX7_stand_124 : decode cX7_stand 124 = .ok (.istore 6, 2) := dk_54 6 (dk_at dksX7_stand_5 10 rfl rfl)
theorem dX7_stand_126 : decode cX7_stand 126 = .ok (.iload 6, 2) := dk_21 6 (dk_at dksX7_stand_5 12 rfl rfl)
theorem dX7_stand_128 : decode cX7_stand 128 = .ok (.bipush 14, 2) := dk_16 14 (dk_at dksX7_stand_5 14 rfl rfl)
theorem dX7_stand_130 : decode cX7_stand 130 = .ok (.if_icmp .ge 20, 3) := dk_162 0 20 (dk_at dksX7_stand_5 16 rfl rfl)
theorem dX7_stand_133 : decode cX7_stand 133 = .ok (.aload_n 0, 1) := dk_42 (dk_at dksX7_stand_5 19 rfl rfl)
theorem dX7_stand_134 : decode cX7_stand 134 = .ok (.getfield 13, 3) := dk_180 0 13 (dk_at dksX7_stand_5 20 rfl rfl)
theorem dX7_stand_137 : decode cX7_stand 137 = .ok (.iload 5, 2) := dk_21 5 (dk_at dksX7_stand_6 0 rfl rfl)
theorem dX7_stand_139 : decode cX7_stand 139 = .ok (.iload 6, 2) := dk_21 6 (dk_at dksX7_stand_6 2 rfl rfl)
theorem dX7_stand_141 : decode cX7_stand 141 = .ok (.iadd, 1) := dk_96 (dk_at dksX7_stand_6 4 rfl rfl)
theorem dX7_stand_142 : decode cX7_stand 142 = .ok (.iconst 0, 1) := dk_3 (dk_at dksX7_stand_6 5 rfl rfl)
theorem dX7_stand_143 : decode cX7_stand 143 = .ok (.iastore, 1) := dk_79 (dk_at dksX7_stand_6 6 rfl rfl)
theorem dX7_stand_144 : decode cX7_stand 144 = .ok (.iinc 6 1, 3) := dk_132 6 1 (dk_at dksX7_stand_6 7 rfl rfl)
theorem dX7_stand_147 : decode cX7_stand 147 = .ok (.goto (-21), 3) := dk_167 255 235 (dk_at dksX7_stand_6 10 rfl rfl)
theorem dX7_stand_150 : decode cX7_stand 150 = .ok (.aload_n 0, 1) := dk_42 (dk_at dksX7_stand_6 13 rfl rfl)
theorem dX7_stand_151 : decode cX7_stand 151 = .ok (.getfield 13, 3) := dk_180 0 13 (dk_at dksX7_stand_6 14 rfl rfl)
theorem dX7_stand_154 : decode cX7_stand 154 = .ok (.iload 5, 2) := dk_21 5 (dk_at dksX7_stand_6 17 rfl rfl)
theorem dX7_stand_156 : decode cX7_stand 156 = .ok (.iconst 3, 1) := dk_6 (dk_at dksX7_stand_6 19 rfl rfl)
theorem dX7_stand_157 : decode cX7_stand 157 = .ok (.iadd, 1) := dk_96 (dk_at dksX7_stand_6 20 rfl rfl)
theorem dX7_stand_158 : decode cX7_stand 158 = .ok (.iload_n 1, 1) := dk_27 (dk_at dksX7_stand_6 21 rfl rfl)
theorem dX7_stand_159 : decode cX7_stand 159 = .ok (.sipush 1000, 3) := dk_17 3 232 (dk_at dksX7_stand_7 0 rfl rfl)
theorem dX7_stand_162 : decode cX7_stand 162 = .ok (.idiv, 1) := dk_108 (dk_at dksX7_stand_7 3 rfl rfl)
theorem dX7_stand_163 : decode cX7_stand 163 = .ok (.iastore, 1) := dk_79 (dk_at dksX7_stand_7 4 rfl rfl)
theorem dX7_stand_164 : decode cX7_stand 164 = .ok (.aload_n 0, 1) := dk_42 (dk_at dksX7_stand_7 5 rfl rfl)
theorem dX7_stand_165 : decode cX7_stand 165 = .ok (.getfield 13, 3) := dk_180 0 13 (dk_at dksX7_stand_7 6 rfl rfl)
theorem dX7_stand_168 : decode cX7_stand 168 = .ok (.iload 5, 2) := dk_21 5 (dk_at dksX7_stand_7 9 rfl rfl)
theorem dX7_stand_170 : decode cX7_stand 170 = .ok (.iconst 0, 1) := dk_3 (dk_at dksX7_stand_7 11 rfl rfl)
theorem dX7_stand_171 : decode cX7_stand 171 = .ok (.iadd, 1) := dk_96 (dk_at dksX7_stand_7 12 rfl rfl)
theorem dX7_stand_172 : decode cX7_stand 172 = .ok (.iload_n 1, 1) := dk_27 (dk_at dksX7_stand_7 13 rfl rfl)
theorem dX7_stand_173 : decode cX7_stand 173 = .ok (.bipush 100, 2) := dk_16 100 (dk_at dksX7_stand_7 14 rfl rfl)
theorem dX7_stand_175 : decode cX7_stand 175 = .ok (.idiv, 1) := dk_108 (dk_at dksX7_stand_7 16 rfl rfl)
theorem dX7_stand_176 : decode cX7_stand 176 = .ok (.bipush 10, 2) := dk_16 10 (dk_at dksX7_stand_7 17 rfl rfl)
theorem dX7_stand_178 : decode cX7_stand 178 = .ok (.irem, 1) := dk_112 (dk_at dksX7_stand_7 19 rfl rfl)
theorem dX7_stand_179 : decode cX7_stand 179 = .ok (.iastore, 1) := dk_79 (dk_at dksX7_stand_7 20 rfl rfl)
theorem dX7_stand_180 : decode cX7_stand 180 = .ok (.aload_n 0, 1) := dk_42 (dk_at dksX7_stand_7 21 rfl rfl)
theorem dX7_stand_181 : decode cX7_stand 181 = .ok (.getfield 13, 3) := dk_180 0 13 (dk_at dksX7_stand_8 0 rfl rfl)
theorem dX7_stand_184 : decode cX7_stand 184 = .ok (.iload 5, 2) := dk_21 5 (dk_at dksX7_stand_8 3 rfl rfl)
theorem dX7_stand_186 : decode cX7_stand 186 = .ok (.iconst 1, 1) := dk_4 (dk_at dksX7_stand_8 5 rfl rfl)
theorem dX7_stand_187 : decode cX7_stand 187 = .ok (.iadd, 1) := dk_96 (dk_at dksX7_stand_8 6 rfl rfl)
theorem dX7_stand_188 : decode cX7_stand 188 = .ok (.iload_n 1, 1) := dk_27 (dk_at dksX7_stand_8 7 rfl rfl)
theorem dX7_stand_189 : decode cX7_stand 189 = .ok (.bipush 10, 2) := dk_16 10 (dk_at dksX7_stand_8 8 rfl rfl)
theorem dX7_stand_191 : decode cX7_stand 191 = .ok (.idiv, 1) := dk_108 (dk_at dksX7_stand_8 10 rfl rfl)
theorem dX7_stand_192 : decode cX7_stand 192 = .ok (.bipush 10, 2) := dk_16 10 (dk_at dksX7_stand_8 11 rfl rfl)
theorem dX7_stand_194 : decode cX7_stand 194 = .ok (.irem, 1) := dk_112 (dk_at dksX7_stand_8 13 rfl rfl)
theorem dX7_stand_195 : decode cX7_stand 195 = .ok (.iastore, 1) := dk_79 (dk_at dksX7_stand_8 14 rfl rfl)
theorem dX7_stand_196 : decode cX7_stand 196 = .ok (.aload_n 0, 1) := dk_42 (dk_at dksX7_stand_8 15 rfl rfl)
theorem dX7_stand_197 : decode cX7_stand 197 = .ok (.getfield 13, 3) := dk_180 0 13 (dk_at dksX7_stand_8 16 rfl rfl)
theorem dX7_stand_200 : decode cX7_stand 200 = .ok (.iload 5, 2) := dk_21 5 (dk_at dksX7_stand_8 19 rfl rfl)
theorem dX7_stand_202 : decode cX7_stand 202 = .ok (.iconst 2, 1) := dk_5 (dk_at dksX7_stand_8 21 rfl rfl)
theorem dX7_stand_203 : decode cX7_stand 203 = .ok (.iadd, 1) := dk_96 (dk_at dksX7_stand_8 22 rfl rfl)
theorem dX7_stand_204 : decode cX7_stand 204 = .ok (.iload_n 1, 1) := dk_27 (dk_at dksX7_stand_8 23 rfl rfl)
theorem dX7_stand_205 : decode cX7_stand 205 = .ok (.bipush 10, 2) := dk_16 10 (dk_at dksX7_stand_9 0 rfl rfl)
theorem dX7_stand_207 : decode cX7_stand 207 = .ok (.irem, 1) := dk_112 (dk_at dksX7_stand_9 2 rfl rfl)
theorem dX7_stand_208 : decode cX7_stand 208 = .ok (.iastore, 1) := dk_79 (dk_at dksX7_stand_9 3 rfl rfl)
theorem dX7_stand_209 : decode cX7_stand 209 = .ok (.aload_n 0, 1) := dk_42 (dk_at dksX7_stand_9 4 rfl rfl)
theorem dX7_stand_210 : decode cX7_stand 210 = .ok (.getfield 13, 3) := dk_180 0 13 (dk_at dksX7_stand_9 5 rfl rfl)
theorem dX7_stand_213 : decode cX7_stand 213 = .ok (.iload 5, 2) := dk_21 5 (dk_at dksX7_stand_9 8 rfl rfl)
theorem dX7_stand_215 : decode cX7_stand 215 = .ok (.iconst 4, 1) := dk_7 (dk_at dksX7_stand_9 10 rfl rfl)
theorem dX7_stand_216 : decode cX7_stand 216 = .ok (.iadd, 1) := dk_96 (dk_at dksX7_stand_9 11 rfl rfl)
theorem dX7_stand_217 : decode cX7_stand 217 = .ok (.iload_n 2, 1) := dk_28 (dk_at dksX7_stand_9 12 rfl rfl)
theorem dX7_stand_218 : decode cX7_stand 218 = .ok (.iastore, 1) := dk_79 (dk_at dksX7_stand_9 13 rfl rfl)
theorem dX7_stand_219 : decode cX7_stand 219 = .ok (.aload_n 0, 1) := dk_42 (dk_at dksX7_stand_9 14 rfl rfl)
theorem dX7_stand_220 : decode cX7_stand 220 = .ok (.getfield 13, 3) := dk_180 0 13 (dk_at dksX7_stand_9 15 rfl rfl)
theorem dX7_stand_223 : decode cX7_stand 223 = .ok (.iload 5, 2) := dk_21 5 (dk_at dksX7_stand_9 18 rfl rfl)
theorem dX7_stand_225 : decode cX7_stand 225 = .ok (.iconst 5, 1) := dk_8 (dk_at dksX7_stand_9 20 rfl rfl)
theorem dX7_stand_226 : decode cX7_stand 226 = .ok (.iadd, 1) := dk_96 (dk_at dksX7_stand_9 21 rfl rfl)
theorem dX7_stand_227 : decode cX7_stand 227 = .ok (.iload_n 3, 1) := dk_29 (dk_at dksX7_stand_9 22 rfl rfl)
theorem dX7_stand_228 : decode cX7_stand 228 = .ok (.iastore, 1) := dk_79 (dk_at dksX7_stand_9 23 rfl rfl)
theorem dX7_stand_229 : decode cX7_stand 229 = .ok (.aload_n 0, 1) := dk_42 (dk_at dksX7_stand_10 0 rfl rfl)
theorem dX7_stand_230 : decode cX7_stand 230 = .ok (.getfield 13, 3) := dk_180 0 13 (dk_at dksX7_stand_10 1 rfl rfl)
theorem dX7_stand_233 : decode cX7_stand 233 = .ok (.iload 5, 2) := dk_21 5 (dk_at dksX7_stand_10 4 rfl rfl)
theorem dX7_stand_235 : decode cX7_stand 235 = .ok (.bipush 6, 2) := dk_16 6 (dk_at dksX7_stand_10 6 rfl rfl)
theorem dX7_stand_237 : decode cX7_stand 237 = .ok (.iadd, 1) := dk_96 (dk_at dksX7_stand_10 8 rfl rfl)
theorem dX7_stand_238 : decode cX7_stand 238 = .ok (.iload 4, 2) := dk_21 4 (dk_at dksX7_stand_10 9 rfl rfl)
theorem dX7_stand_240 : decode cX7_stand 240 = .ok (.iastore, 1) := dk_79 (dk_at dksX7_stand_10 11 rfl rfl)
theorem dX7_stand_241 : decode cX7_stand 241 = .ok (.aload_n 0, 1) := dk_42 (dk_at dksX7_stand_10 12 rfl rfl)
theorem dX7_stand_242 : decode cX7_stand 242 = .ok (.getfield 13, 3) := dk_180 0 13 (dk_at dksX7_stand_10 13 rfl rfl)
theorem dX7_stand_245 : decode cX7_stand 245 = .ok (.iload 5, 2) := dk_21 5 (dk_at dksX7_stand_10 16 rfl rfl)
theorem dX7_stand_247 : decode cX7_stand 247 = .ok (.bipush 9, 2) := dk_16 9 (dk_at dksX7_stand_10 18 rfl rfl)
theorem dX7_stand_249 : decode cX7_stand 249 = .ok (.iadd, 1) := dk_96 (dk_at dksX7_stand_10 20 rfl rfl)
theorem dX7_stand_250 : decode cX7_stand 250 = .ok (.iconst (-1), 1) := dk_2 (dk_at dksX7_stand_10 21 rfl rfl)
theorem dX7_stand_251 : decode cX7_stand 251 = .ok (.iastore, 1) := dk_79 (dk_at dksX7_stand_10 22 rfl rfl)
theorem dX7_stand_252 : decode cX7_stand 252 = .ok (.aload_n 0, 1) := dk_42 (dk_at dksX7_stand_10 23 rfl rfl)
theorem dX7_stand_253 : decode cX7_stand 253 = .ok (.getfield 13, 3) := dk_180 0 13 (dk_at dksX7_stand_11 0 rfl rfl)
theorem dX7_stand_256 : decode cX7_stand 256 = .ok (.iload 5, 2) := dk_21 5 (dk_at dksX7_stand_11 3 rfl rfl)
theorem dX7_stand_258 : decode cX7_stand 258 = .ok (.bipush 10, 2) := dk_16 10 (dk_at dksX7_stand_11 5 rfl rfl)
theorem dX7_stand_260 : decode cX7_stand 260 = .ok (.iadd, 1) := dk_96 (dk_at dksX7_stand_11 7 rfl rfl)
theorem dX7_stand_261 : decode cX7_stand 261 = .ok (.iconst (-1), 1) := dk_2 (dk_at dksX7_stand_11 8 rfl rfl)
theorem dX7_stand_262 : decode cX7_stand 262 = .ok (.iastore, 1) := dk_79 (dk_at dksX7_stand_11 9 rfl rfl)
theorem dX7_stand_263 : decode cX7_stand 263 = .ok (.aload_n 0, 1) := dk_42 (dk_at dksX7_stand_11 10 rfl rfl)
theorem dX7_stand_264 : decode cX7_stand 264 = .ok (.getfield 13, 3) := dk_180 0 13 (dk_at dksX7_stand_11 11 rfl rfl)
theorem dX7_stand_267 : decode cX7_stand 267 = .ok (.iconst 1, 1) := dk_4 (dk_at dksX7_stand_11 14 rfl rfl)
theorem dX7_stand_268 : decode cX7_stand 268 = .ok (.dup2, 1) := dk_92 (dk_at dksX7_stand_11 15 rfl rfl)
theorem dX7_stand_269 : decode cX7_stand 269 = .ok (.iaload, 1) := dk_46 (dk_at dksX7_stand_11 16 rfl rfl)
theorem dX7_stand_270 : decode cX7_stand 270 = .ok (.iconst 1, 1) := dk_4 (dk_at dksX7_stand_11 17 rfl rfl)
theorem dX7_stand_271 : decode cX7_stand 271 = .ok (.iadd, 1) := dk_96 (dk_at dksX7_stand_11 18 rfl rfl)
theorem dX7_stand_272 : decode cX7_stand 272 = .ok (.iastore, 1) := dk_79 (dk_at dksX7_stand_11 19 rfl rfl)
theorem dX7_stand_273 : decode cX7_stand 273 = .ok (.aload_n 0, 1) := dk_42 (dk_at dksX7_stand_11 20 rfl rfl)
theorem dX7_stand_274 : decode cX7_stand 274 = .ok (.getfield 13, 3) := dk_180 0 13 (dk_at dksX7_stand_11 21 rfl rfl)
theorem dX7_stand_277 : decode cX7_stand 277 = .ok (.iconst 1, 1) := dk_4 (dk_at dksX7_stand_12 0 rfl rfl)
theorem dX7_stand_278 : decode cX7_stand 278 = .ok (.iaload, 1) := dk_46 (dk_at dksX7_stand_12 1 rfl rfl)
theorem dX7_stand_279 : decode cX7_stand 279 = .ok (.iconst 1, 1) := dk_4 (dk_at dksX7_stand_12 2 rfl rfl)
theorem dX7_stand_280 : decode cX7_stand 280 = .ok (.isub, 1) := dk_100 (dk_at dksX7_stand_12 3 rfl rfl)
theorem dX7_stand_281 : decode cX7_stand 281 = .ok (.ireturn, 1) := dk_172 (dk_at dksX7_stand_12 4 rfl rfl)
abbrev cX7_neighbours : ByteArray := prog_19_method_17_code
def yX7_neighbours : MethodName := ⟨RX7, "neighbours", "(II)I"⟩
def dkwX7_neighbours_4 : List UInt8 := [180, 0, 13, 5, 92, 46, 4, 96, 79, 42, 180, 0, 13, 5, 46, 172]
abbrev dktX7_neighbours_4 : List UInt8 := dkwX7_neighbours_4 ++ []
def dkwX7_neighbours_3 : List UInt8 := [104, 96, 28, 96, 4, 79, 42, 180, 0, 13, 17, 1, 96, 16, 24, 28, 104, 96, 27, 96, 4, 79, 42]
abbrev dktX7_neighbours_3 : List UInt8 := dkwX7_neighbours_3 ++ dktX7_neighbours_4
def dkwX7_neighbours_2 : List UInt8 := [5, 46, 16, 60, 160, 0, 10, 42, 16, 248, 182, 0, 80, 172, 42, 180, 0, 13, 17, 1, 96, 16, 24, 27]
abbrev dktX7_neighbours_2 : List UInt8 := dkwX7_neighbours_2 ++ dktX7_neighbours_3
def dkwX7_neighbours_1 : List UInt8 := [28, 159, 0, 12, 42, 27, 28, 182, 0, 122, 153, 0, 10, 42, 16, 249, 182, 0, 80, 172, 42, 180, 0, 13]
abbrev dktX7_neighbours_1 : List UInt8 := dkwX7_neighbours_1 ++ dktX7_neighbours_2
def dkwX7_neighbours_0 : List UInt8 := [42, 27, 182, 0, 118, 153, 0, 11, 42, 28, 182, 0, 118, 154, 0, 10, 42, 16, 253, 182, 0, 80, 172, 27]
abbrev dktX7_neighbours_0 : List UInt8 := dkwX7_neighbours_0 ++ dktX7_neighbours_1
theorem dksX7_neighbours_0 : cX7_neighbours.data.toList.drop 0 = dktX7_neighbours_0 := by decide +kernel
theorem dksX7_neighbours_1 : cX7_neighbours.data.toList.drop 24 = dktX7_neighbours_1 := dk_seg dksX7_neighbours_0 24 rfl rfl
theorem dksX7_neighbours_2 : cX7_neighbours.data.toList.drop 48 = dktX7_neighbours_2 := dk_seg dksX7_neighbours_1 24 rfl rfl
theorem dksX7_neighbours_3 : cX7_neighbours.data.toList.drop 72 = dktX7_neighbours_3 := dk_seg dksX7_neighbours_2 24 rfl rfl
theorem dksX7_neighbours_4 : cX7_neighbours.data.toList.drop 95 = dktX7_neighbours_4 := dk_seg dksX7_neighbours_3 23 rfl rfl
theorem dX7_neighbours_0 : decode cX7_neighbours 0 = .ok (.aload_n 0, 1) := dk_42 (dk_at dksX7_neighbours_0 0 rfl rfl)
theorem dX7_neighbours_1 : decode cX7_neighbours 1 = .ok (.iload_n 1, 1) := dk_27 (dk_at dksX7_neighbours_0 1 rfl rfl)
theorem dX7_neighbours_2 : decode cX7_neighbours 2 = .ok (.invokevirtual 118, 3) := dk_182 0 118 (dk_at dksX7_neighbours_0 2 rfl rfl)
theorem dX7_neighbours_5 : decode cX7_neighbours 5 = .ok (.ifCond .eq 11, 3) := dk_153 0 11 (dk_at dksX7_neighbours_0 5 rfl rfl)
theorem dX7_neighbours_8 : decode cX7_neighbours 8 = .ok (.aload_n 0, 1) := dk_42 (dk_at dksX7_neighbours_0 8 rfl rfl)
theorem dX7_neighbours_9 : decode cX7_neighbours 9 = .ok (.iload_n 2, 1) := dk_28 (dk_at dksX7_neighbours_0 9 rfl rfl)
theorem dX7_neighbours_10 : decode cX7_neighbours 10 = .ok (.invokevirtual 118, 3) := dk_182 0 118 (dk_at dksX7_neighbours_0 10 rfl rfl)
theorem dX7_neighbours_13 : decode cX7_neighbours 13 = .ok (.ifCond .ne 10, 3) := dk_154 0 10 (dk_at dksX7_neighbours_0 13 rfl rfl)
theorem dX7_neighbours_16 : decode cX7_neighbours 16 = .ok (.aload_n 0, 1) := dk_42 (dk_at dksX7_neighbours_0 16 rfl rfl)
theorem dX7_neighbours_17 : decode cX7_neighbours 17 = .ok (.bipush (-3), 2) := dk_16 253 (dk_at dksX7_neighbours_0 17 rfl rfl)
theorem dX7_neighbours_19 : decode cX7_neighbours 19 = .ok (.invokevirtual 80, 3) := dk_182 0 80 (dk_at dksX7_neighbours_0 19 rfl rfl)
theorem dX7_neighbours_22 : decode cX7_neighbours 22 = .ok (.ireturn, 1) := dk_172 (dk_at dksX7_neighbours_0 22 rfl rfl)
theorem dX7_neighbours_23 : decode cX7_neighbours 23 = .ok (.iload_n 1, 1) := dk_27 (dk_at dksX7_neighbours_0 23 rfl rfl)
theorem dX7_neighbours_24 : decode cX7_neighbours 24 = .ok (.iload_n 2, 1) := dk_28 (dk_at dksX7_neighbours_1 0 rfl rfl)
theorem dX7_neighbours_25 : decode cX7_neighbours 25 = .ok (.if_icmp .eq 12, 3) := dk_159 0 12 (dk_at dksX7_neighbours_1 1 rfl rfl)
theorem dX7_neighbours_28 : decode cX7_neighbours 28 = .ok (.aload_n 0, 1) := dk_42 (dk_at dksX7_neighbours_1 4 rfl rfl)
theorem dX7_neighbours_29 : decode cX7_neighbours 29 = .ok (.iload_n 1, 1) := dk_27 (dk_at dksX7_neighbours_1 5 rfl rfl)
theorem dX7_neighbours_30 : decode cX7_neighbours 30 = .ok (.iload_n 2, 1) := dk_28 (dk_at dksX7_neighbours_1 6 rfl rfl)
theorem dX7_neighbours_31 : decode cX7_neighbours 31 = .ok (.invokevirtual 122, 3) := dk_182 0 122 (dk_at dksX7_neighbours_1 7 rfl rfl)
theorem dX7_neighbours_34 : decode cX7_neighbours 34 = .ok (.ifCond .eq 10, 3) := dk_153 0 10 (dk_at dksX7_neighbours_1 10 rfl rfl)
theorem dX7_neighbours_37 : decode cX7_neighbours 37 = .ok (.aload_n 0, 1) := dk_42 (dk_at dksX7_neighbours_1 13 rfl rfl)
theorem dX7_neighbours_38 : decode cX7_neighbours 38 = .ok (.bipush (-7), 2) := dk_16 249 (dk_at dksX7_neighbours_1 14 rfl rfl)
theorem dX7_neighbours_40 : decode cX7_neighbours 40 = .ok (.invokevirtual 80, 3) := dk_182 0 80 (dk_at dksX7_neighbours_1 16 rfl rfl)
theorem dX7_neighbours_43 : decode cX7_neighbours 43 = .ok (.ireturn, 1) := dk_172 (dk_at dksX7_neighbours_1 19 rfl rfl)
theorem dX7_neighbours_44 : decode cX7_neighbours 44 = .ok (.aload_n 0, 1) := dk_42 (dk_at dksX7_neighbours_1 20 rfl rfl)
theorem dX7_neighbours_45 : decode cX7_neighbours 45 = .ok (.getfield 13, 3) := dk_180 0 13 (dk_at dksX7_neighbours_1 21 rfl rfl)
theorem dX7_neighbours_48 : decode cX7_neighbours 48 = .ok (.iconst 2, 1) := dk_5 (dk_at dksX7_neighbours_2 0 rfl rfl)
theorem dX7_neighbours_49 : decode cX7_neighbours 49 = .ok (.iaload, 1) := dk_46 (dk_at dksX7_neighbours_2 1 rfl rfl)
theorem dX7_neighbours_50 : decode cX7_neighbours 50 = .ok (.bipush 60, 2) := dk_16 60 (dk_at dksX7_neighbours_2 2 rfl rfl)
theorem dX7_neighbours_52 : decode cX7_neighbours 52 = .ok (.if_icmp .ne 10, 3) := dk_160 0 10 (dk_at dksX7_neighbours_2 4 rfl rfl)
theorem dX7_neighbours_55 : decode cX7_neighbours 55 = .ok (.aload_n 0, 1) := dk_42 (dk_at dksX7_neighbours_2 7 rfl rfl)
theorem dX7_neighbours_56 : decode cX7_neighbours 56 = .ok (.bipush (-8), 2) := dk_16 248 (dk_at dksX7_neighbours_2 8 rfl rfl)
theorem dX7_neighbours_58 : decode cX7_neighbours 58 = .ok (.invokevirtual 80, 3) := dk_182 0 80 (dk_at dksX7_neighbours_2 10 rfl rfl)
theorem dX7_neighbours_61 : decode cX7_neighbours 61 = .ok (.ireturn, 1) := dk_172 (dk_at dksX7_neighbours_2 13 rfl rfl)
theorem dX7_neighbours_62 : decode cX7_neighbours 62 = .ok (.aload_n 0, 1) := dk_42 (dk_at dksX7_neighbours_2 14 rfl rfl)
theorem dX7_neighbours_63 : decode cX7_neighbours 63 = .ok (.getfield 13, 3) := dk_180 0 13 (dk_at dksX7_neighbours_2 15 rfl rfl)
theorem dX7_neighbours_66 : decode cX7_neighbours 66 = .ok (.sipush 352, 3) := dk_17 1 96 (dk_at dksX7_neighbours_2 18 rfl rfl)
theorem dX7_neighbours_69 : decode cX7_neighbours 69 = .ok (.bipush 24, 2) := dk_16 24 (dk_at dksX7_neighbours_2 21 rfl rfl)
theorem dX7_neighbours_71 : decode cX7_neighbours 71 = .ok (.iload_n 1, 1) := dk_27 (dk_at dksX7_neighbours_2 23 rfl rfl)
theorem dX7_neighbours_72 : decode cX7_neighbours 72 = .ok (.imul, 1) := dk_104 (dk_at dksX7_neighbours_3 0 rfl rfl)
theorem dX7_neighbours_73 : decode cX7_neighbours 73 = .ok (.iadd, 1) := dk_96 (dk_at dksX7_neighbours_3 1 rfl rfl)
theorem dX7_neighbours_74 : decode cX7_neighbours 74 = .ok (.iload_n 2, 1) := dk_28 (dk_at dksX7_neighbours_3 2 rfl rfl)
theorem dX7_neighbours_75 : decode cX7_neighbours 75 = .ok (.iadd, 1) := dk_96 (dk_at dksX7_neighbours_3 3 rfl rfl)
theorem dX7_neighbours_76 : decode cX7_neighbours 76 = .ok (.iconst 1, 1) := dk_4 (dk_at dksX7_neighbours_3 4 rfl rfl)
theorem dX7_neighbours_77 : decode cX7_neighbours 77 = .ok (.iastore, 1) := dk_79 (dk_at dksX7_neighbours_3 5 rfl rfl)
theorem dX7_neighbours_78 : decode cX7_neighbours 78 = .ok (.aload_n 0, 1) := dk_42 (dk_at dksX7_neighbours_3 6 rfl rfl)
theorem dX7_neighbours_79 : decode cX7_neighbours 79 = .ok (.getfield 13, 3) := dk_180 0 13 (dk_at dksX7_neighbours_3 7 rfl rfl)
theorem dX7_neighbours_82 : decode cX7_neighbours 82 = .ok (.sipush 352, 3) := dk_17 1 96 (dk_at dksX7_neighbours_3 10 rfl rfl)
theorem dX7_neighbours_85 : decode cX7_neighbours 85 = .ok (.bipush 24, 2) := dk_16 24 (dk_at dksX7_neighbours_3 13 rfl rfl)
theorem dX7_neighbours_87 : decode cX7_neighbours 87 = .ok (.iload_n 2, 1) := dk_28 (dk_at dksX7_neighbours_3 15 rfl rfl)
theorem dX7_neighbours_88 : decode cX7_neighbours 88 = .ok (.imul, 1) := dk_104 (dk_at dksX7_neighbours_3 16 rfl rfl)
theorem dX7_neighbours_89 : decode cX7_neighbours 89 = .ok (.iadd, 1) := dk_96 (dk_at dksX7_neighbours_3 17 rfl rfl)
theorem dX7_neighbours_90 : decode cX7_neighbours 90 = .ok (.iload_n 1, 1) := dk_27 (dk_at dksX7_neighbours_3 18 rfl rfl)
theorem dX7_neighbours_91 : decode cX7_neighbours 91 = .ok (.iadd, 1) := dk_96 (dk_at dksX7_neighbours_3 19 rfl rfl)
theorem dX7_neighbours_92 : decode cX7_neighbours 92 = .ok (.iconst 1, 1) := dk_4 (dk_at dksX7_neighbours_3 20 rfl rfl)
theorem dX7_neighbours_93 : decode cX7_neighbours 93 = .ok (.iastore, 1) := dk_79 (dk_at dksX7_neighbours_3 21 rfl rfl)
theorem dX7_neighbours_94 : decode cX7_neighbours 94 = .ok (.aload_n 0, 1) := dk_42 (dk_at dksX7_neighbours_3 22 rfl rfl)
theorem dX7_neighbours_95 : decode cX7_neighbours 95 = .ok (.getfield 13, 3) := dk_180 0 13 (dk_at dksX7_neighbours_4 0 rfl rfl)
theorem dX7_neighbours_98 : decode cX7_neighbours 98 = .ok (.iconst 2, 1) := dk_5 (dk_at dksX7_neighbours_4 3 rfl rfl)
theorem dX7_neighbours_99 : decode cX7_neighbours 99 = .ok (.dup2, 1) := dk_92 (dk_at dksX7_neighbours_4 4 rfl rfl)
theorem dX7_neighbours_100 : decode cX7_neighbours 100 = .ok (.iaload, 1) := dk_46 (dk_at dksX7_neighbours_4 5 rfl rfl)
theorem dX7_neighbours_101 : decode cX7_neighbours 101 = .ok (.iconst 1, 1) := dk_4 (dk_at dksX7_neighbours_4 6 rfl rfl)
theorem dX7_neighbours_102 : decode cX7_neighbours 102 = .ok (.iadd, 1) := dk_96 (dk_at dksX7_neighbours_4 7 rfl rfl)
theorem dX7_neighbours_103 : decode cX7_neighbours 103 = .ok (.iastore, 1) := dk_79 (dk_at dksX7_neighbours_4 8 rfl rfl)
theorem dX7_neighbours_104 : decode cX7_neighbours 104 = .ok (.aload_n 0, 1) := dk_42 (dk_at dksX7_neighbours_4 9 rfl rfl)
theorem dX7_neighbours_105 : decode cX7_neighbours 105 = .ok (.getfield 13, 3) := dk_180 0 13 (dk_at dksX7_neighbours_4 10 rfl rfl)
theorem dX7_neighbours_108 : decode cX7_neighbours 108 = .ok (.iconst 2, 1) := dk_5 (dk_at dksX7_neighbours_4 13 rfl rfl)
theorem dX7_neighbours_109 : decode cX7_neighbours 109 = .ok (.iaload, 1) := dk_46 (dk_at dksX7_neighbours_4 14 rfl rfl)
theorem dX7_neighbours_110 : decode cX7_neighbours 110 = .ok (.ireturn, 1) := dk_172 (dk_at dksX7_neighbours_4 15 rfl rfl)
abbrev cX7_isStand : ByteArray := prog_19_method_8_code
def yX7_isStand : MethodName := ⟨RX7, "isStand", "(I)Z"⟩
def dkwX7_isStand_0 : List UInt8 := [27, 3, 42, 180, 0, 13, 4, 46, 4, 100, 184, 0, 76, 172]
abbrev dktX7_isStand_0 : List UInt8 := dkwX7_isStand_0 ++ []
theorem dksX7_isStand_0 : cX7_isStand.data.toList.drop 0 = dktX7_isStand_0 := by decide +kernel
theorem dX7_isStand_0 : decode cX7_isStand 0 = .ok (.iload_n 1, 1) := dk_27 (dk_at dksX7_isStand_0 0 rfl rfl)
theorem dX7_isStand_1 : decode cX7_isStand 1 = .ok (.iconst 0, 1) := dk_3 (dk_at dksX7_isStand_0 1 rfl rfl)
theorem dX7_isStand_2 : decode cX7_isStand 2 = .ok (.aload_n 0, 1) := dk_42 (dk_at dksX7_isStand_0 2 rfl rfl)
theorem dX7_isStand_3 : decode cX7_isStand 3 = .ok (.getfield 13, 3) := dk_180 0 13 (dk_at dksX7_isStand_0 3 rfl rfl)
theorem dX7_isStand_6 : decode cX7_isStand 6 = .ok (.iconst 1, 1) := dk_4 (dk_at dksX7_isStand_0 6 rfl rfl)
theorem dX7_isStand_7 : decode cX7_isStand 7 = .ok (.iaload, 1) := dk_46 (dk_at dksX7_isStand_0 7 rfl rfl)
theorem dX7_isStand_8 : decode cX7_isStand 8 = .ok (.iconst 1, 1) := dk_4 (dk_at dksX7_isStand_0 8 rfl rfl)
theorem dX7_isStand_9 : decode cX7_isStand 9 = .ok (.isub, 1) := dk_100 (dk_at dksX7_isStand_0 9 rfl rfl)
theorem dX7_isStand_10 : decode cX7_isStand 10 = .ok (.invokestatic 76, 3) := dk_184 0 76 (dk_at dksX7_isStand_0 10 rfl rfl)
theorem dX7_isStand_13 : decode cX7_isStand 13 = .ok (.ireturn, 1) := dk_172 (dk_at dksX7_isStand_0 13 rfl rfl)
abbrev cX7_areNear : ByteArray := prog_19_method_11_code
def yX7_areNear : MethodName := ⟨RX7, "areNear", "(II)Z"⟩
def dkwX7_areNear_1 : List UInt8 := [172]
abbrev dktX7_areNear_1 : List UInt8 := dkwX7_areNear_1 ++ []
def dkwX7_areNear_0 : List UInt8 := [42, 180, 0, 13, 17, 1, 96, 16, 24, 27, 104, 96, 28, 96, 46, 4, 160, 0, 7, 4, 167, 0, 4, 3]
abbrev dktX7_areNear_0 : List UInt8 := dkwX7_areNear_0 ++ dktX7_areNear_1
theorem dksX7_areNear_0 : cX7_areNear.data.toList.drop 0 = dktX7_areNear_0 := by decide +kernel
theorem dksX7_areNear_1 : cX7_areNear.data.toList.drop 24 = dktX7_areNear_1 := dk_seg dksX7_areNear_0 24 rfl rfl
theorem dX7_areNear_0 : decode cX7_areNear 0 = .ok (.aload_n 0, 1) := dk_42 (dk_at dksX7_areNear_0 0 rfl rfl)
theorem dX7_areNear_1 : decode cX7_areNear 1 = .ok (.getfield 13, 3) := dk_180 0 13 (dk_at dksX7_areNear_0 1 rfl rfl)
theorem dX7_areNear_4 : decode cX7_areNear 4 = .ok (.sipush 352, 3) := dk_17 1 96 (dk_at dksX7_areNear_0 4 rfl rfl)
theorem dX7_areNear_7 : decode cX7_areNear 7 = .ok (.bipush 24, 2) := dk_16 24 (dk_at dksX7_areNear_0 7 rfl rfl)
theorem dX7_areNear_9 : decode cX7_areNear 9 = .ok (.iload_n 1, 1) := dk_27 (dk_at dksX7_areNear_0 9 rfl rfl)
theorem dX7_areNear_10 : decode cX7_areNear 10 = .ok (.imul, 1) := dk_104 (dk_at dksX7_areNear_0 10 rfl rfl)
theorem dX7_areNear_11 : decode cX7_areNear 11 = .ok (.iadd, 1) := dk_96 (dk_at dksX7_areNear_0 11 rfl rfl)
theorem dX7_areNear_12 : decode cX7_areNear 12 = .ok (.iload_n 2, 1) := dk_28 (dk_at dksX7_areNear_0 12 rfl rfl)
theorem dX7_areNear_13 : decode cX7_areNear 13 = .ok (.iadd, 1) := dk_96 (dk_at dksX7_areNear_0 13 rfl rfl)
theorem dX7_areNear_14 : decode cX7_areNear 14 = .ok (.iaload, 1) := dk_46 (dk_at dksX7_areNear_0 14 rfl rfl)
theorem dX7_areNear_15 : decode cX7_areNear 15 = .ok (.iconst 1, 1) := dk_4 (dk_at dksX7_areNear_0 15 rfl rfl)
theorem dX7_areNear_16 : decode cX7_areNear 16 = .ok (.if_icmp .ne 7, 3) := dk_160 0 7 (dk_at dksX7_areNear_0 16 rfl rfl)
theorem dX7_areNear_19 : decode cX7_areNear 19 = .ok (.iconst 1, 1) := dk_4 (dk_at dksX7_areNear_0 19 rfl rfl)
theorem dX7_areNear_20 : decode cX7_areNear 20 = .ok (.goto 4, 3) := dk_167 0 4 (dk_at dksX7_areNear_0 20 rfl rfl)
theorem dX7_areNear_23 : decode cX7_areNear 23 = .ok (.iconst 0, 1) := dk_3 (dk_at dksX7_areNear_0 23 rfl rfl)
theorem dX7_areNear_24 : decode cX7_areNear 24 = .ok (.ireturn, 1) := dk_172 (dk_at dksX7_areNear_1 0 rfl rfl)
abbrev cX7_look : ByteArray := prog_19_method_19_code
def yX7_look : MethodName := ⟨RX7, "look", "(II)I"⟩
def dkwX7_look_7 : List UInt8 := [172]
abbrev dktX7_look_7 : List UInt8 := dkwX7_look_7 ++ []
def dkwX7_look_6 : List UInt8 := [182, 0, 84, 172, 42, 27, 182, 0, 133, 153, 0, 7, 4, 167, 0, 4, 3, 172, 42, 16, 249, 182, 0, 80]
abbrev dktX7_look_6 : List UInt8 := dkwX7_look_6 ++ dktX7_look_7
def dkwX7_look_5 : List UInt8 := [182, 0, 84, 172, 42, 27, 16, 9, 182, 0, 84, 172, 42, 27, 16, 10, 182, 0, 84, 172, 42, 27, 16, 11]
abbrev dktX7_look_5 : List UInt8 := dkwX7_look_5 ++ dktX7_look_6
def dkwX7_look_4 : List UInt8 := [182, 0, 84, 172, 42, 27, 182, 0, 115, 172, 42, 27, 16, 7, 182, 0, 84, 172, 42, 27, 16, 8]
abbrev dktX7_look_4 : List UInt8 := dkwX7_look_4 ++ dktX7_look_5
def dkwX7_look_3 : List UInt8 := [182, 0, 84, 172, 42, 27, 7, 182, 0, 84, 172, 42, 27, 8, 182, 0, 84, 172, 42, 27, 16, 6]
abbrev dktX7_look_3 : List UInt8 := dkwX7_look_3 ++ dktX7_look_4
def dkwX7_look_2 : List UInt8 := [42, 27, 3, 182, 0, 84, 172, 42, 27, 4, 182, 0, 84, 172, 42, 27, 5, 182, 0, 84, 172, 42, 27, 6]
abbrev dktX7_look_2 : List UInt8 := dkwX7_look_2 ++ dktX7_look_3
def dkwX7_look_1 : List UInt8 := [170, 0, 0, 0, 0, 0, 0, 182, 0, 0, 0, 0, 0, 0, 0, 13, 0, 0, 0, 72, 0, 0, 0, 79, 0, 0, 0, 86, 0, 0, 0, 93, 0, 0, 0, 100, 0, 0, 0, 107, 0, 0, 0, 114, 0, 0, 0, 122, 0, 0, 0, 128, 0, 0, 0, 136, 0, 0, 0, 144, 0, 0, 0, 152, 0, 0, 0, 160, 0, 0, 0, 168]
abbrev dktX7_look_1 : List UInt8 := dkwX7_look_1 ++ dktX7_look_2
def dkwX7_look_0 : List UInt8 := [42, 27, 182, 0, 118, 154, 0, 10, 42, 16, 253, 182, 0, 80, 172, 28]
abbrev dktX7_look_0 : List UInt8 := dkwX7_look_0 ++ dktX7_look_1
theorem dksX7_look_0 : cX7_look.data.toList.drop 0 = dktX7_look_0 := by decide +kernel
theorem dksX7_look_1 : cX7_look.data.toList.drop 16 = dktX7_look_1 := dk_seg dksX7_look_0 16 rfl rfl
theorem dksX7_look_2 : cX7_look.data.toList.drop 88 = dktX7_look_2 := dk_seg dksX7_look_1 72 rfl rfl
theorem dksX7_look_3 : cX7_look.data.toList.drop 112 = dktX7_look_3 := dk_seg dksX7_look_2 24 rfl rfl
theorem dksX7_look_4 : cX7_look.data.toList.drop 134 = dktX7_look_4 := dk_seg dksX7_look_3 22 rfl rfl
theorem dksX7_look_5 : cX7_look.data.toList.drop 156 = dktX7_look_5 := dk_seg dksX7_look_4 22 rfl rfl
theorem dksX7_look_6 : cX7_look.data.toList.drop 180 = dktX7_look_6 := dk_seg dksX7_look_5 24 rfl rfl
theorem dksX7_look_7 : cX7_look.data.toList.drop 204 = dktX7_look_7 := dk_seg dksX7_look_6 24 rfl rfl
theorem dX7_look_0 : decode cX7_look 0 = .ok (.aload_n 0, 1) := dk_42 (dk_at dksX7_look_0 0 rfl rfl)
theorem dX7_look_1 : decode cX7_look 1 = .ok (.iload_n 1, 1) := dk_27 (dk_at dksX7_look_0 1 rfl rfl)
theorem dX7_look_2 : decode cX7_look 2 = .ok (.invokevirtual 118, 3) := dk_182 0 118 (dk_at dksX7_look_0 2 rfl rfl)
theorem dX7_look_5 : decode cX7_look 5 = .ok (.ifCond .ne 10, 3) := dk_154 0 10 (dk_at dksX7_look_0 5 rfl rfl)
theorem dX7_look_8 : decode cX7_look 8 = .ok (.aload_n 0, 1) := dk_42 (dk_at dksX7_look_0 8 rfl rfl)
theorem dX7_look_9 : decode cX7_look 9 = .ok (.bipush (-3), 2) := dk_16 253 (dk_at dksX7_look_0 9 rfl rfl)
theorem dX7_look_11 : decode cX7_look 11 = .ok (.invokevirtual 80, 3) := dk_182 0 80 (dk_at dksX7_look_0 11 rfl rfl)
theorem dX7_look_14 : decode cX7_look 14 = .ok (.ireturn, 1) := dk_172 (dk_at dksX7_look_0 14 rfl rfl)
theorem dX7_look_15 : decode cX7_look 15 = .ok (.iload_n 2, 1) := dk_28 (dk_at dksX7_look_0 15 rfl rfl)
theorem dX7_look_16 : decode cX7_look 16 = .ok (.tableswitch 182 0 13 #[72, 79, 86, 93, 100, 107, 114, 122, 128, 136, 144, 152, 160, 168], 72) := by decide +kernel
theorem dX7_look_88 : decode cX7_look 88 = .ok (.aload_n 0, 1) := dk_42 (dk_at dksX7_look_2 0 rfl rfl)
theorem dX7_look_89 : decode cX7_look 89 = .ok (.iload_n 1, 1) := dk_27 (dk_at dksX7_look_2 1 rfl rfl)
theorem dX7_look_90 : decode cX7_look 90 = .ok (.iconst 0, 1) := dk_3 (dk_at dksX7_look_2 2 rfl rfl)
theorem dX7_look_91 : decode cX7_look 91 = .ok (.invokevirtual 84, 3) := dk_182 0 84 (dk_at dksX7_look_2 3 rfl rfl)
theorem dX7_look_94 : decode cX7_look 94 = .ok (.ireturn, 1) := dk_172 (dk_at dksX7_look_2 6 rfl rfl)
theorem dX7_look_95 : decode cX7_look 95 = .ok (.aload_n 0, 1) := dk_42 (dk_at dksX7_look_2 7 rfl rfl)
theorem dX7_look_96 : decode cX7_look 96 = .ok (.iload_n 1, 1) := dk_27 (dk_at dksX7_look_2 8 rfl rfl)
theorem dX7_look_97 : decode cX7_look 97 = .ok (.iconst 1, 1) := dk_4 (dk_at dksX7_look_2 9 rfl rfl)
theorem dX7_look_98 : decode cX7_look 98 = .ok (.invokevirtual 84, 3) := dk_182 0 84 (dk_at dksX7_look_2 10 rfl rfl)
theorem dX7_look_101 : decode cX7_look 101 = .ok (.ireturn, 1) := dk_172 (dk_at dksX7_look_2 13 rfl rfl)
theorem dX7_look_102 : decode cX7_look 102 = .ok (.aload_n 0, 1) := dk_42 (dk_at dksX7_look_2 14 rfl rfl)
theorem dX7_look_103 : decode cX7_look 103 = .ok (.iload_n 1, 1) := dk_27 (dk_at dksX7_look_2 15 rfl rfl)
theorem dX7_look_104 : decode cX7_look 104 = .ok (.iconst 2, 1) := dk_5 (dk_at dksX7_look_2 16 rfl rfl)
theorem dX7_look_105 : decode cX7_look 105 = .ok (.invokevirtual 84, 3) := dk_182 0 84 (dk_at dksX7_look_2 17 rfl rfl)
theorem dX7_look_108 : decode cX7_look 108 = .ok (.ireturn, 1) := dk_172 (dk_at dksX7_look_2 20 rfl rfl)
theorem dX7_look_109 : decode cX7_look 109 = .ok (.aload_n 0, 1) := dk_42 (dk_at dksX7_look_2 21 rfl rfl)
theorem dX7_look_110 : decode cX7_look 110 = .ok (.iload_n 1, 1) := dk_27 (dk_at dksX7_look_2 22 rfl rfl)
theorem dX7_look_111 : decode cX7_look 111 = .ok (.iconst 3, 1) := dk_6 (dk_at dksX7_look_2 23 rfl rfl)
theorem dX7_look_112 : decode cX7_look 112 = .ok (.invokevirtual 84, 3) := dk_182 0 84 (dk_at dksX7_look_3 0 rfl rfl)
theorem dX7_look_115 : decode cX7_look 115 = .ok (.ireturn, 1) := dk_172 (dk_at dksX7_look_3 3 rfl rfl)
theorem dX7_look_116 : decode cX7_look 116 = .ok (.aload_n 0, 1) := dk_42 (dk_at dksX7_look_3 4 rfl rfl)
theorem dX7_look_117 : decode cX7_look 117 = .ok (.iload_n 1, 1) := dk_27 (dk_at dksX7_look_3 5 rfl rfl)
theorem dX7_look_118 : decode cX7_look 118 = .ok (.iconst 4, 1) := dk_7 (dk_at dksX7_look_3 6 rfl rfl)
theorem dX7_look_119 : decode cX7_look 119 = .ok (.invokevirtual 84, 3) := dk_182 0 84 (dk_at dksX7_look_3 7 rfl rfl)
theorem dX7_look_122 : decode cX7_look 122 = .ok (.ireturn, 1) := dk_172 (dk_at dksX7_look_3 10 rfl rfl)
theorem dX7_look_123 : decode cX7_look 123 = .ok (.aload_n 0, 1) := dk_42 (dk_at dksX7_look_3 11 rfl rfl)
theorem dX7_look_124 : decode cX7_look 124 = .ok (.iload_n 1, 1) := dk_27 (dk_at dksX7_look_3 12 rfl rfl)
theorem dX7_look_125 : decode cX7_look 125 = .ok (.iconst 5, 1) := dk_8 (dk_at dksX7_look_3 13 rfl rfl)
theorem dX7_look_126 : decode cX7_look 126 = .ok (.invokevirtual 84, 3) := dk_182 0 84 (dk_at dksX7_look_3 14 rfl rfl)
theorem dX7_look_129 : decode cX7_look 129 = .ok (.ireturn, 1) := dk_172 (dk_at dksX7_look_3 17 rfl rfl)
theorem dX7_look_130 : decode cX7_look 130 = .ok (.aload_n 0, 1) := dk_42 (dk_at dksX7_look_3 18 rfl rfl)
theorem dX7_look_131 : decode cX7_look 131 = .ok (.iload_n 1, 1) := dk_27 (dk_at dksX7_look_3 19 rfl rfl)
theorem dX7_look_132 : decode cX7_look 132 = .ok (.bipush 6, 2) := dk_16 6 (dk_at dksX7_look_3 20 rfl rfl)
theorem dX7_look_134 : decode cX7_look 134 = .ok (.invokevirtual 84, 3) := dk_182 0 84 (dk_at dksX7_look_4 0 rfl rfl)
theorem dX7_look_137 : decode cX7_look 137 = .ok (.ireturn, 1) := dk_172 (dk_at dksX7_look_4 3 rfl rfl)
theorem dX7_look_138 : decode cX7_look 138 = .ok (.aload_n 0, 1) := dk_42 (dk_at dksX7_look_4 4 rfl rfl)
theorem dX7_look_139 : decode cX7_look 139 = .ok (.iload_n 1, 1) := dk_27 (dk_at dksX7_look_4 5 rfl rfl)
theorem dX7_look_140 : decode cX7_look 140 = .ok (.invokevirtual 115, 3) := dk_182 0 115 (dk_at dksX7_look_4 6 rfl rfl)
theorem dX7_look_143 : decode cX7_look 143 = .ok (.ireturn, 1) := dk_172 (dk_at dksX7_look_4 9 rfl rfl)
theorem dX7_look_144 : decode cX7_look 144 = .ok (.aload_n 0, 1) := dk_42 (dk_at dksX7_look_4 10 rfl rfl)
theorem dX7_look_145 : decode cX7_look 145 = .ok (.iload_n 1, 1) := dk_27 (dk_at dksX7_look_4 11 rfl rfl)
theorem dX7_look_146 : decode cX7_look 146 = .ok (.bipush 7, 2) := dk_16 7 (dk_at dksX7_look_4 12 rfl rfl)
theorem dX7_look_148 : decode cX7_look 148 = .ok (.invokevirtual 84, 3) := dk_182 0 84 (dk_at dksX7_look_4 14 rfl rfl)
theorem dX7_look_151 : decode cX7_look 151 = .ok (.ireturn, 1) := dk_172 (dk_at dksX7_look_4 17 rfl rfl)
theorem dX7_look_152 : decode cX7_look 152 = .ok (.aload_n 0, 1) := dk_42 (dk_at dksX7_look_4 18 rfl rfl)
theorem dX7_look_153 : decode cX7_look 153 = .ok (.iload_n 1, 1) := dk_27 (dk_at dksX7_look_4 19 rfl rfl)
theorem dX7_look_154 : decode cX7_look 154 = .ok (.bipush 8, 2) := dk_16 8 (dk_at dksX7_look_4 20 rfl rfl)
theorem dX7_look_156 : decode cX7_look 156 = .ok (.invokevirtual 84, 3) := dk_182 0 84 (dk_at dksX7_look_5 0 rfl rfl)
theorem dX7_look_159 : decode cX7_look 159 = .ok (.ireturn, 1) := dk_172 (dk_at dksX7_look_5 3 rfl rfl)
theorem dX7_look_160 : decode cX7_look 160 = .ok (.aload_n 0, 1) := dk_42 (dk_at dksX7_look_5 4 rfl rfl)
theorem dX7_look_161 : decode cX7_look 161 = .ok (.iload_n 1, 1) := dk_27 (dk_at dksX7_look_5 5 rfl rfl)
theorem dX7_look_162 : decode cX7_look 162 = .ok (.bipush 9, 2) := dk_16 9 (dk_at dksX7_look_5 6 rfl rfl)
theorem dX7_look_164 : decode cX7_look 164 = .ok (.invokevirtual 84, 3) := dk_182 0 84 (dk_at dksX7_look_5 8 rfl rfl)
theorem dX7_look_167 : decode cX7_look 167 = .ok (.ireturn, 1) := dk_172 (dk_at dksX7_look_5 11 rfl rfl)
theorem dX7_look_168 : decode cX7_look 168 = .ok (.aload_n 0, 1) := dk_42 (dk_at dksX7_look_5 12 rfl rfl)
theorem dX7_look_169 : decode cX7_look 169 = .ok (.iload_n 1, 1) := dk_27 (dk_at dksX7_look_5 13 rfl rfl)
theorem dX7_look_170 : decode cX7_look 170 = .ok (.bipush 10, 2) := dk_16 10 (dk_at dksX7_look_5 14 rfl rfl)
theorem dX7_look_172 : decode cX7_look 172 = .ok (.invokevirtual 84, 3) := dk_182 0 84 (dk_at dksX7_look_5 16 rfl rfl)
theorem dX7_look_175 : decode cX7_look 175 = .ok (.ireturn, 1) := dk_172 (dk_at dksX7_look_5 19 rfl rfl)
theorem dX7_look_176 : decode cX7_look 176 = .ok (.aload_n 0, 1) := dk_42 (dk_at dksX7_look_5 20 rfl rfl)
theorem dX7_look_177 : decode cX7_look 177 = .ok (.iload_n 1, 1) := dk_27 (dk_at dksX7_look_5 21 rfl rfl)
theorem dX7_look_178 : decode cX7_look 178 = .ok (.bipush 11, 2) := dk_16 11 (dk_at dksX7_look_5 22 rfl rfl)
theorem dX7_look_180 : decode cX7_look 180 = .ok (.invokevirtual 84, 3) := dk_182 0 84 (dk_at dksX7_look_6 0 rfl rfl)
theorem dX7_look_183 : decode cX7_look 183 = .ok (.ireturn, 1) := dk_172 (dk_at dksX7_look_6 3 rfl rfl)
theorem dX7_look_184 : decode cX7_look 184 = .ok (.aload_n 0, 1) := dk_42 (dk_at dksX7_look_6 4 rfl rfl)
theorem dX7_look_185 : decode cX7_look 185 = .ok (.iload_n 1, 1) := dk_27 (dk_at dksX7_look_6 5 rfl rfl)
theorem dX7_look_186 : decode cX7_look 186 = .ok (.invokevirtual 133, 3) := dk_182 0 133 (dk_at dksX7_look_6 6 rfl rfl)
theorem dX7_look_189 : decode cX7_look 189 = .ok (.ifCond .eq 7, 3) := dk_153 0 7 (dk_at dksX7_look_6 9 rfl rfl)
theorem dX7_look_192 : decode cX7_look 192 = .ok (.iconst 1, 1) := dk_4 (dk_at dksX7_look_6 12 rfl rfl)
theorem dX7_look_193 : decode cX7_look 193 = .ok (.goto 4, 3) := dk_167 0 4 (dk_at dksX7_look_6 13 rfl rfl)
theorem dX7_look_196 : decode cX7_look 196 = .ok (.iconst 0, 1) := dk_3 (dk_at dksX7_look_6 16 rfl rfl)
theorem dX7_look_197 : decode cX7_look 197 = .ok (.ireturn, 1) := dk_172 (dk_at dksX7_look_6 17 rfl rfl)
theorem dX7_look_198 : decode cX7_look 198 = .ok (.aload_n 0, 1) := dk_42 (dk_at dksX7_look_6 18 rfl rfl)
theorem dX7_look_199 : decode cX7_look 199 = .ok (.bipush (-7), 2) := dk_16 249 (dk_at dksX7_look_6 19 rfl rfl)
theorem dX7_look_201 : decode cX7_look 201 = .ok (.invokevirtual 80, 3) := dk_182 0 80 (dk_at dksX7_look_6 21 rfl rfl)
theorem dX7_look_204 : decode cX7_look 204 = .ok (.ireturn, 1) := dk_172 (dk_at dksX7_look_7 0 rfl rfl)
abbrev cX7_st : ByteArray := prog_19_method_7_code
def yX7_st : MethodName := ⟨RX7, "st", "(II)I"⟩
def dkwX7_st_0 : List UInt8 := [42, 180, 0, 13, 16, 16, 16, 14, 27, 104, 96, 28, 96, 46, 172]
abbrev dktX7_st_0 : List UInt8 := dkwX7_st_0 ++ []
theorem dksX7_st_0 : cX7_st.data.toList.drop 0 = dktX7_st_0 := by decide +kernel
theorem dX7_st_0 : decode cX7_st 0 = .ok (.aload_n 0, 1) := dk_42 (dk_at dksX7_st_0 0 rfl rfl)
theorem dX7_st_1 : decode cX7_st 1 = .ok (.getfield 13, 3) := dk_180 0 13 (dk_at dksX7_st_0 1 rfl rfl)
theorem dX7_st_4 : decode cX7_st 4 = .ok (.bipush 16, 2) := dk_16 16 (dk_at dksX7_st_0 4 rfl rfl)
theorem dX7_st_6 : decode cX7_st 6 = .ok (.bipush 14, 2) := dk_16 14 (dk_at dksX7_st_0 6 rfl rfl)
theorem dX7_st_8 : decode cX7_st 8 = .ok (.iload_n 1, 1) := dk_27 (dk_at dksX7_st_0 8 rfl rfl)
theorem dX7_st_9 : decode cX7_st 9 = .ok (.imul, 1) := dk_104 (dk_at dksX7_st_0 9 rfl rfl)
theorem dX7_st_10 : decode cX7_st 10 = .ok (.iadd, 1) := dk_96 (dk_at dksX7_st_0 10 rfl rfl)
theorem dX7_st_11 : decode cX7_st 11 = .ok (.iload_n 2, 1) := dk_28 (dk_at dksX7_st_0 11 rfl rfl)
theorem dX7_st_12 : decode cX7_st 12 = .ok (.iadd, 1) := dk_96 (dk_at dksX7_st_0 12 rfl rfl)
theorem dX7_st_13 : decode cX7_st 13 = .ok (.iaload, 1) := dk_46 (dk_at dksX7_st_0 13 rfl rfl)
theorem dX7_st_14 : decode cX7_st 14 = .ok (.ireturn, 1) := dk_172 (dk_at dksX7_st_0 14 rfl rfl)
abbrev cX7_wood : ByteArray := prog_19_method_14_code
def yX7_wood : MethodName := ⟨RX7, "wood", "(I)I"⟩
def dkwX7_wood_0 : List UInt8 := [42, 27, 42, 27, 8, 182, 0, 84, 42, 27, 16, 6, 182, 0, 84, 182, 0, 112, 172]
abbrev dktX7_wood_0 : List UInt8 := dkwX7_wood_0 ++ []
theorem dksX7_wood_0 : cX7_wood.data.toList.drop 0 = dktX7_wood_0 := by decide +kernel
theorem dX7_wood_0 : decode cX7_wood 0 = .ok (.aload_n 0, 1) := dk_42 (dk_at dksX7_wood_0 0 rfl rfl)
theorem dX7_wood_1 : decode cX7_wood 1 = .ok (.iload_n 1, 1) := dk_27 (dk_at dksX7_wood_0 1 rfl rfl)
theorem dX7_wood_2 : decode cX7_wood 2 = .ok (.aload_n 0, 1) := dk_42 (dk_at dksX7_wood_0 2 rfl rfl)
theorem dX7_wood_3 : decode cX7_wood 3 = .ok (.iload_n 1, 1) := dk_27 (dk_at dksX7_wood_0 3 rfl rfl)
theorem dX7_wood_4 : decode cX7_wood 4 = .ok (.iconst 5, 1) := dk_8 (dk_at dksX7_wood_0 4 rfl rfl)
theorem dX7_wood_5 : decode cX7_wood 5 = .ok (.invokevirtual 84, 3) := dk_182 0 84 (dk_at dksX7_wood_0 5 rfl rfl)
theorem dX7_wood_8 : decode cX7_wood 8 = .ok (.aload_n 0, 1) := dk_42 (dk_at dksX7_wood_0 8 rfl rfl)
theorem dX7_wood_9 : decode cX7_wood 9 = .ok (.iload_n 1, 1) := dk_27 (dk_at dksX7_wood_0 9 rfl rfl)
theorem dX7_wood_10 : decode cX7_wood 10 = .ok (.bipush 6, 2) := dk_16 6 (dk_at dksX7_wood_0 10 rfl rfl)
theorem dX7_wood_12 : decode cX7_wood 12 = .ok (.invokevirtual 84, 3) := dk_182 0 84 (dk_at dksX7_wood_0 12 rfl rfl)
theorem dX7_wood_15 : decode cX7_wood 15 = .ok (.invokevirtual 112, 3) := dk_182 0 112 (dk_at dksX7_wood_0 15 rfl rfl)
theorem dX7_wood_18 : decode cX7_wood 18 = .ok (.ireturn, 1) := dk_172 (dk_at dksX7_wood_0 18 rfl rfl)
abbrev cX7_woodWith : ByteArray := prog_19_method_13_code
def yX7_woodWith : MethodName := ⟨RX7, "woodWith", "(III)I"⟩
def dkwX7_woodWith_1 : List UInt8 := [105, 29, 133, 105, 20, 0, 110, 109, 136, 172]
abbrev dktX7_woodWith_1 : List UInt8 := dkwX7_woodWith_1 ++ []
def dkwX7_woodWith_0 : List UInt8 := [42, 27, 7, 182, 0, 84, 133, 42, 27, 5, 182, 0, 84, 42, 27, 4, 182, 0, 84, 28, 184, 0, 106, 133]
abbrev dktX7_woodWith_0 : List UInt8 := dkwX7_woodWith_0 ++ dktX7_woodWith_1
theorem dksX7_woodWith_0 : cX7_woodWith.data.toList.drop 0 = dktX7_woodWith_0 := by decide +kernel
theorem dksX7_woodWith_1 : cX7_woodWith.data.toList.drop 24 = dktX7_woodWith_1 := dk_seg dksX7_woodWith_0 24 rfl rfl
theorem dX7_woodWith_0 : decode cX7_woodWith 0 = .ok (.aload_n 0, 1) := dk_42 (dk_at dksX7_woodWith_0 0 rfl rfl)
theorem dX7_woodWith_1 : decode cX7_woodWith 1 = .ok (.iload_n 1, 1) := dk_27 (dk_at dksX7_woodWith_0 1 rfl rfl)
theorem dX7_woodWith_2 : decode cX7_woodWith 2 = .ok (.iconst 4, 1) := dk_7 (dk_at dksX7_woodWith_0 2 rfl rfl)
theorem dX7_woodWith_3 : decode cX7_woodWith 3 = .ok (.invokevirtual 84, 3) := dk_182 0 84 (dk_at dksX7_woodWith_0 3 rfl rfl)
theorem dX7_woodWith_6 : decode cX7_woodWith 6 = .ok (.i2l, 1) := dk_133 (dk_at dksX7_woodWith_0 6 rfl rfl)
theorem dX7_woodWith_7 : decode cX7_woodWith 7 = .ok (.aload_n 0, 1) := dk_42 (dk_at dksX7_woodWith_0 7 rfl rfl)
theorem dX7_woodWith_8 : decode cX7_woodWith 8 = .ok (.iload_n 1, 1) := dk_27 (dk_at dksX7_woodWith_0 8 rfl rfl)
theorem dX7_woodWith_9 : decode cX7_woodWith 9 = .ok (.iconst 2, 1) := dk_5 (dk_at dksX7_woodWith_0 9 rfl rfl)
theorem dX7_woodWith_10 : decode cX7_woodWith 10 = .ok (.invokevirtual 84, 3) := dk_182 0 84 (dk_at dksX7_woodWith_0 10 rfl rfl)
theorem dX7_woodWith_13 : decode cX7_woodWith 13 = .ok (.aload_n 0, 1) := dk_42 (dk_at dksX7_woodWith_0 13 rfl rfl)
theorem dX7_woodWith_14 : decode cX7_woodWith 14 = .ok (.iload_n 1, 1) := dk_27 (dk_at dksX7_woodWith_0 14 rfl rfl)
theorem dX7_woodWith_15 : decode cX7_woodWith 15 = .ok (.iconst 1, 1) := dk_4 (dk_at dksX7_woodWith_0 15 rfl rfl)
theorem dX7_woodWith_16 : decode cX7_woodWith 16 = .ok (.invokevirtual 84, 3) := dk_182 0 84 (dk_at dksX7_woodWith_0 16 rfl rfl)
theorem dX7_woodWith_19 : decode cX7_woodWith 19 = .ok (.iload_n 2, 1) := dk_28 (dk_at dksX7_woodWith_0 19 rfl rfl)
theorem dX7_woodWith_20 : decode cX7_woodWith 20 = .ok (.invokestatic 106, 3) := dk_184 0 106 (dk_at dksX7_woodWith_0 20 rfl rfl)
theorem dX7_woodWith_23 : decode cX7_woodWith 23 = .ok (.i2l, 1) := dk_133 (dk_at dksX7_woodWith_0 23 rfl rfl)
theorem dX7_woodWith_24 : decode cX7_woodWith 24 = .ok (.lmul, 1) := dk_105 (dk_at dksX7_woodWith_1 0 rfl rfl)
theorem dX7_woodWith_25 : decode cX7_woodWith 25 = .ok (.iload_n 3, 1) := dk_29 (dk_at dksX7_woodWith_1 1 rfl rfl)
theorem dX7_woodWith_26 : decode cX7_woodWith 26 = .ok (.i2l, 1) := dk_133 (dk_at dksX7_woodWith_1 2 rfl rfl)
theorem dX7_woodWith_27 : decode cX7_woodWith 27 = .ok (.lmul, 1) := dk_105 (dk_at dksX7_woodWith_1 3 rfl rfl)
theorem dX7_woodWith_28 : decode cX7_woodWith 28 = .ok (.ldc2_w 110, 3) := dk_20 0 110 (dk_at dksX7_woodWith_1 4 rfl rfl)
theorem dX7_woodWith_31 : decode cX7_woodWith 31 = .ok (.ldiv, 1) := dk_109 (dk_at dksX7_woodWith_1 7 rfl rfl)
theorem dX7_woodWith_32 : decode cX7_woodWith 32 = .ok (.l2i, 1) := dk_136 (dk_at dksX7_woodWith_1 8 rfl rfl)
theorem dX7_woodWith_33 : decode cX7_woodWith 33 = .ok (.ireturn, 1) := dk_172 (dk_at dksX7_woodWith_1 9 rfl rfl)
abbrev cX7_feetOf : ByteArray := prog_19_method_12_code
def yX7_feetOf : MethodName := ⟨RX7, "feetOf", "(III)I"⟩
def dkwX7_feetOf_4 : List UInt8 := [22, 5, 22, 5, 105, 97, 109, 136, 172]
abbrev dktX7_feetOf_4 : List UInt8 := dkwX7_feetOf_4 ++ []
def dkwX7_feetOf_3 : List UInt8 := [20, 0, 102, 167, 0, 6, 20, 0, 104, 55, 5, 28, 133, 28, 133, 105, 55, 7, 33, 22, 7, 105, 22, 7]
abbrev dktX7_feetOf_3 : List UInt8 := dkwX7_feetOf_3 ++ dktX7_feetOf_4
def dkwX7_feetOf_2 : List UInt8 := [20, 0, 98, 167, 0, 28, 26, 4, 160, 0, 9, 20, 0, 100, 167, 0, 17, 26, 5, 160, 0, 9]
abbrev dktX7_feetOf_2 : List UInt8 := dkwX7_feetOf_2 ++ dktX7_feetOf_3
def dkwX7_feetOf_1 : List UInt8 := [167, 0, 17, 26, 5, 160, 0, 9, 20, 0, 94, 167, 0, 6, 20, 0, 96, 105, 66, 26, 154, 0, 9]
abbrev dktX7_feetOf_1 : List UInt8 := dkwX7_feetOf_1 ++ dktX7_feetOf_2
def dkwX7_feetOf_0 : List UInt8 := [27, 133, 20, 0, 88, 97, 26, 154, 0, 9, 20, 0, 90, 167, 0, 28, 26, 4, 160, 0, 9, 20, 0, 92]
abbrev dktX7_feetOf_0 : List UInt8 := dkwX7_feetOf_0 ++ dktX7_feetOf_1
theorem dksX7_feetOf_0 : cX7_feetOf.data.toList.drop 0 = dktX7_feetOf_0 := by decide +kernel
theorem dksX7_feetOf_1 : cX7_feetOf.data.toList.drop 24 = dktX7_feetOf_1 := dk_seg dksX7_feetOf_0 24 rfl rfl
theorem dksX7_feetOf_2 : cX7_feetOf.data.toList.drop 47 = dktX7_feetOf_2 := dk_seg dksX7_feetOf_1 23 rfl rfl
theorem dksX7_feetOf_3 : cX7_feetOf.data.toList.drop 69 = dktX7_feetOf_3 := dk_seg dksX7_feetOf_2 22 rfl rfl
theorem dksX7_feetOf_4 : cX7_feetOf.data.toList.drop 93 = dktX7_feetOf_4 := dk_seg dksX7_feetOf_3 24 rfl rfl
theorem dX7_feetOf_0 : decode cX7_feetOf 0 = .ok (.iload_n 1, 1) := dk_27 (dk_at dksX7_feetOf_0 0 rfl rfl)
theorem dX7_feetOf_1 : decode cX7_feetOf 1 = .ok (.i2l, 1) := dk_133 (dk_at dksX7_feetOf_0 1 rfl rfl)
theorem dX7_feetOf_2 : decode cX7_feetOf 2 = .ok (.ldc2_w 88, 3) := dk_20 0 88 (dk_at dksX7_feetOf_0 2 rfl rfl)
theorem dX7_feetOf_5 : decode cX7_feetOf 5 = .ok (.ladd, 1) := dk_97 (dk_at dksX7_feetOf_0 5 rfl rfl)
theorem dX7_feetOf_6 : decode cX7_feetOf 6 = .ok (.iload_n 0, 1) := dk_26 (dk_at dksX7_feetOf_0 6 rfl rfl)
theorem dX7_feetOf_7 : decode cX7_feetOf 7 = .ok (.ifCond .ne 9, 3) := dk_154 0 9 (dk_at dksX7_feetOf_0 7 rfl rfl)
theorem dX7_feetOf_10 : decode cX7_feetOf 10 = .ok (.ldc2_w 90, 3) := dk_20 0 90 (dk_at dksX7_feetOf_0 10 rfl rfl)
theorem dX7_feetOf_13 : decode cX7_feetOf 13 = .ok (.goto 28, 3) := dk_167 0 28 (dk_at dksX7_feetOf_0 13 rfl rfl)
theorem dX7_feetOf_16 : decode cX7_feetOf 16 = .ok (.iload_n 0, 1) := dk_26 (dk_at dksX7_feetOf_0 16 rfl rfl)
theorem dX7_feetOf_17 : decode cX7_feetOf 17 = .ok (.iconst 1, 1) := dk_4 (dk_at dksX7_feetOf_0 17 rfl rfl)
theorem dX7_feetOf_18 : decode cX7_feetOf 18 = .ok (.if_icmp .ne 9, 3) := dk_160 0 9 (dk_at dksX7_feetOf_0 18 rfl rfl)
theorem dX7_feetOf_21 : decode cX7_feetOf 21 = .ok (.ldc2_w 92, 3) := dk_20 0 92 (dk_at dksX7_feetOf_0 21 rfl rfl)
theorem dX7_feetOf_24 : decode cX7_feetOf 24 = .ok (.goto 17, 3) := dk_167 0 17 (dk_at dksX7_feetOf_1 0 rfl rfl)
theorem dX7_feetOf_27 : decode cX7_feetOf 27 = .ok (.iload_n 0, 1) := dk_26 (dk_at dksX7_feetOf_1 3 rfl rfl)
theorem dX7_feetOf_28 : decode cX7_feetOf 28 = .ok (.iconst 2, 1) := dk_5 (dk_at dksX7_feetOf_1 4 rfl rfl)
theorem dX7_feetOf_29 : decode cX7_feetOf 29 = .ok (.if_icmp .ne 9, 3) := dk_160 0 9 (dk_at dksX7_feetOf_1 5 rfl rfl)
theorem dX7_feetOf_32 : decode cX7_feetOf 32 = .ok (.ldc2_w 94, 3) := dk_20 0 94 (dk_at dksX7_feetOf_1 8 rfl rfl)
theorem dX7_feetOf_35 : decode cX7_feetOf 35 = .ok (.goto 6, 3) := dk_167 0 6 (dk_at dksX7_feetOf_1 11 rfl rfl)
theorem dX7_feetOf_38 : decode cX7_feetOf 38 = .ok (.ldc2_w 96, 3) := dk_20 0 96 (dk_at dksX7_feetOf_1 14 rfl rfl)
theorem dX7_feetOf_41 : decode cX7_feetOf 41 = .ok (.lmul, 1) := dk_105 (dk_at dksX7_feetOf_1 17 rfl rfl)
theorem dX7_feetOf_42 : decode cX7_feetOf 42 = .ok (.lstore_n 3, 1) := dk_66 (dk_at dksX7_feetOf_1 18 rfl rfl)
theorem dX7_feetOf_43 : decode cX7_feetOf 43 = .ok (.iload_n 0, 1) := dk_26 (dk_at dksX7_feetOf_1 19 rfl rfl)
theorem dX7_feetOf_44 : decode cX7_feetOf 44 = .ok (.ifCond .ne 9, 3) := dk_154 0 9 (dk_at dksX7_feetOf_1 20 rfl rfl)
theorem dX7_feetOf_47 : decode cX7_feetOf 47 = .ok (.ldc2_w 98, 3) := dk_20 0 98 (dk_at dksX7_feetOf_2 0 rfl rfl)
theorem dX7_feetOf_50 : decode cX7_feetOf 50 = .ok (.goto 28, 3) := dk_167 0 28 (dk_at dksX7_feetOf_2 3 rfl rfl)
theorem dX7_feetOf_53 : decode cX7_feetOf 53 = .ok (.iload_n 0, 1) := dk_26 (dk_at dksX7_feetOf_2 6 rfl rfl)
theorem dX7_feetOf_54 : decode cX7_feetOf 54 = .ok (.iconst 1, 1) := dk_4 (dk_at dksX7_feetOf_2 7 rfl rfl)
theorem dX7_feetOf_55 : decode cX7_feetOf 55 = .ok (.if_icmp .ne 9, 3) := dk_160 0 9 (dk_at dksX7_feetOf_2 8 rfl rfl)
theorem dX7_feetOf_58 : decode cX7_feetOf 58 = .ok (.ldc2_w 100, 3) := dk_20 0 100 (dk_at dksX7_feetOf_2 11 rfl rfl)
theorem dX7_feetOf_61 : decode cX7_feetOf 61 = .ok (.goto 17, 3) := dk_167 0 17 (dk_at dksX7_feetOf_2 14 rfl rfl)
theorem dX7_feetOf_64 : decode cX7_feetOf 64 = .ok (.iload_n 0, 1) := dk_26 (dk_at dksX7_feetOf_2 17 rfl rfl)
theorem dX7_feetOf_65 : decode cX7_feetOf 65 = .ok (.iconst 2, 1) := dk_5 (dk_at dksX7_feetOf_2 18 rfl rfl)
theorem dX7_feetOf_66 : decode cX7_feetOf 66 = .ok (.if_icmp .ne 9, 3) := dk_160 0 9 (dk_at dksX7_feetOf_2 19 rfl rfl)
theorem dX7_feetOf_69 : decode cX7_feetOf 69 = .ok (.ldc2_w 102, 3) := dk_20 0 102 (dk_at dksX7_feetOf_3 0 rfl rfl)
theorem dX7_feetOf_72 : decode cX7_feetOf 72 = .ok (.goto 6, 3) := dk_167 0 6 (dk_at dksX7_feetOf_3 3 rfl rfl)
theorem dX7_feetOf_75 : decode cX7_feetOf 75 = .ok (.ldc2_w 104, 3) := dk_20 0 104 (dk_at dksX7_feetOf_3 6 rfl rfl)
theorem dX7_feetOf_78 : decode cX7_feetOf 78 = .ok (.lstore 5, 2) := dk_55 5 (dk_at dksX7_feetOf_3 9 rfl rfl)
theorem dX7_feetOf_80 : decode cX7_feetOf 80 = .ok (.iload_n 2, 1) := dk_28 (dk_at dksX7_feetOf_3 11 rfl rfl)
theorem dX7_feetOf_81 : decode cX7_feetOf 81 = .ok (.i2l, 1) := dk_133 (dk_at dksX7_feetOf_3 12 rfl rfl)
theorem dX7_feetOf_82 : decode cX7_feetOf 82 = .ok (.iload_n 2, 1) := dk_28 (dk_at dksX7_feetOf_3 13 rfl rfl)
theorem dX7_feetOf_83 : decode cX7_feetOf 83 = .ok (.i2l, 1) := dk_133 (dk_at dksX7_feetOf_3 14 rfl rfl)
theorem dX7_feetOf_84 : decode cX7_feetOf 84 = .ok (.lmul, 1) := dk_105 (dk_at dksX7_feetOf_3 15 rfl rfl)
theorem dX7_feetOf_85 : decode cX7_feetOf 85 = .ok (.lstore 7, 2) := dk_55 7 (dk_at dksX7_feetOf_3 16 rfl rfl)
theorem dX7_feetOf_87 : decode cX7_feetOf 87 = .ok (.lload_n 3, 1) := dk_33 (dk_at dksX7_feetOf_3 18 rfl rfl)
theorem dX7_feetOf_88 : decode cX7_feetOf 88 = .ok (.lload 7, 2) := dk_22 7 (dk_at dksX7_feetOf_3 19 rfl rfl)
theorem dX7_feetOf_90 : decode cX7_feetOf 90 = .ok (.lmul, 1) := dk_105 (dk_at dksX7_feetOf_3 21 rfl rfl)
theorem dX7_feetOf_91 : decode cX7_feetOf 91 = .ok (.lload 7, 2) := dk_22 7 (dk_at dksX7_feetOf_3 22 rfl rfl)
theorem dX7_feetOf_93 : decode cX7_feetOf 93 = .ok (.lload 5, 2) := dk_22 5 (dk_at dksX7_feetOf_4 0 rfl rfl)
theorem dX7_feetOf_95 : decode cX7_feetOf 95 = .ok (.lload 5, 2) := dk_22 5 (dk_at dksX7_feetOf_4 2 rfl rfl)
theorem dX7_feetOf_97 : decode cX7_feetOf 97 = .ok (.lmul, 1) := dk_105 (dk_at dksX7_feetOf_4 4 rfl rfl)
theorem dX7_feetOf_98 : decode cX7_feetOf 98 = .ok (.ladd, 1) := dk_97 (dk_at dksX7_feetOf_4 5 rfl rfl)
theorem dX7_feetOf_99 : decode cX7_feetOf 99 = .ok (.ldiv, 1) := dk_109 (dk_at dksX7_feetOf_4 6 rfl rfl)
theorem dX7_feetOf_100 : decode cX7_feetOf 100 = .ok (.l2i, 1) := dk_136 (dk_at dksX7_feetOf_4 7 rfl rfl)
theorem dX7_feetOf_101 : decode cX7_feetOf 101 = .ok (.ireturn, 1) := dk_172 (dk_at dksX7_feetOf_4 8 rfl rfl)
abbrev cX7_isLate : ByteArray := prog_19_method_18_code
def yX7_isLate : MethodName := ⟨RX7, "isLate", "(I)Z"⟩
def dkwX7_isLate_2 : List UInt8 := [161, 0, 7, 4, 167, 0, 4, 3, 172]
abbrev dktX7_isLate_2 : List UInt8 := dkwX7_isLate_2 ++ []
def dkwX7_isLate_1 : List UInt8 := [46, 42, 27, 16, 9, 182, 0, 84, 100, 42, 16, 7, 27, 42, 180, 0, 13, 3, 46, 16, 99, 182, 0, 129]
abbrev dktX7_isLate_1 : List UInt8 := dkwX7_isLate_1 ++ dktX7_isLate_2
def dkwX7_isLate_0 : List UInt8 := [42, 27, 182, 0, 126, 153, 0, 50, 42, 27, 16, 9, 182, 0, 84, 2, 159, 0, 39, 42, 180, 0, 13, 3]
abbrev dktX7_isLate_0 : List UInt8 := dkwX7_isLate_0 ++ dktX7_isLate_1
theorem dksX7_isLate_0 : cX7_isLate.data.toList.drop 0 = dktX7_isLate_0 := by decide +kernel
theorem dksX7_isLate_1 : cX7_isLate.data.toList.drop 24 = dktX7_isLate_1 := dk_seg dksX7_isLate_0 24 rfl rfl
theorem dksX7_isLate_2 : cX7_isLate.data.toList.drop 48 = dktX7_isLate_2 := dk_seg dksX7_isLate_1 24 rfl rfl
theorem dX7_isLate_0 : decode cX7_isLate 0 = .ok (.aload_n 0, 1) := dk_42 (dk_at dksX7_isLate_0 0 rfl rfl)
theorem dX7_isLate_1 : decode cX7_isLate 1 = .ok (.iload_n 1, 1) := dk_27 (dk_at dksX7_isLate_0 1 rfl rfl)
theorem dX7_isLate_2 : decode cX7_isLate 2 = .ok (.invokevirtual 126, 3) := dk_182 0 126 (dk_at dksX7_isLate_0 2 rfl rfl)
theorem dX7_isLate_5 : decode cX7_isLate 5 = .ok (.ifCond .eq 50, 3) := dk_153 0 50 (dk_at dksX7_isLate_0 5 rfl rfl)
theorem dX7_isLate_8 : decode cX7_isLate 8 = .ok (.aload_n 0, 1) := dk_42 (dk_at dksX7_isLate_0 8 rfl rfl)
theorem dX7_isLate_9 : decode cX7_isLate 9 = .ok (.iload_n 1, 1) := dk_27 (dk_at dksX7_isLate_0 9 rfl rfl)
theorem dX7_isLate_10 : decode cX7_isLate 10 = .ok (.bipush 9, 2) := dk_16 9 (dk_at dksX7_isLate_0 10 rfl rfl)
theorem dX7_isLate_12 : decode cX7_isLate 12 = .ok (.invokevirtual 84, 3) := dk_182 0 84 (dk_at dksX7_isLate_0 12 rfl rfl)
theorem dX7_isLate_15 : decode cX7_isLate 15 = .ok (.iconst (-1), 1) := dk_2 (dk_at dksX7_isLate_0 15 rfl rfl)
theorem dX7_isLate_16 : decode cX7_isLate 16 = .ok (.if_icmp .eq 39, 3) := dk_159 0 39 (dk_at dksX7_isLate_0 16 rfl rfl)
theorem dX7_isLate_19 : decode cX7_isLate 19 = .ok (.aload_n 0, 1) := dk_42 (dk_at dksX7_isLate_0 19 rfl rfl)
theorem dX7_isLate_20 : decode cX7_isLate 20 = .ok (.getfield 13, 3) := dk_180 0 13 (dk_at dksX7_isLate_0 20 rfl rfl)
theorem dX7_isLate_23 : decode cX7_isLate 23 = .ok (.iconst 0, 1) := dk_3 (dk_at dksX7_isLate_0 23 rfl rfl)
theorem dX7_isLate_24 : decode cX7_isLate 24 = .ok (.iaload, 1) := dk_46 (dk_at dksX7_isLate_1 0 rfl rfl)
theorem dX7_isLate_25 : decode cX7_isLate 25 = .ok (.aload_n 0, 1) := dk_42 (dk_at dksX7_isLate_1 1 rfl rfl)
theorem dX7_isLate_26 : decode cX7_isLate 26 = .ok (.iload_n 1, 1) := dk_27 (dk_at dksX7_isLate_1 2 rfl rfl)
theorem dX7_isLate_27 : decode cX7_isLate 27 = .ok (.bipush 9, 2) := dk_16 9 (dk_at dksX7_isLate_1 3 rfl rfl)
theorem dX7_isLate_29 : decode cX7_isLate 29 = .ok (.invokevirtual 84, 3) := dk_182 0 84 (dk_at dksX7_isLate_1 5 rfl rfl)
theorem dX7_isLate_32 : decode cX7_isLate 32 = .ok (.isub, 1) := dk_100 (dk_at dksX7_isLate_1 8 rfl rfl)
theorem dX7_isLate_33 : decode cX7_isLate 33 = .ok (.aload_n 0, 1) := dk_42 (dk_at dksX7_isLate_1 9 rfl rfl)
theorem dX7_isLate_34 : decode cX7_isLate 34 = .ok (.bipush 7, 2) := dk_16 7 (dk_at dksX7_isLate_1 10 rfl rfl)
theorem dX7_isLate_36 : decode cX7_isLate 36 = .ok (.iload_n 1, 1) := dk_27 (dk_at dksX7_isLate_1 12 rfl rfl)
theorem dX7_isLate_37 : decode cX7_isLate 37 = .ok (.aload_n 0, 1) := dk_42 (dk_at dksX7_isLate_1 13 rfl rfl)
theorem dX7_isLate_38 : decode cX7_isLate 38 = .ok (.getfield 13, 3) := dk_180 0 13 (dk_at dksX7_isLate_1 14 rfl rfl)
theorem dX7_isLate_41 : decode cX7_isLate 41 = .ok (.iconst 0, 1) := dk_3 (dk_at dksX7_isLate_1 17 rfl rfl)
theorem dX7_isLate_42 : decode cX7_isLate 42 = .ok (.iaload, 1) := dk_46 (dk_at dksX7_isLate_1 18 rfl rfl)
theorem dX7_isLate_43 : decode cX7_isLate 43 = .ok (.bipush 99, 2) := dk_16 99 (dk_at dksX7_isLate_1 19 rfl rfl)
theorem dX7_isLate_45 : decode cX7_isLate 45 = .ok (.invokevirtual 129, 3) := dk_182 0 129 (dk_at dksX7_isLate_1 21 rfl rfl)
theorem dX7_isLate_48 : decode cX7_isLate 48 = .ok (.if_icmp .lt 7, 3) := dk_161 0 7 (dk_at dksX7_isLate_2 0 rfl rfl)
theorem dX7_isLate_51 : decode cX7_isLate 51 = .ok (.iconst 1, 1) := dk_4 (dk_at dksX7_isLate_2 3 rfl rfl)
theorem dX7_isLate_52 : decode cX7_isLate 52 = .ok (.goto 4, 3) := dk_167 0 4 (dk_at dksX7_isLate_2 4 rfl rfl)
theorem dX7_isLate_55 : decode cX7_isLate 55 = .ok (.iconst 0, 1) := dk_3 (dk_at dksX7_isLate_2 7 rfl rfl)
theorem dX7_isLate_56 : decode cX7_isLate 56 = .ok (.ireturn, 1) := dk_172 (dk_at dksX7_isLate_2 8 rfl rfl)
abbrev cX7_isBare : ByteArray := prog_19_method_10_code
def yX7_isBare : MethodName := ⟨RX7, "isBare", "(I)Z"⟩
def dkwX7_isBare_0 : List UInt8 := [42, 27, 16, 6, 182, 0, 84, 154, 0, 7, 4, 167, 0, 4, 3, 172]
abbrev dktX7_isBare_0 : List UInt8 := dkwX7_isBare_0 ++ []
theorem dksX7_isBare_0 : cX7_isBare.data.toList.drop 0 = dktX7_isBare_0 := by decide +kernel
theorem dX7_isBare_0 : decode cX7_isBare 0 = .ok (.aload_n 0, 1) := dk_42 (dk_at dksX7_isBare_0 0 rfl rfl)
theorem dX7_isBare_1 : decode cX7_isBare 1 = .ok (.iload_n 1, 1) := dk_27 (dk_at dksX7_isBare_0 1 rfl rfl)
theorem dX7_isBare_2 : decode cX7_isBare 2 = .ok (.bipush 6, 2) := dk_16 6 (dk_at dksX7_isBare_0 2 rfl rfl)
theorem dX7_isBare_4 : decode cX7_isBare 4 = .ok (.invokevirtual 84, 3) := dk_182 0 84 (dk_at dksX7_isBare_0 4 rfl rfl)
theorem dX7_isBare_7 : decode cX7_isBare 7 = .ok (.ifCond .ne 7, 3) := dk_154 0 7 (dk_at dksX7_isBare_0 7 rfl rfl)
theorem dX7_isBare_10 : decode cX7_isBare 10 = .ok (.iconst 1, 1) := dk_4 (dk_at dksX7_isBare_0 10 rfl rfl)
theorem dX7_isBare_11 : decode cX7_isBare 11 = .ok (.goto 4, 3) := dk_167 0 4 (dk_at dksX7_isBare_0 11 rfl rfl)
theorem dX7_isBare_14 : decode cX7_isBare 14 = .ok (.iconst 0, 1) := dk_3 (dk_at dksX7_isBare_0 14 rfl rfl)
theorem dX7_isBare_15 : decode cX7_isBare 15 = .ok (.ireturn, 1) := dk_172 (dk_at dksX7_isBare_0 15 rfl rfl)
abbrev cX7_ruled : ByteArray := prog_19_method_56_code
def yX7_ruled : MethodName := ⟨RX7, "ruled", "(IIII)I"⟩
def dkwX7_ruled_0 : List UInt8 := [42, 27, 28, 29, 182, 1, 67, 2, 159, 0, 10, 42, 180, 1, 58, 167, 0, 5, 21, 4, 172]
abbrev dktX7_ruled_0 : List UInt8 := dkwX7_ruled_0 ++ []
theorem dksX7_ruled_0 : cX7_ruled.data.toList.drop 0 = dktX7_ruled_0 := by decide +kernel
theorem dX7_ruled_0 : decode cX7_ruled 0 = .ok (.aload_n 0, 1) := dk_42 (dk_at dksX7_ruled_0 0 rfl rfl)
theorem dX7_ruled_1 : decode cX7_ruled 1 = .ok (.iload_n 1, 1) := dk_27 (dk_at dksX7_ruled_0 1 rfl rfl)
theorem dX7_ruled_2 : decode cX7_ruled 2 = .ok (.iload_n 2, 1) := dk_28 (dk_at dksX7_ruled_0 2 rfl rfl)
theorem dX7_ruled_3 : decode cX7_ruled 3 = .ok (.iload_n 3, 1) := dk_29 (dk_at dksX7_ruled_0 3 rfl rfl)
theorem dX7_ruled_4 : decode cX7_ruled 4 = .ok (.invokevirtual 323, 3) := dk_182 1 67 (dk_at dksX7_ruled_0 4 rfl rfl)
theorem dX7_ruled_7 : decode cX7_ruled 7 = .ok (.iconst (-1), 1) := dk_2 (dk_at dksX7_ruled_0 7 rfl rfl)
theorem dX7_ruled_8 : decode cX7_ruled 8 = .ok (.if_icmp .eq 10, 3) := dk_159 0 10 (dk_at dksX7_ruled_0 8 rfl rfl)
theorem dX7_ruled_11 : decode cX7_ruled 11 = .ok (.aload_n 0, 1) := dk_42 (dk_at dksX7_ruled_0 11 rfl rfl)
theorem dX7_ruled_12 : decode cX7_ruled 12 = .ok (.getfield 314, 3) := dk_180 1 58 (dk_at dksX7_ruled_0 12 rfl rfl)
theorem dX7_ruled_15 : decode cX7_ruled 15 = .ok (.goto 5, 3) := dk_167 0 5 (dk_at dksX7_ruled_0 15 rfl rfl)
theorem dX7_ruled_18 : decode cX7_ruled 18 = .ok (.iload 4, 2) := dk_21 4 (dk_at dksX7_ruled_0 18 rfl rfl)
theorem dX7_ruled_20 : decode cX7_ruled 20 = .ok (.ireturn, 1) := dk_172 (dk_at dksX7_ruled_0 20 rfl rfl)
abbrev cX7_rules : ByteArray := prog_19_method_55_code
def yX7_rules : MethodName := ⟨RX7, "rules", "(III)I"⟩
def dkwX7_rules_6 : List UInt8 := [21, 4, 172, 132, 4, 255, 167, 255, 118, 2, 172]
abbrev dktX7_rules_6 : List UInt8 := dkwX7_rules_6 ++ []
def dkwX7_rules_5 : List UInt8 := [21, 6, 96, 46, 79, 132, 6, 1, 167, 255, 225, 42, 28, 29, 182, 1, 63, 42, 180, 1, 55, 153, 0, 6]
abbrev dktX7_rules_5 : List UInt8 := dkwX7_rules_5 ++ dktX7_rules_6
def dkwX7_rules_4 : List UInt8 := [21, 6, 42, 180, 0, 168, 162, 0, 28, 42, 180, 0, 27, 21, 6, 42, 180, 0, 13, 21, 5, 8, 96]
abbrev dktX7_rules_4 : List UInt8 := dkwX7_rules_4 ++ dktX7_rules_5
def dkwX7_rules_3 : List UInt8 := [46, 29, 163, 0, 6, 167, 0, 69, 42, 42, 180, 0, 13, 21, 5, 7, 96, 46, 181, 0, 168, 3, 54, 6]
abbrev dktX7_rules_3 : List UInt8 := dkwX7_rules_3 ++ dktX7_rules_4
def dkwX7_rules_2 : List UInt8 := [163, 0, 98, 42, 180, 0, 13, 21, 5, 5, 96, 46, 2, 159, 0, 19, 42, 180, 0, 13, 21, 5, 5, 96]
abbrev dktX7_rules_2 : List UInt8 := dkwX7_rules_2 ++ dktX7_rules_3
def dkwX7_rules_1 : List UInt8 := [54, 5, 42, 180, 0, 13, 21, 5, 46, 27, 160, 0, 111, 42, 180, 0, 13, 21, 5, 4, 96, 46, 29]
abbrev dktX7_rules_1 : List UInt8 := dkwX7_rules_1 ++ dktX7_rules_2
def dkwX7_rules_0 : List UInt8 := [42, 180, 0, 13, 7, 46, 4, 100, 54, 4, 21, 4, 155, 0, 139, 17, 5, 40, 16, 125, 21, 4, 104, 96]
abbrev dktX7_rules_0 : List UInt8 := dkwX7_rules_0 ++ dktX7_rules_1
theorem dksX7_rules_0 : cX7_rules.data.toList.drop 0 = dktX7_rules_0 := by decide +kernel
theorem dksX7_rules_1 : cX7_rules.data.toList.drop 24 = dktX7_rules_1 := dk_seg dksX7_rules_0 24 rfl rfl
theorem dksX7_rules_2 : cX7_rules.data.toList.drop 47 = dktX7_rules_2 := dk_seg dksX7_rules_1 23 rfl rfl
theorem dksX7_rules_3 : cX7_rules.data.toList.drop 71 = dktX7_rules_3 := dk_seg dksX7_rules_2 24 rfl rfl
theorem dksX7_rules_4 : cX7_rules.data.toList.drop 95 = dktX7_rules_4 := dk_seg dksX7_rules_3 24 rfl rfl
theorem dksX7_rules_5 : cX7_rules.data.toList.drop 118 = dktX7_rules_5 := dk_seg dksX7_rules_4 23 rfl rfl
theorem dksX7_rules_6 : cX7_rules.data.toList.drop 142 = dktX7_rules_6 := dk_seg dksX7_rules_5 24 rfl rfl
theorem dX7_rules_0 : decode cX7_rules 0 = .ok (.aload_n 0, 1) := dk_42 (dk_at dksX7_rules_0 0 rfl rfl)
theorem dX7_rules_1 : decode cX7_rules 1 = .ok (.getfield 13, 3) := dk_180 0 13 (dk_at dksX7_rules_0 1 rfl rfl)
theorem dX7_rules_4 : decode cX7_rules 4 = .ok (.iconst 4, 1) := dk_7 (dk_at dksX7_rules_0 4 rfl rfl)
theorem dX7_rules_5 : decode cX7_rules 5 = .ok (.iaload, 1) := dk_46 (dk_at dksX7_rules_0 5 rfl rfl)
theorem dX7_rules_6 : decode cX7_rules 6 = .ok (.iconst 1, 1) := dk_4 (dk_at dksX7_rules_0 6 rfl rfl)
theorem dX7_rules_7 : decode cX7_rules 7 = .ok (.isub, 1) := dk_100 (dk_at dksX7_rules_0 7 rfl rfl)
theorem dX7_rules_8 : decode cX7_rules 8 = .ok (.istore 4, 2) := dk_54 4 (dk_at dksX7_rules_0 8 rfl rfl)
theorem dX7_rules_10 : decode cX7_rules 10 = .ok (.iload 4, 2) := dk_21 4 (dk_at dksX7_rules_0 10 rfl rfl)
theorem dX7_rules_12 : decode cX7_rules 12 = .ok (.ifCond .lt 139, 3) := dk_155 0 139 (dk_at dksX7_rules_0 12 rfl rfl)
theorem dX7_rules_15 : decode cX7_rules 15 = .ok (.sipush 1320, 3) := dk_17 5 40 (dk_at dksX7_rules_0 15 rfl rfl)
theorem dX7_rules_18 : decode cX7_rules 18 = .ok (.bipush 125, 2) := dk_16 125 (dk_at dksX7_rules_0 18 rfl rfl)
theorem dX7_rules_20 : decode cX7_rules 20 = .ok (.iload 4, 2) := dk_21 4 (dk_at dksX7_rules_0 20 rfl rfl)
theorem dX7_rules_22 : decode cX7_rules 22 = .ok (.imul, 1) := dk_104 (dk_at dksX7_rules_0 22 rfl rfl)
theorem dX7_rules_23 : decode cX7_rules 23 = .ok (.iadd, 1) := dk_96 (dk_at dksX7_rules_0 23 rfl rfl)
theorem dX7_rules_24 : decode cX7_rules 24 = .ok (.istore 5, 2) := dk_54 5 (dk_at dksX7_rules_1 0 rfl rfl)
theorem dX7_rules_26 : decode cX7_rules 26 = .ok (.aload_n 0, 1) := dk_42 (dk_at dksX7_rules_1 2 rfl rfl)
theorem dX7_rules_27 : decode cX7_rules 27 = .ok (.getfield 13, 3) := dk_180 0 13 (dk_at dksX7_rules_1 3 rfl rfl)
theorem dX7_rules_30 : decode cX7_rules 30 = .ok (.iload 5, 2) := dk_21 5 (dk_at dksX7_rules_1 6 rfl rfl)
theorem dX7_rules_32 : decode cX7_rules 32 = .ok (.iaload, 1) := dk_46 (dk_at dksX7_rules_1 8 rfl rfl)
theorem dX7_rules_33 : decode cX7_rules 33 = .ok (.iload_n 1, 1) := dk_27 (dk_at dksX7_rules_1 9 rfl rfl)
theorem dX7_rules_34 : decode cX7_rules 34 = .ok (.if_icmp .ne 111, 3) := dk_160 0 111 (dk_at dksX7_rules_1 10 rfl rfl)
theorem dX7_rules_37 : decode cX7_rules 37 = .ok (.aload_n 0, 1) := dk_42 (dk_at dksX7_rules_1 13 rfl rfl)
theorem dX7_rules_38 : decode cX7_rules 38 = .ok (.getfield 13, 3) := dk_180 0 13 (dk_at dksX7_rules_1 14 rfl rfl)
theorem dX7_rules_41 : decode cX7_rules 41 = .ok (.iload 5, 2) := dk_21 5 (dk_at dksX7_rules_1 17 rfl rfl)
theorem dX7_rules_43 : decode cX7_rules 43 = .ok (.iconst 1, 1) := dk_4 (dk_at dksX7_rules_1 19 rfl rfl)
theorem dX7_rules_44 : decode cX7_rules 44 = .ok (.iadd, 1) := dk_96 (dk_at dksX7_rules_1 20 rfl rfl)
theorem dX7_rules_45 : decode cX7_rules 45 = .ok (.iaload, 1) := dk_46 (dk_at dksX7_rules_1 21 rfl rfl)
theorem dX7_rules_46 : decode cX7_rules 46 = .ok (.iload_n 3, 1) := dk_29 (dk_at dksX7_rules_1 22 rfl rfl)
theorem dX7_rules_47 : decode cX7_rules 47 = .ok (.if_icmp .gt 98, 3) := dk_163 0 98 (dk_at dksX7_rules_2 0 rfl rfl)
theorem dX7_rules_50 : decode cX7_rules 50 = .ok (.aload_n 0, 1) := dk_42 (dk_at dksX7_rules_2 3 rfl rfl)
theorem dX7_rules_51 : decode cX7_rules 51 = .ok (.getfield 13, 3) := dk_180 0 13 (dk_at dksX7_rules_2 4 rfl rfl)
theorem dX7_rules_54 : decode cX7_rules 54 = .ok (.iload 5, 2) := dk_21 5 (dk_at dksX7_rules_2 7 rfl rfl)
theorem dX7_rules_56 : decode cX7_rules 56 = .ok (.iconst 2, 1) := dk_5 (dk_at dksX7_rules_2 9 rfl rfl)
theorem dX7_rules_57 : decode cX7_rules 57 = .ok (.iadd, 1) := dk_96 (dk_at dksX7_rules_2 10 rfl rfl)
theorem dX7_rules_58 : decode cX7_rules 58 = .ok (.iaload, 1) := dk_46 (dk_at dksX7_rules_2 11 rfl rfl)
theorem dX7_rules_59 : decode cX7_rules 59 = .ok (.iconst (-1), 1) := dk_2 (dk_at dksX7_rules_2 12 rfl rfl)
theorem dX7_rules_60 : decode cX7_rules 60 = .ok (.if_icmp .eq 19, 3) := dk_159 0 19 (dk_at dksX7_rules_2 13 rfl rfl)
theorem dX7_rules_63 : decode cX7_rules 63 = .ok (.aload_n 0, 1) := dk_42 (dk_at dksX7_rules_2 16 rfl rfl)
theorem dX7_rules_64 : decode cX7_rules 64 = .ok (.getfield 13, 3) := dk_180 0 13 (dk_at dksX7_rules_2 17 rfl rfl)
theorem dX7_rules_67 : decode cX7_rules 67 = .ok (.iload 5, 2) := dk_21 5 (dk_at dksX7_rules_2 20 rfl rfl)
theorem dX7_rules_69 : decode cX7_rules 69 = .ok (.iconst 2, 1) := dk_5 (dk_at dksX7_rules_2 22 rfl rfl)
theorem dX7_rules_70 : decode cX7_rules 70 = .ok (.iadd, 1) := dk_96 (dk_at dksX7_rules_2 23 rfl rfl)
theorem dX7_rules_71 : decode cX7_rules 71 = .ok (.iaload, 1) := dk_46 (dk_at dksX7_rules_3 0 rfl rfl)
theorem dX7_rules_72 : decode cX7_rules 72 = .ok (.iload_n 3, 1) := dk_29 (dk_at dksX7_rules_3 1 rfl rfl)
theorem dX7_rules_73 : decode cX7_rules 73 = .ok (.if_icmp .gt 6, 3) := dk_163 0 6 (dk_at dksX7_rules_3 2 rfl rfl)
theorem dX7_rules_76 : decode cX7_rules 76 = .ok (.goto 69, 3) := dk_167 0 69 (dk_at dksX7_rules_3 5 rfl rfl)
theorem dX7_rules_79 : decode cX7_rules 79 = .ok (.aload_n 0, 1) := dk_42 (dk_at dksX7_rules_3 8 rfl rfl)
theorem dX7_rules_80 : decode cX7_rules 80 = .ok (.aload_n 0, 1) := dk_42 (dk_at dksX7_rules_3 9 rfl rfl)
theorem dX7_rules_81 : decode cX7_rules 81 = .ok (.getfield 13, 3) := dk_180 0 13 (dk_at dksX7_rules_3 10 rfl rfl)
theorem dX7_rules_84 : decode cX7_rules 84 = .ok (.iload 5, 2) := dk_21 5 (dk_at dksX7_rules_3 13 rfl rfl)
theorem dX7_rules_86 : decode cX7_rules 86 = .ok (.iconst 4, 1) := dk_7 (dk_at dksX7_rules_3 15 rfl rfl)
theorem dX7_rules_87 : decode cX7_rules 87 = .ok (.iadd, 1) := dk_96 (dk_at dksX7_rules_3 16 rfl rfl)
theorem dX7_rules_88 : decode cX7_rules 88 = .ok (.iaload, 1) := dk_46 (dk_at dksX7_rules_3 17 rfl rfl)
theorem dX7_rules_89 : decode cX7_rules 89 = .ok (.putfield 168, 3) := dk_181 0 168 (dk_at dksX7_rules_3 18 rfl rfl)
theorem dX7_rules_92 : decode cX7_rules 92 = .ok (.iconst 0, 1) := dk_3 (dk_at dksX7_rules_3 21 rfl rfl)
theorem dX7_rules_93 : decode cX7_rules 93 = .ok (.istore 6, 2) := dk_54 6 (dk_at dksX7_rules_3 22 rfl rfl)
theorem dX7_rules_95 : decode cX7_rules 95 = .ok (.iload 6, 2) := dk_21 6 (dk_at dksX7_rules_4 0 rfl rfl)
theorem dX7_rules_97 : decode cX7_rules 97 = .ok (.aload_n 0, 1) := dk_42 (dk_at dksX7_rules_4 2 rfl rfl)
theorem dX7_rules_98 : decode cX7_rules 98 = .ok (.getfield 168, 3) := dk_180 0 168 (dk_at dksX7_rules_4 3 rfl rfl)
theorem dX7_rules_101 : decode cX7_rules 101 = .ok (.if_icmp .ge 28, 3) := dk_162 0 28 (dk_at dksX7_rules_4 6 rfl rfl)
theorem dX7_rules_104 : decode cX7_rules 104 = .ok (.aload_n 0, 1) := dk_42 (dk_at dksX7_rules_4 9 rfl rfl)
theorem dX7_rules_105 : decode cX7_rules 105 = .ok (.getfield 27, 3) := dk_180 0 27 (dk_at dksX7_rules_4 10 rfl rfl)
theorem dX7_rules_108 : decode cX7_rules 108 = .ok (.iload 6, 2) := dk_21 6 (dk_at dksX7_rules_4 13 rfl rfl)
theorem dX7_rules_110 : decode cX7_rules 110 = .ok (.aload_n 0, 1) := dk_42 (dk_at dksX7_rules_4 15 rfl rfl)
theorem dX7_rules_111 : decode cX7_rules 111 = .ok (.getfield 13, 3) := dk_180 0 13 (dk_at dksX7_rules_4 16 rfl rfl)
theorem dX7_rules_114 : decode cX7_rules 114 = .ok (.iload 5, 2) := dk_21 5 (dk_at dksX7_rules_4 19 rfl rfl)
theorem dX7_rules_116 : decode cX7_rules 116 = .ok (.iconst 5, 1) := dk_8 (dk_at dksX7_rules_4 21 rfl rfl)
theorem dX7_rules_117 : decode cX7_rules 117 = .ok (.iadd, 1) := dk_96 (dk_at dksX7_rules_4 22 rfl rfl)
theorem dX7_rules_118 : decode cX7_rules 118 = .ok (.iload 6, 2) := dk_21 6 (dk_at dksX7_rules_5 0 rfl rfl)
theorem dX7_rules_120 : decode cX7_rules 120 = .ok (.iadd, 1) := dk_96 (dk_at dksX7_rules_5 2 rfl rfl)
theorem dX7_rules_121 : decode cX7_rules 121 = .ok (.iaload, 1) := dk_46 (dk_at dksX7_rules_5 3 rfl rfl)
theorem dX7_rules_122 : decode cX7_rules 122 = .ok (.iastore, 1) := dk_79 (dk_at dksX7_rules_5 4 rfl rfl)
theorem dX7_rules_123 : decode cX7_rules 123 = .ok (.iinc 6 1, 3) := dk_132 6 1 (dk_at dksX7_rules_5 5 rfl rfl)
theorem dX7_rules_126 : decode cX7_rules 126 = .ok (.goto (-31), 3) := dk_167 255 225 (dk_at dksX7_rules_5 8 rfl rfl)
theorem dX7_rules_129 : decode cX7_rules 129 = .ok (.aload_n 0, 1) := dk_42 (dk_at dksX7_rules_5 11 rfl rfl)
theorem dX7_rules_130 : decode cX7_rules 130 = .ok (.iload_n 2, 1) := dk_28 (dk_at dksX7_rules_5 12 rfl rfl)
theorem dX7_rules_131 : decode cX7_rules 131 = .ok (.iload_n 3, 1) := dk_29 (dk_at dksX7_rules_5 13 rfl rfl)
theorem dX7_rules_132 : decode cX7_rules 132 = .ok (.invokevirtual 319, 3) := dk_182 1 63 (dk_at dksX7_rules_5 14 rfl rfl)
theorem dX7_rules_135 : decode cX7_rules 135 = .ok (.aload_n 0, 1) := dk_42 (dk_at dksX7_rules_5 17 rfl rfl)
theorem dX7_rules_136 : decode cX7_rules 136 = .ok (.getfield 311, 3) := dk_180 1 55 (dk_at dksX7_rules_5 18 rfl rfl)
theorem dX7_rules_139 : decode cX7_rules 139 = .ok (.ifCond .eq 6, 3) := dk_153 0 6 (dk_at dksX7_rules_5 21 rfl rfl)
theorem dX7_rules_142 : decode cX7_rules 142 = .ok (.iload 4, 2) := dk_21 4 (dk_at dksX7_rules_6 0 rfl rfl)
theorem dX7_rules_144 : decode cX7_rules 144 = .ok (.ireturn, 1) := dk_172 (dk_at dksX7_rules_6 2 rfl rfl)
theorem dX7_rules_145 : decode cX7_rules 145 = .ok (.iinc 4 (-1), 3) := dk_132 4 255 (dk_at dksX7_rules_6 3 rfl rfl)
theorem dX7_rules_148 : decode cX7_rules 148 = .ok (.goto (-138), 3) := dk_167 255 118 (dk_at dksX7_rules_6 6 rfl rfl)
theorem dX7_rules_151 : decode cX7_rules 151 = .ok (.iconst (-1), 1) := dk_2 (dk_at dksX7_rules_6 9 rfl rfl)
theorem dX7_rules_152 : decode cX7_rules 152 = .ok (.ireturn, 1) := dk_172 (dk_at dksX7_rules_6 10 rfl rfl)
abbrev cX7_readLine : ByteArray := prog_19_method_54_code
def yX7_readLine : MethodName := ⟨RX7, "readLine", "(II)V"⟩
def dkwX7_readLine_8 : List UInt8 := [180, 0, 180, 153, 0, 7, 42, 182, 0, 207, 177]
abbrev dktX7_readLine_8 : List UInt8 := dkwX7_readLine_8 ++ []
def dkwX7_readLine_7 : List UInt8 := [182, 0, 253, 153, 0, 7, 4, 167, 0, 4, 3, 181, 1, 55, 42, 180, 0, 197, 154, 0, 14, 42]
abbrev dktX7_readLine_7 : List UInt8 := dkwX7_readLine_7 ++ dktX7_readLine_8
def dkwX7_readLine_6 : List UInt8 := [182, 0, 253, 181, 1, 58, 42, 20, 1, 61, 182, 0, 218, 153, 0, 23, 42, 182, 0, 210, 42, 42]
abbrev dktX7_readLine_6 : List UInt8 := dkwX7_readLine_6 ++ dktX7_readLine_7
def dkwX7_readLine_5 : List UInt8 := [154, 0, 59, 42, 182, 0, 210, 167, 0, 52, 42, 42, 180, 0, 197, 153, 0, 7, 3, 167, 0, 7, 42]
abbrev dktX7_readLine_5 : List UInt8 := dkwX7_readLine_5 ++ dktX7_readLine_6
def dkwX7_readLine_4 : List UInt8 := [42, 42, 180, 0, 197, 153, 0, 7, 3, 167, 0, 8, 42, 180, 0, 183, 136, 181, 1, 58, 42, 180, 0, 197]
abbrev dktX7_readLine_4 : List UInt8 := dkwX7_readLine_4 ++ dktX7_readLine_5
def dkwX7_readLine_3 : List UInt8 := [16, 8, 160, 0, 56, 42, 180, 0, 197, 154, 0, 11, 42, 180, 0, 180, 5, 159, 0, 7, 42, 182, 0, 207]
abbrev dktX7_readLine_3 : List UInt8 := dkwX7_readLine_3 ++ dktX7_readLine_4
def dkwX7_readLine_2 : List UInt8 := [182, 0, 207, 167, 0, 7, 42, 182, 0, 210, 42, 4, 181, 1, 55, 42, 3, 181, 1, 58, 42, 180, 1, 52]
abbrev dktX7_readLine_2 : List UInt8 := dkwX7_readLine_2 ++ dktX7_readLine_3
def dkwX7_readLine_1 : List UInt8 := [181, 0, 197, 42, 182, 0, 210, 42, 42, 182, 1, 49, 181, 1, 52, 42, 180, 1, 52, 2, 160, 0, 10, 42]
abbrev dktX7_readLine_1 : List UInt8 := dkwX7_readLine_1 ++ dktX7_readLine_2
def dkwX7_readLine_0 : List UInt8 := [42, 27, 181, 0, 213, 42, 28, 181, 0, 222, 42, 3, 181, 0, 171, 42, 3, 181, 0, 204, 42, 3]
abbrev dktX7_readLine_0 : List UInt8 := dkwX7_readLine_0 ++ dktX7_readLine_1
theorem dksX7_readLine_0 : cX7_readLine.data.toList.drop 0 = dktX7_readLine_0 := by decide +kernel
theorem dksX7_readLine_1 : cX7_readLine.data.toList.drop 22 = dktX7_readLine_1 := dk_seg dksX7_readLine_0 22 rfl rfl
theorem dksX7_readLine_2 : cX7_readLine.data.toList.drop 46 = dktX7_readLine_2 := dk_seg dksX7_readLine_1 24 rfl rfl
theorem dksX7_readLine_3 : cX7_readLine.data.toList.drop 70 = dktX7_readLine_3 := dk_seg dksX7_readLine_2 24 rfl rfl
theorem dksX7_readLine_4 : cX7_readLine.data.toList.drop 94 = dktX7_readLine_4 := dk_seg dksX7_readLine_3 24 rfl rfl
theorem dksX7_readLine_5 : cX7_readLine.data.toList.drop 118 = dktX7_readLine_5 := dk_seg dksX7_readLine_4 24 rfl rfl
theorem dksX7_readLine_6 : cX7_readLine.data.toList.drop 141 = dktX7_readLine_6 := dk_seg dksX7_readLine_5 23 rfl rfl
theorem dksX7_readLine_7 : cX7_readLine.data.toList.drop 163 = dktX7_readLine_7 := dk_seg dksX7_readLine_6 22 rfl rfl
theorem dksX7_readLine_8 : cX7_readLine.data.toList.drop 185 = dktX7_readLine_8 := dk_seg dksX7_readLine_7 22 rfl rfl
theorem dX7_readLine_0 : decode cX7_readLine 0 = .ok (.aload_n 0, 1) := dk_42 (dk_at dksX7_readLine_0 0 rfl rfl)
theorem dX7_readLine_1 : decode cX7_readLine 1 = .ok (.iload_n 1, 1) := dk_27 (dk_at dksX7_readLine_0 1 rfl rfl)
theorem dX7_readLine_2 : decode cX7_readLine 2 = .ok (.putfield 213, 3) := dk_181 0 213 (dk_at dksX7_readLine_0 2 rfl rfl)
theorem dX7_readLine_5 : decode cX7_readLine 5 = .ok (.aload_n 0, 1) := dk_42 (dk_at dksX7_readLine_0 5 rfl rfl)
theorem dX7_readLine_6 : decode cX7_readLine 6 = .ok (.iload_n 2, 1) := dk_28 (dk_at dksX7_readLine_0 6 rfl rfl)
theorem dX7_readLine_7 : decode cX7_readLine 7 = .ok (.putfield 222, 3) := dk_181 0 222 (dk_at dksX7_readLine_0 7 rfl rfl)
theorem dX7_readLine_10 : decode cX7_readLine 10 = .ok (.aload_n 0, 1) := dk_42 (dk_at dksX7_readLine_0 10 rfl rfl)
theorem dX7_readLine_11 : decode cX7_readLine 11 = .ok (.iconst 0, 1) := dk_3 (dk_at dksX7_readLine_0 11 rfl rfl)
theorem dX7_readLine_12 : decode cX7_readLine 12 = .ok (.putfield 171, 3) := dk_181 0 171 (dk_at dksX7_readLine_0 12 rfl rfl)
theorem dX7_readLine_15 : decode cX7_readLine 15 = .ok (.aload_n 0, 1) := dk_42 (dk_at dksX7_readLine_0 15 rfl rfl)
theorem dX7_readLine_16 : decode cX7_readLine 16 = .ok (.iconst 0, 1) := dk_3 (dk_at dksX7_readLine_0 16 rfl rfl)
theorem dX7_readLine_17 : decode cX7_readLine 17 = .ok (.putfield 204, 3) := dk_181 0 204 (dk_at dksX7_readLine_0 17 rfl rfl)
theorem dX7_readLine_20 : decode cX7_readLine 20 = .ok (.aload_n 0, 1) := dk_42 (dk_at dksX7_readLine_0 20 rfl rfl)
theorem dX7_readLine_21 : decode cX7_readLine 21 = .ok (.iconst 0, 1) := dk_3 (dk_at dksX7_readLine_0 21 rfl rfl)
theorem dX7_readLine_22 : decode cX7_readLine 22 = .ok (.putfield 197, 3) := dk_181 0 197 (dk_at dksX7_readLine_1 0 rfl rfl)
theorem dX7_readLine_25 : decode cX7_readLine 25 = .ok (.aload_n 0, 1) := dk_42 (dk_at dksX7_readLine_1 3 rfl rfl)
theorem dX7_readLine_26 : decode cX7_readLine 26 = .ok (.invokevirtual 210, 3) := dk_182 0 210 (dk_at dksX7_readLine_1 4 rfl rfl)
theorem dX7_readLine_29 : decode cX7_readLine 29 = .ok (.aload_n 0, 1) := dk_42 (dk_at dksX7_readLine_1 7 rfl rfl)
theorem dX7_readLine_30 : decode cX7_readLine 30 = .ok (.aload_n 0, 1) := dk_42 (dk_at dksX7_readLine_1 8 rfl rfl)
theorem dX7_readLine_31 : decode cX7_readLine 31 = .ok (.invokevirtual 305, 3) := dk_182 1 49 (dk_at dksX7_readLine_1 9 rfl rfl)
theorem dX7_readLine_34 : decode cX7_readLine 34 = .ok (.putfield 308, 3) := dk_181 1 52 (dk_at dksX7_readLine_1 12 rfl rfl)
theorem dX7_readLine_37 : decode cX7_readLine 37 = .ok (.aload_n 0, 1) := dk_42 (dk_at dksX7_readLine_1 15 rfl rfl)
theorem dX7_readLine_38 : decode cX7_readLine 38 = .ok (.getfield 308, 3) := dk_180 1 52 (dk_at dksX7_readLine_1 16 rfl rfl)
theorem dX7_readLine_41 : decode cX7_readLine 41 = .ok (.iconst (-1), 1) := dk_2 (dk_at dksX7_readLine_1 19 rfl rfl)
theorem dX7_readLine_42 : decode cX7_readLine 42 = .ok (.if_icmp .ne 10, 3) := dk_160 0 10 (dk_at dksX7_readLine_1 20 rfl rfl)
theorem dX7_readLine_45 : decode cX7_readLine 45 = .ok (.aload_n 0, 1) := dk_42 (dk_at dksX7_readLine_1 23 rfl rfl)
theorem dX7_readLine_46 : decode cX7_readLine 46 = .ok (.invokevirtual 207, 3) := dk_182 0 207 (dk_at dksX7_readLine_2 0 rfl rfl)
theorem dX7_readLine_49 : decode cX7_readLine 49 = .ok (.goto 7, 3) := dk_167 0 7 (dk_at dksX7_readLine_2 3 rfl rfl)
theorem dX7_readLine_52 : decode cX7_readLine 52 = .ok (.aload_n 0, 1) := dk_42 (dk_at dksX7_readLine_2 6 rfl rfl)
theorem dX7_readLine_53 : decode cX7_readLine 53 = .ok (.invokevirtual 210, 3) := dk_182 0 210 (dk_at dksX7_readLine_2 7 rfl rfl)
theorem dX7_readLine_56 : decode cX7_readLine 56 = .ok (.aload_n 0, 1) := dk_42 (dk_at dksX7_readLine_2 10 rfl rfl)
theorem dX7_readLine_57 : decode cX7_readLine 57 = .ok (.iconst 1, 1) := dk_4 (dk_at dksX7_readLine_2 11 rfl rfl)
theorem dX7_readLine_58 : decode cX7_readLine 58 = .ok (.putfield 311, 3) := dk_181 1 55 (dk_at dksX7_readLine_2 12 rfl rfl)
theorem dX7_readLine_61 : decode cX7_readLine 61 = .ok (.aload_n 0, 1) := dk_42 (dk_at dksX7_readLine_2 15 rfl rfl)
theorem dX7_readLine_62 : decode cX7_readLine 62 = .ok (.iconst 0, 1) := dk_3 (dk_at dksX7_readLine_2 16 rfl rfl)
theorem dX7_readLine_63 : decode cX7_readLine 63 = .ok (.putfield 314, 3) := dk_181 1 58 (dk_at dksX7_readLine_2 17 rfl rfl)
theorem dX7_readLine_66 : decode cX7_readLine 66 = .ok (.aload_n 0, 1) := dk_42 (dk_at dksX7_readLine_2 20 rfl rfl)
theorem dX7_readLine_67 : decode cX7_readLine 67 = .ok (.getfield 308, 3) := dk_180 1 52 (dk_at dksX7_readLine_2 21 rfl rfl)
theorem dX7_readLine_70 : decode cX7_readLine 70 = .ok (.bipush 8, 2) := dk_16 8 (dk_at dksX7_readLine_3 0 rfl rfl)
theorem dX7_readLine_72 : decode cX7_readLine 72 = .ok (.if_icmp .ne 56, 3) := dk_160 0 56 (dk_at dksX7_readLine_3 2 rfl rfl)
theorem dX7_readLine_75 : decode cX7_readLine 75 = .ok (.aload_n 0, 1) := dk_42 (dk_at dksX7_readLine_3 5 rfl rfl)
theorem dX7_readLine_76 : decode cX7_readLine 76 = .ok (.getfield 197, 3) := dk_180 0 197 (dk_at dksX7_readLine_3 6 rfl rfl)
theorem dX7_readLine_79 : decode cX7_readLine 79 = .ok (.ifCond .ne 11, 3) := dk_154 0 11 (dk_at dksX7_readLine_3 9 rfl rfl)
theorem dX7_readLine_82 : decode cX7_readLine 82 = .ok (.aload_n 0, 1) := dk_42 (dk_at dksX7_readLine_3 12 rfl rfl)
theorem dX7_readLine_83 : decode cX7_readLine 83 = .ok (.getfield 180, 3) := dk_180 0 180 (dk_at dksX7_readLine_3 13 rfl rfl)
theorem dX7_readLine_86 : decode cX7_readLine 86 = .ok (.iconst 2, 1) := dk_5 (dk_at dksX7_readLine_3 16 rfl rfl)
theorem dX7_readLine_87 : decode cX7_readLine 87 = .ok (.if_icmp .eq 7, 3) := dk_159 0 7 (dk_at dksX7_readLine_3 17 rfl rfl)
theorem dX7_readLine_90 : decode cX7_readLine 90 = .ok (.aload_n 0, 1) := dk_42 (dk_at dksX7_readLine_3 20 rfl rfl)
theorem dX7_readLine_91 : decode cX7_readLine 91 = .ok (.invokevirtual 207, 3) := dk_182 0 207 (dk_at dksX7_readLine_3 21 rfl rfl)
theorem dX7_readLine_94 : decode cX7_readLine 94 = .ok (.aload_n 0, 1) := dk_42 (dk_at dksX7_readLine_4 0 rfl rfl)
theorem dX7_readLine_95 : decode cX7_readLine 95 = .ok (.aload_n 0, 1) := dk_42 (dk_at dksX7_readLine_4 1 rfl rfl)
theorem dX7_readLine_96 : decode cX7_readLine 96 = .ok (.getfield 197, 3) := dk_180 0 197 (dk_at dksX7_readLine_4 2 rfl rfl)
theorem dX7_readLine_99 : decode cX7_readLine 99 = .ok (.ifCond .eq 7, 3) := dk_153 0 7 (dk_at dksX7_readLine_4 5 rfl rfl)
theorem dX7_readLine_102 : decode cX7_readLine 102 = .ok (.iconst 0, 1) := dk_3 (dk_at dksX7_readLine_4 8 rfl rfl)
theorem dX7_readLine_103 : decode cX7_readLine 103 = .ok (.goto 8, 3) := dk_167 0 8 (dk_at dksX7_readLine_4 9 rfl rfl)
theorem dX7_readLine_106 : decode cX7_readLine 106 = .ok (.aload_n 0, 1) := dk_42 (dk_at dksX7_readLine_4 12 rfl rfl)
theorem dX7_readLine_107 : decode cX7_readLine 107 = .ok (.getfield 183, 3) := dk_180 0 183 (dk_at dksX7_readLine_4 13 rfl rfl)
theorem dX7_readLine_110 : decode cX7_readLine 110 = .ok (.l2i, 1) := dk_136 (dk_at dksX7_readLine_4 16 rfl rfl)
theorem dX7_readLine_111 : decode cX7_readLine 111 = .ok (.putfield 314, 3) := dk_181 1 58 (dk_at dksX7_readLine_4 17 rfl rfl)
theorem dX7_readLine_114 : decode cX7_readLine 114 = .ok (.aload_n 0, 1) := dk_42 (dk_at dksX7_readLine_4 20 rfl rfl)
theorem dX7_readLine_115 : decode cX7_readLine 115 = .ok (.getfield 197, 3) := dk_180 0 197 (dk_at dksX7_readLine_4 21 rfl rfl)
theorem dX7_readLine_118 : decode cX7_readLine 118 = .ok (.ifCond .ne 59, 3) := dk_154 0 59 (dk_at dksX7_readLine_5 0 rfl rfl)
theorem dX7_readLine_121 : decode cX7_readLine 121 = .ok (.aload_n 0, 1) := dk_42 (dk_at dksX7_readLine_5 3 rfl rfl)
theorem dX7_readLine_122 : decode cX7_readLine 122 = .ok (.invokevirtual 210, 3) := dk_182 0 210 (dk_at dksX7_readLine_5 4 rfl rfl)
theorem dX7_readLine_125 : decode cX7_readLine 125 = .ok (.goto 52, 3) := dk_167 0 52 (dk_at dksX7_readLine_5 7 rfl rfl)
theorem dX7_readLine_128 : decode cX7_readLine 128 = .ok (.aload_n 0, 1) := dk_42 (dk_at dksX7_readLine_5 10 rfl rfl)
theorem dX7_readLine_129 : decode cX7_readLine 129 = .ok (.aload_n 0, 1) := dk_42 (dk_at dksX7_readLine_5 11 rfl rfl)
theorem dX7_readLine_130 : decode cX7_readLine 130 = .ok (.getfield 197, 3) := dk_180 0 197 (dk_at dksX7_readLine_5 12 rfl rfl)
theorem dX7_readLine_133 : decode cX7_readLine 133 = .ok (.ifCond .eq 7, 3) := dk_153 0 7 (dk_at dksX7_readLine_5 15 rfl rfl)
theorem dX7_readLine_136 : decode cX7_readLine 136 = .ok (.iconst 0, 1) := dk_3 (dk_at dksX7_readLine_5 18 rfl rfl)
theorem dX7_readLine_137 : decode cX7_readLine 137 = .ok (.goto 7, 3) := dk_167 0 7 (dk_at dksX7_readLine_5 19 rfl rfl)
theorem dX7_readLine_140 : decode cX7_readLine 140 = .ok (.aload_n 0, 1) := dk_42 (dk_at dksX7_readLine_5 22 rfl rfl)
theorem dX7_readLine_141 : decode cX7_readLine 141 = .ok (.invokevirtual 253, 3) := dk_182 0 253 (dk_at dksX7_readLine_6 0 rfl rfl)
theorem dX7_readLine_144 : decode cX7_readLine 144 = .ok (.putfield 314, 3) := dk_181 1 58 (dk_at dksX7_readLine_6 3 rfl rfl)
theorem dX7_readLine_147 : decode cX7_readLine 147 = .ok (.aload_n 0, 1) := dk_42 (dk_at dksX7_readLine_6 6 rfl rfl)
theorem dX7_readLine_148 : decode cX7_readLine 148 = .ok (.ldc2_w 317, 3) := dk_20 1 61 (dk_at dksX7_readLine_6 7 rfl rfl)
theorem dX7_readLine_151 : decode cX7_readLine 151 = .ok (.invokevirtual 218, 3) := dk_182 0 218 (dk_at dksX7_readLine_6 10 rfl rfl)
theorem dX7_readLine_154 : decode cX7_readLine 154 = .ok (.ifCond .eq 23, 3) := dk_153 0 23 (dk_at dksX7_readLine_6 13 rfl rfl)
theorem dX7_readLine_157 : decode cX7_readLine 157 = .ok (.aload_n 0, 1) := dk_42 (dk_at dksX7_readLine_6 16 rfl rfl)
theorem dX7_readLine_158 : decode cX7_readLine 158 = .ok (.invokevirtual 210, 3) := dk_182 0 210 (dk_at dksX7_readLine_6 17 rfl rfl)
theorem dX7_readLine_161 : decode cX7_readLine 161 = .ok (.aload_n 0, 1) := dk_42 (dk_at dksX7_readLine_6 20 rfl rfl)
theorem dX7_readLine_162 : decode cX7_readLine 162 = .ok (.aload_n 0, 1) := dk_42 (dk_at dksX7_readLine_6 21 rfl rfl)
theorem dX7_readLine_163 : decode cX7_readLine 163 = .ok (.invokevirtual 253, 3) := dk_182 0 253 (dk_at dksX7_readLine_7 0 rfl rfl)
theorem dX7_readLine_166 : decode cX7_readLine 166 = .ok (.ifCond .eq 7, 3) := dk_153 0 7 (dk_at dksX7_readLine_7 3 rfl rfl)
theorem dX7_readLine_169 : decode cX7_readLine 169 = .ok (.iconst 1, 1) := dk_4 (dk_at dksX7_readLine_7 6 rfl rfl)
theorem dX7_readLine_170 : decode cX7_readLine 170 = .ok (.goto 4, 3) := dk_167 0 4 (dk_at dksX7_readLine_7 7 rfl rfl)
theorem dX7_readLine_173 : decode cX7_readLine 173 = .ok (.iconst 0, 1) := dk_3 (dk_at dksX7_readLine_7 10 rfl rfl)
theorem dX7_readLine_174 : decode cX7_readLine 174 = .ok (.putfield 311, 3) := dk_181 1 55 (dk_at dksX7_readLine_7 11 rfl rfl)
theorem dX7_readLine_177 : decode cX7_readLine 177 = .ok (.aload_n 0, 1) := dk_42 (dk_at dksX7_readLine_7 14 rfl rfl)
theorem dX7_readLine_178 : decode cX7_readLine 178 = .ok (.getfield 197, 3) := dk_180 0 197 (dk_at dksX7_readLine_7 15 rfl rfl)
theorem dX7_readLine_181 : decode cX7_readLine 181 = .ok (.ifCond .ne 14, 3) := dk_154 0 14 (dk_at dksX7_readLine_7 18 rfl rfl)
theorem dX7_readLine_184 : decode cX7_readLine 184 = .ok (.aload_n 0, 1) := dk_42 (dk_at dksX7_readLine_7 21 rfl rfl)
theorem dX7_readLine_185 : decode cX7_readLine 185 = .ok (.getfield 180, 3) := dk_180 0 180 (dk_at dksX7_readLine_8 0 rfl rfl)
theorem dX7_readLine_188 : decode cX7_readLine 188 = .ok (.ifCond .eq 7, 3) := dk_153 0 7 (dk_at dksX7_readLine_8 3 rfl rfl)
theorem dX7_readLine_191 : decode cX7_readLine 191 = .ok (.aload_n 0, 1) := dk_42 (dk_at dksX7_readLine_8 6 rfl rfl)
theorem dX7_readLine_192 : decode cX7_readLine 192 = .ok (.invokevirtual 207, 3) := dk_182 0 207 (dk_at dksX7_readLine_8 7 rfl rfl)
theorem dX7_readLine_195 : decode cX7_readLine 195 = .ok (.return_, 1) := dk_177 (dk_at dksX7_readLine_8 10 rfl rfl)
abbrev cX7_next : ByteArray := prog_19_method_41_code
def yX7_next : MethodName := ⟨RX7, "next", "()V"⟩
def dkwX7_next_15 : List UInt8 := [89, 180, 0, 171, 4, 96, 181, 0, 171, 177]
abbrev dktX7_next_15 : List UInt8 := dkwX7_next_15 ++ []
def dkwX7_next_14 : List UInt8 := [27, 16, 60, 159, 0, 9, 27, 16, 62, 160, 0, 24, 42, 6, 181, 0, 180, 42, 27, 133, 181, 0, 183, 42]
abbrev dktX7_next_14 : List UInt8 := dkwX7_next_14 ++ dktX7_next_15
def dkwX7_next_13 : List UInt8 := [27, 16, 42, 159, 0, 33, 27, 16, 47, 159, 0, 27, 27, 16, 37, 159, 0, 21, 27, 16, 61, 159, 0, 15]
abbrev dktX7_next_13 : List UInt8 := dkwX7_next_13 ++ dktX7_next_14
def dkwX7_next_12 : List UInt8 := [27, 16, 40, 159, 0, 57, 27, 16, 41, 159, 0, 51, 27, 16, 43, 159, 0, 45, 27, 16, 45, 159, 0, 39]
abbrev dktX7_next_12 : List UInt8 := dkwX7_next_12 ++ dktX7_next_13
def dkwX7_next_11 : List UInt8 := [181, 0, 171, 167, 255, 186, 42, 28, 16, 6, 164, 0, 7, 7, 167, 0, 4, 5, 181, 0, 180, 167, 0, 84]
abbrev dktX7_next_11 : List UInt8 := dkwX7_next_11 ++ dktX7_next_12
def dkwX7_next_10 : List UInt8 := [20, 0, 195, 101, 167, 0, 7, 42, 180, 0, 183, 181, 0, 183, 132, 2, 1, 42, 89, 180, 0, 171, 4, 96]
abbrev dktX7_next_10 : List UInt8 := dkwX7_next_10 ++ dktX7_next_11
def dkwX7_next_9 : List UInt8 := [28, 16, 6, 162, 0, 28, 20, 0, 193, 42, 180, 0, 183, 105, 42, 42, 180, 0, 171, 182, 0, 174, 133, 97]
abbrev dktX7_next_9 : List UInt8 := dkwX7_next_9 ++ dktX7_next_10
def dkwX7_next_8 : List UInt8 := [181, 0, 183, 3, 61, 42, 42, 180, 0, 171, 182, 0, 174, 16, 48, 16, 57, 184, 0, 76, 153, 0, 58, 42]
abbrev dktX7_next_8 : List UInt8 := dkwX7_next_8 ++ dktX7_next_9
def dkwX7_next_7 : List UInt8 := [167, 255, 187, 167, 0, 198, 27, 16, 48, 16, 57, 184, 0, 76, 153, 0, 106, 42, 5, 181, 0, 180, 42, 9]
abbrev dktX7_next_7 : List UInt8 := dkwX7_next_7 ++ dktX7_next_8
def dkwX7_next_6 : List UInt8 := [167, 0, 6, 20, 0, 191, 181, 0, 183, 132, 2, 1, 42, 89, 180, 0, 171, 4, 96, 181, 0, 171]
abbrev dktX7_next_6 : List UInt8 := dkwX7_next_6 ++ dktX7_next_7
def dkwX7_next_5 : List UInt8 := [20, 0, 187, 42, 180, 0, 183, 105, 42, 42, 180, 0, 171, 182, 0, 174, 133, 97, 20, 0, 189, 101]
abbrev dktX7_next_5 : List UInt8 := dkwX7_next_5 ++ dktX7_next_6
def dkwX7_next_4 : List UInt8 := [180, 0, 171, 182, 0, 174, 16, 97, 16, 122, 184, 0, 76, 153, 0, 57, 42, 28, 16, 7, 162, 0, 28]
abbrev dktX7_next_4 : List UInt8 := dkwX7_next_4 ++ dktX7_next_5
def dkwX7_next_3 : List UInt8 := [16, 97, 16, 122, 184, 0, 76, 153, 0, 90, 42, 4, 181, 0, 180, 42, 9, 181, 0, 183, 3, 61, 42, 42]
abbrev dktX7_next_3 : List UInt8 := dkwX7_next_3 ++ dktX7_next_4
def dkwX7_next_2 : List UInt8 := [181, 0, 180, 27, 156, 0, 19, 42, 3, 181, 0, 180, 42, 42, 180, 0, 168, 181, 0, 177, 167, 1, 40, 27]
abbrev dktX7_next_2 : List UInt8 := dkwX7_next_2 ++ dktX7_next_3
def dkwX7_next_1 : List UInt8 := [167, 255, 233, 42, 42, 180, 0, 171, 181, 0, 177, 42, 42, 180, 0, 171, 182, 0, 174, 60, 42, 7]
abbrev dktX7_next_1 : List UInt8 := dkwX7_next_1 ++ dktX7_next_2
def dkwX7_next_0 : List UInt8 := [42, 42, 180, 0, 171, 182, 0, 174, 16, 32, 160, 0, 16, 42, 89, 180, 0, 171, 4, 96, 181, 0, 171]
abbrev dktX7_next_0 : List UInt8 := dkwX7_next_0 ++ dktX7_next_1
theorem dksX7_next_0 : cX7_next.data.toList.drop 0 = dktX7_next_0 := by decide +kernel
theorem dksX7_next_1 : cX7_next.data.toList.drop 23 = dktX7_next_1 := dk_seg dksX7_next_0 23 rfl rfl
theorem dksX7_next_2 : cX7_next.data.toList.drop 45 = dktX7_next_2 := dk_seg dksX7_next_1 22 rfl rfl
theorem dksX7_next_3 : cX7_next.data.toList.drop 69 = dktX7_next_3 := dk_seg dksX7_next_2 24 rfl rfl
theorem dksX7_next_4 : cX7_next.data.toList.drop 93 = dktX7_next_4 := dk_seg dksX7_next_3 24 rfl rfl
theorem dksX7_next_5 : cX7_next.data.toList.drop 116 = dktX7_next_5 := dk_seg dksX7_next_4 23 rfl rfl
theorem dksX7_next_6 : cX7_next.data.toList.drop 138 = dktX7_next_6 := dk_seg dksX7_next_5 22 rfl rfl
theorem dksX7_next_7 : cX7_next.data.toList.drop 160 = dktX7_next_7 := dk_seg dksX7_next_6 22 rfl rfl
theorem dksX7_next_8 : cX7_next.data.toList.drop 184 = dktX7_next_8 := dk_seg dksX7_next_7 24 rfl rfl
theorem dksX7_next_9 : cX7_next.data.toList.drop 208 = dktX7_next_9 := dk_seg dksX7_next_8 24 rfl rfl
theorem dksX7_next_10 : cX7_next.data.toList.drop 232 = dktX7_next_10 := dk_seg dksX7_next_9 24 rfl rfl
theorem dksX7_next_11 : cX7_next.data.toList.drop 256 = dktX7_next_11 := dk_seg dksX7_next_10 24 rfl rfl
theorem dksX7_next_12 : cX7_next.data.toList.drop 280 = dktX7_next_12 := dk_seg dksX7_next_11 24 rfl rfl
theorem dksX7_next_13 : cX7_next.data.toList.drop 304 = dktX7_next_13 := dk_seg dksX7_next_12 24 rfl rfl
theorem dksX7_next_14 : cX7_next.data.toList.drop 328 = dktX7_next_14 := dk_seg dksX7_next_13 24 rfl rfl
theorem dksX7_next_15 : cX7_next.data.toList.drop 352 = dktX7_next_15 := dk_seg dksX7_next_14 24 rfl rfl
theorem dX7_next_0 : decode cX7_next 0 = .ok (.aload_n 0, 1) := dk_42 (dk_at dksX7_next_0 0 rfl rfl)
theorem dX7_next_1 : decode cX7_next 1 = .ok (.aload_n 0, 1) := dk_42 (dk_at dksX7_next_0 1 rfl rfl)
theorem dX7_next_2 : decode cX7_next 2 = .ok (.getfield 171, 3) := dk_180 0 171 (dk_at dksX7_next_0 2 rfl rfl)
theorem dX7_next_5 : decode cX7_next 5 = .ok (.invokevirtual 174, 3) := dk_182 0 174 (dk_at dksX7_next_0 5 rfl rfl)
theorem dX7_next_8 : decode cX7_next 8 = .ok (.bipush 32, 2) := dk_16 32 (dk_at dksX7_next_0 8 rfl rfl)
theorem dX7_next_10 : decode cX7_next 10 = .ok (.if_icmp .ne 16, 3) := dk_160 0 16 (dk_at dksX7_next_0 10 rfl rfl)
theorem dX7_next_13 : decode cX7_next 13 = .ok (.aload_n 0, 1) := dk_42 (dk_at dksX7_next_0 13 rfl rfl)
theorem dX7_next_14 : decode cX7_next 14 = .ok (.dup, 1) := dk_89 (dk_at dksX7_next_0 14 rfl rfl)
theorem dX7_next_15 : decode cX7_next 15 = .ok (.getfield 171, 3) := dk_180 0 171 (dk_at dksX7_next_0 15 rfl rfl)
theorem dX7_next_18 : decode cX7_next 18 = .ok (.iconst 1, 1) := dk_4 (dk_at dksX7_next_0 18 rfl rfl)
theorem dX7_next_19 : decode cX7_next 19 = .ok (.iadd, 1) := dk_96 (dk_at dksX7_next_0 19 rfl rfl)
theorem dX7_next_20 : decode cX7_next 20 = .ok (.putfield 171, 3) := dk_181 0 171 (dk_at dksX7_next_0 20 rfl rfl)
theorem dX7_next_23 : decode cX7_next 23 = .ok (.goto (-23), 3) := dk_167 255 233 (dk_at dksX7_next_1 0 rfl rfl)
theorem dX7_next_26 : decode cX7_next 26 = .ok (.aload_n 0, 1) := dk_42 (dk_at dksX7_next_1 3 rfl rfl)
theorem dX7_next_27 : decode cX7_next 27 = .ok (.aload_n 0, 1) := dk_42 (dk_at dksX7_next_1 4 rfl rfl)
theorem dX7_next_28 : decode cX7_next 28 = .ok (.getfield 171, 3) := dk_180 0 171 (dk_at dksX7_next_1 5 rfl rfl)
theorem dX7_next_31 : decode cX7_next 31 = .ok (.putfield 177, 3) := dk_181 0 177 (dk_at dksX7_next_1 8 rfl rfl)
theorem dX7_next_34 : decode cX7_next 34 = .ok (.aload_n 0, 1) := dk_42 (dk_at dksX7_next_1 11 rfl rfl)
theorem dX7_next_35 : decode cX7_next 35 = .ok (.aload_n 0, 1) := dk_42 (dk_at dksX7_next_1 12 rfl rfl)
theorem dX7_next_36 : decode cX7_next 36 = .ok (.getfield 171, 3) := dk_180 0 171 (dk_at dksX7_next_1 13 rfl rfl)
theorem dX7_next_39 : decode cX7_next 39 = .ok (.invokevirtual 174, 3) := dk_182 0 174 (dk_at dksX7_next_1 16 rfl rfl)
theorem dX7_next_42 : decode cX7_next 42 = .ok (.istore_n 1, 1) := dk_60 (dk_at dksX7_next_1 19 rfl rfl)
theorem dX7_next_43 : decode cX7_next 43 = .ok (.aload_n 0, 1) := dk_42 (dk_at dksX7_next_1 20 rfl rfl)
theorem dX7_next_44 : decode cX7_next 44 = .ok (.iconst 4, 1) := dk_7 (dk_at dksX7_next_1 21 rfl rfl)
theorem dX7_next_45 : decode cX7_next 45 = .ok (.putfield 180, 3) := dk_181 0 180 (dk_at dksX7_next_2 0 rfl rfl)
theorem dX7_next_48 : decode cX7_next 48 = .ok (.iload_n 1, 1) := dk_27 (dk_at dksX7_next_2 3 rfl rfl)
theorem dX7_next_49 : decode cX7_next 49 = .ok (.ifCond .ge 19, 3) := dk_156 0 19 (dk_at dksX7_next_2 4 rfl rfl)
theorem dX7_next_52 : decode cX7_next 52 = .ok (.aload_n 0, 1) := dk_42 (dk_at dksX7_next_2 7 rfl rfl)
theorem dX7_next_53 : decode cX7_next 53 = .ok (.iconst 0, 1) := dk_3 (dk_at dksX7_next_2 8 rfl rfl)
theorem dX7_next_54 : decode cX7_next 54 = .ok (.putfield 180, 3) := dk_181 0 180 (dk_at dksX7_next_2 9 rfl rfl)
theorem dX7_next_57 : decode cX7_next 57 = .ok (.aload_n 0, 1) := dk_42 (dk_at dksX7_next_2 12 rfl rfl)
theorem dX7_next_58 : decode cX7_next 58 = .ok (.aload_n 0, 1) := dk_42 (dk_at dksX7_next_2 13 rfl rfl)
theorem dX7_next_59 : decode cX7_next 59 = .ok (.getfield 168, 3) := dk_180 0 168 (dk_at dksX7_next_2 14 rfl rfl)
theorem dX7_next_62 : decode cX7_next 62 = .ok (.putfield 177, 3) := dk_181 0 177 (dk_at dksX7_next_2 17 rfl rfl)
theorem dX7_next_65 : decode cX7_next 65 = .ok (.goto 296, 3) := dk_167 1 40 (dk_at dksX7_next_2 20 rfl rfl)
theorem dX7_next_68 : decode cX7_next 68 = .ok (.iload_n 1, 1) := dk_27 (dk_at dksX7_next_2 23 rfl rfl)
theorem dX7_next_69 : decode cX7_next 69 = .ok (.bipush 97, 2) := dk_16 97 (dk_at dksX7_next_3 0 rfl rfl)
theorem dX7_next_71 : decode cX7_next 71 = .ok (.bipush 122, 2) := dk_16 122 (dk_at dksX7_next_3 2 rfl rfl)
theorem dX7_next_73 : decode cX7_next 73 = .ok (.invokestatic 76, 3) := dk_184 0 76 (dk_at dksX7_next_3 4 rfl rfl)
theorem dX7_next_76 : decode cX7_next 76 = .ok (.ifCond .eq 90, 3) := dk_153 0 90 (dk_at dksX7_next_3 7 rfl rfl)
theorem dX7_next_79 : decode cX7_next 79 = .ok (.aload_n 0, 1) := dk_42 (dk_at dksX7_next_3 10 rfl rfl)
theorem dX7_next_80 : decode cX7_next 80 = .ok (.iconst 1, 1) := dk_4 (dk_at dksX7_next_3 11 rfl rfl)
theorem dX7_next_81 : decode cX7_next 81 = .ok (.putfield 180, 3) := dk_181 0 180 (dk_at dksX7_next_3 12 rfl rfl)
theorem dX7_next_84 : decode cX7_next 84 = .ok (.aload_n 0, 1) := dk_42 (dk_at dksX7_next_3 15 rfl rfl)
theorem dX7_next_85 : decode cX7_next 85 = .ok (.lconst 0, 1) := dk_9 (dk_at dksX7_next_3 16 rfl rfl)
theorem dX7_next_86 : decode cX7_next 86 = .ok (.putfield 183, 3) := dk_181 0 183 (dk_at dksX7_next_3 17 rfl rfl)
theorem dX7_next_89 : decode cX7_next 89 = .ok (.iconst 0, 1) := dk_3 (dk_at dksX7_next_3 20 rfl rfl)
theorem dX7_next_90 : decode cX7_next 90 = .ok (.istore_n 2, 1) := dk_61 (dk_at dksX7_next_3 21 rfl rfl)
theorem dX7_next_91 : decode cX7_next 91 = .ok (.aload_n 0, 1) := dk_42 (dk_at dksX7_next_3 22 rfl rfl)
theorem dX7_next_92 : decode cX7_next 92 = .ok (.aload_n 0, 1) := dk_42 (dk_at dksX7_next_3 23 rfl rfl)
theorem dX7_next_93 : decode cX7_next 93 = .ok (.getfield 171, 3) := dk_180 0 171 (dk_at dksX7_next_4 0 rfl rfl)
theorem dX7_next_96 : decode cX7_next 96 = .ok (.invokevirtual 174, 3) := dk_182 0 174 (dk_at dksX7_next_4 3 rfl rfl)
theorem dX7_next_99 : decode cX7_next 99 = .ok (.bipush 97, 2) := dk_16 97 (dk_at dksX7_next_4 6 rfl rfl)
theorem dX7_next_101 : decode cX7_next 101 = .ok (.bipush 122, 2) := dk_16 122 (dk_at dksX7_next_4 8 rfl rfl)
theorem dX7_next_103 : decode cX7_next 103 = .ok (.invokestatic 76, 3) := dk_184 0 76 (dk_at dksX7_next_4 10 rfl rfl)
theorem dX7_next_106 : decode cX7_next 106 = .ok (.ifCond .eq 57, 3) := dk_153 0 57 (dk_at dksX7_next_4 13 rfl rfl)
theorem dX7_next_109 : decode cX7_next 109 = .ok (.aload_n 0, 1) := dk_42 (dk_at dksX7_next_4 16 rfl rfl)
theorem dX7_next_110 : decode cX7_next 110 = .ok (.iload_n 2, 1) := dk_28 (dk_at dksX7_next_4 17 rfl rfl)
theorem dX7_next_111 : decode cX7_next 111 = .ok (.bipush 7, 2) := dk_16 7 (dk_at dksX7_next_4 18 rfl rfl)
theorem dX7_next_113 : decode cX7_next 113 = .ok (.if_icmp .ge 28, 3) := dk_162 0 28 (dk_at dksX7_next_4 20 rfl rfl)
theorem dX7_next_116 : decode cX7_next 116 = .ok (.ldc2_w 187, 3) := dk_20 0 187 (dk_at dksX7_next_5 0 rfl rfl)
theorem dX7_next_119 : decode cX7_next 119 = .ok (.aload_n 0, 1) := dk_42 (dk_at dksX7_next_5 3 rfl rfl)
theorem dX7_next_120 : decode cX7_next 120 = .ok (.getfield 183, 3) := dk_180 0 183 (dk_at dksX7_next_5 4 rfl rfl)
theorem dX7_next_123 : decode cX7_next 123 = .ok (.lmul, 1) := dk_105 (dk_at dksX7_next_5 7 rfl rfl)
theorem dX7_next_124 : decode cX7_next 124 = .ok (.aload_n 0, 1) := dk_42 (dk_at dksX7_next_5 8 rfl rfl)
theorem dX7_next_125 : decode cX7_next 125 = .ok (.aload_n 0, 1) := dk_42 (dk_at dksX7_next_5 9 rfl rfl)
theorem dX7_next_126 : decode cX7_next 126 = .ok (.getfield 171, 3) := dk_180 0 171 (dk_at dksX7_next_5 10 rfl rfl)
theorem dX7_next_129 : decode cX7_next 129 = .ok (.invokevirtual 174, 3) := dk_182 0 174 (dk_at dksX7_next_5 13 rfl rfl)
theorem dX7_next_132 : decode cX7_next 132 = .ok (.i2l, 1) := dk_133 (dk_at dksX7_next_5 16 rfl rfl)
theorem dX7_next_133 : decode cX7_next 133 = .ok (.ladd, 1) := dk_97 (dk_at dksX7_next_5 17 rfl rfl)
theorem dX7_next_134 : decode cX7_next 134 = .ok (.ldc2_w 189, 3) := dk_20 0 189 (dk_at dksX7_next_5 18 rfl rfl)
theorem dX7_next_137 : decode cX7_next 137 = .ok (.lsub, 1) := dk_101 (dk_at dksX7_next_5 21 rfl rfl)
theorem dX7_next_138 : decode cX7_next 138 = .ok (.goto 6, 3) := dk_167 0 6 (dk_at dksX7_next_6 0 rfl rfl)
theorem dX7_next_141 : decode cX7_next 141 = .ok (.ldc2_w 191, 3) := dk_20 0 191 (dk_at dksX7_next_6 3 rfl rfl)
theorem dX7_next_144 : decode cX7_next 144 = .ok (.putfield 183, 3) := dk_181 0 183 (dk_at dksX7_next_6 6 rfl rfl)
theorem dX7_next_147 : decode cX7_next 147 = .ok (.iinc 2 1, 3) := dk_132 2 1 (dk_at dksX7_next_6 9 rfl rfl)
theorem dX7_next_150 : decode cX7_next 150 = .ok (.aload_n 0, 1) := dk_42 (dk_at dksX7_next_6 12 rfl rfl)
theorem dX7_next_151 : decode cX7_next 151 = .ok (.dup, 1) := dk_89 (dk_at dksX7_next_6 13 rfl rfl)
theorem dX7_next_152 : decode cX7_next 152 = .ok (.getfield 171, 3) := dk_180 0 171 (dk_at dksX7_next_6 14 rfl rfl)
theorem dX7_next_155 : decode cX7_next 155 = .ok (.iconst 1, 1) := dk_4 (dk_at dksX7_next_6 17 rfl rfl)
theorem dX7_next_156 : decode cX7_next 156 = .ok (.iadd, 1) := dk_96 (dk_at dksX7_next_6 18 rfl rfl)
theorem dX7_next_157 : decode cX7_next 157 = .ok (.putfield 171, 3) := dk_181 0 171 (dk_at dksX7_next_6 19 rfl rfl)
theorem dX7_next_160 : decode cX7_next 160 = .ok (.goto (-69), 3) := dk_167 255 187 (dk_at dksX7_next_7 0 rfl rfl)
theorem dX7_next_163 : decode cX7_next 163 = .ok (.goto 198, 3) := dk_167 0 198 (dk_at dksX7_next_7 3 rfl rfl)
theorem dX7_next_166 : decode cX7_next 166 = .ok (.iload_n 1, 1) := dk_27 (dk_at dksX7_next_7 6 rfl rfl)
theorem dX7_next_167 : decode cX7_next 167 = .ok (.bipush 48, 2) := dk_16 48 (dk_at dksX7_next_7 7 rfl rfl)
theorem dX7_next_169 : decode cX7_next 169 = .ok (.bipush 57, 2) := dk_16 57 (dk_at dksX7_next_7 9 rfl rfl)
theorem dX7_next_171 : decode cX7_next 171 = .ok (.invokestatic 76, 3) := dk_184 0 76 (dk_at dksX7_next_7 11 rfl rfl)
theorem dX7_next_174 : decode cX7_next 174 = .ok (.ifCond .eq 106, 3) := dk_153 0 106 (dk_at dksX7_next_7 14 rfl rfl)
theorem dX7_next_177 : decode cX7_next 177 = .ok (.aload_n 0, 1) := dk_42 (dk_at dksX7_next_7 17 rfl rfl)
theorem dX7_next_178 : decode cX7_next 178 = .ok (.iconst 2, 1) := dk_5 (dk_at dksX7_next_7 18 rfl rfl)
theorem dX7_next_179 : decode cX7_next 179 = .ok (.putfield 180, 3) := dk_181 0 180 (dk_at dksX7_next_7 19 rfl rfl)
theorem dX7_next_182 : decode cX7_next 182 = .ok (.aload_n 0, 1) := dk_42 (dk_at dksX7_next_7 22 rfl rfl)
theorem dX7_next_183 : decode cX7_next 183 = .ok (.lconst 0, 1) := dk_9 (dk_at dksX7_next_7 23 rfl rfl)
theorem dX7_next_184 : decode cX7_next 184 = .ok (.putfield 183, 3) := dk_181 0 183 (dk_at dksX7_next_8 0 rfl rfl)
theorem dX7_next_187 : decode cX7_next 187 = .ok (.iconst 0, 1) := dk_3 (dk_at dksX7_next_8 3 rfl rfl)
theorem dX7_next_188 : decode cX7_next 188 = .ok (.istore_n 2, 1) := dk_61 (dk_at dksX7_next_8 4 rfl rfl)
theorem dX7_next_189 : decode cX7_next 189 = .ok (.aload_n 0, 1) := dk_42 (dk_at dksX7_next_8 5 rfl rfl)
theorem dX7_next_190 : decode cX7_next 190 = .ok (.aload_n 0, 1) := dk_42 (dk_at dksX7_next_8 6 rfl rfl)
theorem dX7_next_191 : decode cX7_next 191 = .ok (.getfield 171, 3) := dk_180 0 171 (dk_at dksX7_next_8 7 rfl rfl)
theorem dX7_next_194 : decode cX7_next 194 = .ok (.invokevirtual 174, 3) := dk_182 0 174 (dk_at dksX7_next_8 10 rfl rfl)
theorem dX7_next_197 : decode cX7_next 197 = .ok (.bipush 48, 2) := dk_16 48 (dk_at dksX7_next_8 13 rfl rfl)
theorem dX7_next_199 : decode cX7_next 199 = .ok (.bipush 57, 2) := dk_16 57 (dk_at dksX7_next_8 15 rfl rfl)
theorem dX7_next_201 : decode cX7_next 201 = .ok (.invokestatic 76, 3) := dk_184 0 76 (dk_at dksX7_next_8 17 rfl rfl)
theorem dX7_next_204 : decode cX7_next 204 = .ok (.ifCond .eq 58, 3) := dk_153 0 58 (dk_at dksX7_next_8 20 rfl rfl)
theorem dX7_next_207 : decode cX7_next 207 = .ok (.aload_n 0, 1) := dk_42 (dk_at dksX7_next_8 23 rfl rfl)
theorem dX7_next_208 : decode cX7_next 208 = .ok (.iload_n 2, 1) := dk_28 (dk_at dksX7_next_9 0 rfl rfl)
theorem dX7_next_209 : decode cX7_next 209 = .ok (.bipush 6, 2) := dk_16 6 (dk_at dksX7_next_9 1 rfl rfl)
theorem dX7_next_211 : decode cX7_next 211 = .ok (.if_icmp .ge 28, 3) := dk_162 0 28 (dk_at dksX7_next_9 3 rfl rfl)
theorem dX7_next_214 : decode cX7_next 214 = .ok (.ldc2_w 193, 3) := dk_20 0 193 (dk_at dksX7_next_9 6 rfl rfl)
theorem dX7_next_217 : decode cX7_next 217 = .ok (.aload_n 0, 1) := dk_42 (dk_at dksX7_next_9 9 rfl rfl)
theorem dX7_next_218 : decode cX7_next 218 = .ok (.getfield 183, 3) := dk_180 0 183 (dk_at dksX7_next_9 10 rfl rfl)
theorem dX7_next_221 : decode cX7_next 221 = .ok (.lmul, 1) := dk_105 (dk_at dksX7_next_9 13 rfl rfl)
theorem dX7_next_222 : decode cX7_next 222 = .ok (.aload_n 0, 1) := dk_42 (dk_at dksX7_next_9 14 rfl rfl)
theorem dX7_next_223 : decode cX7_next 223 = .ok (.aload_n 0, 1) := dk_42 (dk_at dksX7_next_9 15 rfl rfl)
theorem dX7_next_224 : decode cX7_next 224 = .ok (.getfield 171, 3) := dk_180 0 171 (dk_at dksX7_next_9 16 rfl rfl)
theorem dX7_next_227 : decode cX7_next 227 = .ok (.invokevirtual 174, 3) := dk_182 0 174 (dk_at dksX7_next_9 19 rfl rfl)
theorem dX7_next_230 : decode cX7_next 230 = .ok (.i2l, 1) := dk_133 (dk_at dksX7_next_9 22 rfl rfl)
theorem dX7_next_231 : decode cX7_next 231 = .ok (.ladd, 1) := dk_97 (dk_at dksX7_next_9 23 rfl rfl)
theorem dX7_next_232 : decode cX7_next 232 = .ok (.ldc2_w 195, 3) := dk_20 0 195 (dk_at dksX7_next_10 0 rfl rfl)
theorem dX7_next_235 : decode cX7_next 235 = .ok (.lsub, 1) := dk_101 (dk_at dksX7_next_10 3 rfl rfl)
theorem dX7_next_236 : decode cX7_next 236 = .ok (.goto 7, 3) := dk_167 0 7 (dk_at dksX7_next_10 4 rfl rfl)
theorem dX7_next_239 : decode cX7_next 239 = .ok (.aload_n 0, 1) := dk_42 (dk_at dksX7_next_10 7 rfl rfl)
theorem dX7_next_240 : decode cX7_next 240 = .ok (.getfield 183, 3) := dk_180 0 183 (dk_at dksX7_next_10 8 rfl rfl)
theorem dX7_next_243 : decode cX7_next 243 = .ok (.putfield 183, 3) := dk_181 0 183 (dk_at dksX7_next_10 11 rfl rfl)
theorem dX7_next_246 : decode cX7_next 246 = .ok (.iinc 2 1, 3) := dk_132 2 1 (dk_at dksX7_next_10 14 rfl rfl)
theorem dX7_next_249 : decode cX7_next 249 = .ok (.aload_n 0, 1) := dk_42 (dk_at dksX7_next_10 17 rfl rfl)
theorem dX7_next_250 : decode cX7_next 250 = .ok (.dup, 1) := dk_89 (dk_at dksX7_next_10 18 rfl rfl)
theorem dX7_next_251 : decode cX7_next 251 = .ok (.getfield 171, 3) := dk_180 0 171 (dk_at dksX7_next_10 19 rfl rfl)
theorem dX7_next_254 : decode cX7_next 254 = .ok (.iconst 1, 1) := dk_4 (dk_at dksX7_next_10 22 rfl rfl)
theorem dX7_next_255 : decode cX7_next 255 = .ok (.iadd, 1) := dk_96 (dk_at dksX7_next_10 23 rfl rfl)
theorem dX7_next_256 : decode cX7_next 256 = .ok (.putfield 171, 3) := dk_181 0 171 (dk_at dksX7_next_11 0 rfl rfl)
theorem dX7_next_259 : decode cX7_next 259 = .ok (.goto (-70), 3) := dk_167 255 186 (dk_at dksX7_next_11 3 rfl rfl)
theorem dX7_next_262 : decode cX7_next 262 = .ok (.aload_n 0, 1) := dk_42 (dk_at dksX7_next_11 6 rfl rfl)
theorem dX7_next_263 : decode cX7_next 263 = .ok (.iload_n 2, 1) := dk_28 (dk_at dksX7_next_11 7 rfl rfl)
theorem dX7_next_264 : decode cX7_next 264 = .ok (.bipush 6, 2) := dk_16 6 (dk_at dksX7_next_11 8 rfl rfl)
theorem dX7_next_266 : decode cX7_next 266 = .ok (.if_icmp .le 7, 3) := dk_164 0 7 (dk_at dksX7_next_11 10 rfl rfl)
theorem dX7_next_269 : decode cX7_next 269 = .ok (.iconst 4, 1) := dk_7 (dk_at dksX7_next_11 13 rfl rfl)
theorem dX7_next_270 : decode cX7_next 270 = .ok (.goto 4, 3) := dk_167 0 4 (dk_at dksX7_next_11 14 rfl rfl)
theorem dX7_next_273 : decode cX7_next 273 = .ok (.iconst 2, 1) := dk_5 (dk_at dksX7_next_11 17 rfl rfl)
theorem dX7_next_274 : decode cX7_next 274 = .ok (.putfield 180, 3) := dk_181 0 180 (dk_at dksX7_next_11 18 rfl rfl)
theorem dX7_next_277 : decode cX7_next 277 = .ok (.goto 84, 3) := dk_167 0 84 (dk_at dksX7_next_11 21 rfl rfl)
theorem dX7_next_280 : decode cX7_next 280 = .ok (.iload_n 1, 1) := dk_27 (dk_at dksX7_next_12 0 rfl rfl)
theorem dX7_next_281 : decode cX7_next 281 = .ok (.bipush 40, 2) := dk_16 40 (dk_at dksX7_next_12 1 rfl rfl)
theorem dX7_next_283 : decode cX7_next 283 = .ok (.if_icmp .eq 57, 3) := dk_159 0 57 (dk_at dksX7_next_12 3 rfl rfl)
theorem dX7_next_286 : decode cX7_next 286 = .ok (.iload_n 1, 1) := dk_27 (dk_at dksX7_next_12 6 rfl rfl)
theorem dX7_next_287 : decode cX7_next 287 = .ok (.bipush 41, 2) := dk_16 41 (dk_at dksX7_next_12 7 rfl rfl)
theorem dX7_next_289 : decode cX7_next 289 = .ok (.if_icmp .eq 51, 3) := dk_159 0 51 (dk_at dksX7_next_12 9 rfl rfl)
theorem dX7_next_292 : decode cX7_next 292 = .ok (.iload_n 1, 1) := dk_27 (dk_at dksX7_next_12 12 rfl rfl)
theorem dX7_next_293 : decode cX7_next 293 = .ok (.bipush 43, 2) := dk_16 43 (dk_at dksX7_next_12 13 rfl rfl)
theorem dX7_next_295 : decode cX7_next 295 = .ok (.if_icmp .eq 45, 3) := dk_159 0 45 (dk_at dksX7_next_12 15 rfl rfl)
theorem dX7_next_298 : decode cX7_next 298 = .ok (.iload_n 1, 1) := dk_27 (dk_at dksX7_next_12 18 rfl rfl)
theorem dX7_next_299 : decode cX7_next 299 = .ok (.bipush 45, 2) := dk_16 45 (dk_at dksX7_next_12 19 rfl rfl)
theorem dX7_next_301 : decode cX7_next 301 = .ok (.if_icmp .eq 39, 3) := dk_159 0 39 (dk_at dksX7_next_12 21 rfl rfl)
theorem dX7_next_304 : decode cX7_next 304 = .ok (.iload_n 1, 1) := dk_27 (dk_at dksX7_next_13 0 rfl rfl)
theorem dX7_next_305 : decode cX7_next 305 = .ok (.bipush 42, 2) := dk_16 42 (dk_at dksX7_next_13 1 rfl rfl)
theorem dX7_next_307 : decode cX7_next 307 = .ok (.if_icmp .eq 33, 3) := dk_159 0 33 (dk_at dksX7_next_13 3 rfl rfl)
theorem dX7_next_310 : decode cX7_next 310 = .ok (.iload_n 1, 1) := dk_27 (dk_at dksX7_next_13 6 rfl rfl)
theorem dX7_next_311 : decode cX7_next 311 = .ok (.bipush 47, 2) := dk_16 47 (dk_at dksX7_next_13 7 rfl rfl)
theorem dX7_next_313 : decode cX7_next 313 = .ok (.if_icmp .eq 27, 3) := dk_159 0 27 (dk_at dksX7_next_13 9 rfl rfl)
theorem dX7_next_316 : decode cX7_next 316 = .ok (.iload_n 1, 1) := dk_27 (dk_at dksX7_next_13 12 rfl rfl)
theorem dX7_next_317 : decode cX7_next 317 = .ok (.bipush 37, 2) := dk_16 37 (dk_at dksX7_next_13 13 rfl rfl)
theorem dX7_next_319 : decode cX7_next 319 = .ok (.if_icmp .eq 21, 3) := dk_159 0 21 (dk_at dksX7_next_13 15 rfl rfl)
theorem dX7_next_322 : decode cX7_next 322 = .ok (.iload_n 1, 1) := dk_27 (dk_at dksX7_next_13 18 rfl rfl)
theorem dX7_next_323 : decode cX7_next 323 = .ok (.bipush 61, 2) := dk_16 61 (dk_at dksX7_next_13 19 rfl rfl)
theorem dX7_next_325 : decode cX7_next 325 = .ok (.if_icmp .eq 15, 3) := dk_159 0 15 (dk_at dksX7_next_13 21 rfl rfl)
theorem dX7_next_328 : decode cX7_next 328 = .ok (.iload_n 1, 1) := dk_27 (dk_at dksX7_next_14 0 rfl rfl)
theorem dX7_next_329 : decode cX7_next 329 = .ok (.bipush 60, 2) := dk_16 60 (dk_at dksX7_next_14 1 rfl rfl)
theorem dX7_next_331 : decode cX7_next 331 = .ok (.if_icmp .eq 9, 3) := dk_159 0 9 (dk_at dksX7_next_14 3 rfl rfl)
theorem dX7_next_334 : decode cX7_next 334 = .ok (.iload_n 1, 1) := dk_27 (dk_at dksX7_next_14 6 rfl rfl)
theorem dX7_next_335 : decode cX7_next 335 = .ok (.bipush 62, 2) := dk_16 62 (dk_at dksX7_next_14 7 rfl rfl)
theorem dX7_next_337 : decode cX7_next 337 = .ok (.if_icmp .ne 24, 3) := dk_160 0 24 (dk_at dksX7_next_14 9 rfl rfl)
theorem dX7_next_340 : decode cX7_next 340 = .ok (.aload_n 0, 1) := dk_42 (dk_at dksX7_next_14 12 rfl rfl)
theorem dX7_next_341 : decode cX7_next 341 = .ok (.iconst 3, 1) := dk_6 (dk_at dksX7_next_14 13 rfl rfl)
theorem dX7_next_342 : decode cX7_next 342 = .ok (.putfield 180, 3) := dk_181 0 180 (dk_at dksX7_next_14 14 rfl rfl)
theorem dX7_next_345 : decode cX7_next 345 = .ok (.aload_n 0, 1) := dk_42 (dk_at dksX7_next_14 17 rfl rfl)
theorem dX7_next_346 : decode cX7_next 346 = .ok (.iload_n 1, 1) := dk_27 (dk_at dksX7_next_14 18 rfl rfl)
theorem dX7_next_347 : decode cX7_next 347 = .ok (.i2l, 1) := dk_133 (dk_at dksX7_next_14 19 rfl rfl)
theorem dX7_next_348 : decode cX7_next 348 = .ok (.putfield 183, 3) := dk_181 0 183 (dk_at dksX7_next_14 20 rfl rfl)
theorem dX7_next_351 : decode cX7_next 351 = .ok (.aload_n 0, 1) := dk_42 (dk_at dksX7_next_14 23 rfl rfl)
theorem dX7_next_352 : decode cX7_next 352 = .ok (.dup, 1) := dk_89 (dk_at dksX7_next_15 0 rfl rfl)
theorem dX7_next_353 : decode cX7_next 353 = .ok (.getfield 171, 3) := dk_180 0 171 (dk_at dksX7_next_15 1 rfl rfl)
theorem dX7_next_356 : decode cX7_next 356 = .ok (.iconst 1, 1) := dk_4 (dk_at dksX7_next_15 4 rfl rfl)
theorem dX7_next_357 : decode cX7_next 357 = .ok (.iadd, 1) := dk_96 (dk_at dksX7_next_15 5 rfl rfl)
theorem dX7_next_358 : decode cX7_next 358 = .ok (.putfield 171, 3) := dk_181 0 171 (dk_at dksX7_next_15 6 rfl rfl)
theorem dX7_next_361 : decode cX7_next 361 = .ok (.return_, 1) := dk_177 (dk_at dksX7_next_15 9 rfl rfl)
abbrev cX7_byteAt : ByteArray := prog_19_method_40_code
def yX7_byteAt : MethodName := ⟨RX7, "byteAt", "(I)I"⟩
def dkwX7_byteAt_0 : List UInt8 := [27, 42, 180, 0, 168, 162, 0, 12, 42, 180, 0, 27, 27, 46, 167, 0, 4, 2, 172]
abbrev dktX7_byteAt_0 : List UInt8 := dkwX7_byteAt_0 ++ []
theorem dksX7_byteAt_0 : cX7_byteAt.data.toList.drop 0 = dktX7_byteAt_0 := by decide +kernel
theorem dX7_byteAt_0 : decode cX7_byteAt 0 = .ok (.iload_n 1, 1) := dk_27 (dk_at dksX7_byteAt_0 0 rfl rfl)
theorem dX7_byteAt_1 : decode cX7_byteAt 1 = .ok (.aload_n 0, 1) := dk_42 (dk_at dksX7_byteAt_0 1 rfl rfl)
theorem dX7_byteAt_2 : decode cX7_byteAt 2 = .ok (.getfield 168, 3) := dk_180 0 168 (dk_at dksX7_byteAt_0 2 rfl rfl)
theorem dX7_byteAt_5 : decode cX7_byteAt 5 = .ok (.if_icmp .ge 12, 3) := dk_162 0 12 (dk_at dksX7_byteAt_0 5 rfl rfl)
theorem dX7_byteAt_8 : decode cX7_byteAt 8 = .ok (.aload_n 0, 1) := dk_42 (dk_at dksX7_byteAt_0 8 rfl rfl)
theorem dX7_byteAt_9 : decode cX7_byteAt 9 = .ok (.getfield 27, 3) := dk_180 0 27 (dk_at dksX7_byteAt_0 9 rfl rfl)
theorem dX7_byteAt_12 : decode cX7_byteAt 12 = .ok (.iload_n 1, 1) := dk_27 (dk_at dksX7_byteAt_0 12 rfl rfl)
theorem dX7_byteAt_13 : decode cX7_byteAt 13 = .ok (.iaload, 1) := dk_46 (dk_at dksX7_byteAt_0 13 rfl rfl)
theorem dX7_byteAt_14 : decode cX7_byteAt 14 = .ok (.goto 4, 3) := dk_167 0 4 (dk_at dksX7_byteAt_0 14 rfl rfl)
theorem dX7_byteAt_17 : decode cX7_byteAt 17 = .ok (.iconst (-1), 1) := dk_2 (dk_at dksX7_byteAt_0 17 rfl rfl)
theorem dX7_byteAt_18 : decode cX7_byteAt 18 = .ok (.ireturn, 1) := dk_172 (dk_at dksX7_byteAt_0 18 rfl rfl)
abbrev cX7_keyHere : ByteArray := prog_19_method_53_code
def yX7_keyHere : MethodName := ⟨RX7, "keyHere", "()I"⟩
def dkwX7_keyHere_5 : List UInt8 := [182, 0, 218, 153, 0, 8, 16, 8, 167, 0, 4, 2, 172]
abbrev dktX7_keyHere_5 : List UInt8 := dkwX7_keyHere_5 ++ []
def dkwX7_keyHere_4 : List UInt8 := [16, 6, 167, 0, 34, 42, 20, 1, 45, 182, 0, 218, 153, 0, 8, 16, 7, 167, 0, 19, 42, 20, 1, 47]
abbrev dktX7_keyHere_4 : List UInt8 := dkwX7_keyHere_4 ++ dktX7_keyHere_5
def dkwX7_keyHere_3 : List UInt8 := [42, 20, 1, 41, 182, 0, 218, 153, 0, 7, 8, 167, 0, 49, 42, 20, 1, 43, 182, 0, 218, 153, 0, 8]
abbrev dktX7_keyHere_3 : List UInt8 := dkwX7_keyHere_3 ++ dktX7_keyHere_4
def dkwX7_keyHere_2 : List UInt8 := [182, 0, 218, 153, 0, 7, 6, 167, 0, 77, 42, 20, 1, 39, 182, 0, 218, 153, 0, 7, 7, 167, 0, 63]
abbrev dktX7_keyHere_2 : List UInt8 := dkwX7_keyHere_2 ++ dktX7_keyHere_3
def dkwX7_keyHere_1 : List UInt8 := [4, 167, 0, 105, 42, 20, 1, 35, 182, 0, 218, 153, 0, 7, 5, 167, 0, 91, 42, 20, 1, 37]
abbrev dktX7_keyHere_1 : List UInt8 := dkwX7_keyHere_1 ++ dktX7_keyHere_2
def dkwX7_keyHere_0 : List UInt8 := [42, 20, 1, 31, 182, 0, 218, 153, 0, 7, 3, 167, 0, 119, 42, 20, 1, 33, 182, 0, 218, 153, 0, 7]
abbrev dktX7_keyHere_0 : List UInt8 := dkwX7_keyHere_0 ++ dktX7_keyHere_1
theorem dksX7_keyHere_0 : cX7_keyHere.data.toList.drop 0 = dktX7_keyHere_0 := by decide +kernel
theorem dksX7_keyHere_1 : cX7_keyHere.data.toList.drop 24 = dktX7_keyHere_1 := dk_seg dksX7_keyHere_0 24 rfl rfl
theorem dksX7_keyHere_2 : cX7_keyHere.data.toList.drop 46 = dktX7_keyHere_2 := dk_seg dksX7_keyHere_1 22 rfl rfl
theorem dksX7_keyHere_3 : cX7_keyHere.data.toList.drop 70 = dktX7_keyHere_3 := dk_seg dksX7_keyHere_2 24 rfl rfl
theorem dksX7_keyHere_4 : cX7_keyHere.data.toList.drop 94 = dktX7_keyHere_4 := dk_seg dksX7_keyHere_3 24 rfl rfl
theorem dksX7_keyHere_5 : cX7_keyHere.data.toList.drop 118 = dktX7_keyHere_5 := dk_seg dksX7_keyHere_4 24 rfl rfl
theorem dX7_keyHere_0 : decode cX7_keyHere 0 = .ok (.aload_n 0, 1) := dk_42 (dk_at dksX7_keyHere_0 0 rfl rfl)
theorem dX7_keyHere_1 : decode cX7_keyHere 1 = .ok (.ldc2_w 287, 3) := dk_20 1 31 (dk_at dksX7_keyHere_0 1 rfl rfl)
theorem dX7_keyHere_4 : decode cX7_keyHere 4 = .ok (.invokevirtual 218, 3) := dk_182 0 218 (dk_at dksX7_keyHere_0 4 rfl rfl)
theorem dX7_keyHere_7 : decode cX7_keyHere 7 = .ok (.ifCond .eq 7, 3) := dk_153 0 7 (dk_at dksX7_keyHere_0 7 rfl rfl)
theorem dX7_keyHere_10 : decode cX7_keyHere 10 = .ok (.iconst 0, 1) := dk_3 (dk_at dksX7_keyHere_0 10 rfl rfl)
theorem dX7_keyHere_11 : decode cX7_keyHere 11 = .ok (.goto 119, 3) := dk_167 0 119 (dk_at dksX7_keyHere_0 11 rfl rfl)
theorem dX7_keyHere_14 : decode cX7_keyHere 14 = .ok (.aload_n 0, 1) := dk_42 (dk_at dksX7_keyHere_0 14 rfl rfl)
theorem dX7_keyHere_15 : decode cX7_keyHere 15 = .ok (.ldc2_w 289, 3) := dk_20 1 33 (dk_at dksX7_keyHere_0 15 rfl rfl)
theorem dX7_keyHere_18 : decode cX7_keyHere 18 = .ok (.invokevirtual 218, 3) := dk_182 0 218 (dk_at dksX7_keyHere_0 18 rfl rfl)
theorem dX7_keyHere_21 : decode cX7_keyHere 21 = .ok (.ifCond .eq 7, 3) := dk_153 0 7 (dk_at dksX7_keyHere_0 21 rfl rfl)
theorem dX7_keyHere_24 : decode cX7_keyHere 24 = .ok (.iconst 1, 1) := dk_4 (dk_at dksX7_keyHere_1 0 rfl rfl)
theorem dX7_keyHere_25 : decode cX7_keyHere 25 = .ok (.goto 105, 3) := dk_167 0 105 (dk_at dksX7_keyHere_1 1 rfl rfl)
theorem dX7_keyHere_28 : decode cX7_keyHere 28 = .ok (.aload_n 0, 1) := dk_42 (dk_at dksX7_keyHere_1 4 rfl rfl)
theorem dX7_keyHere_29 : decode cX7_keyHere 29 = .ok (.ldc2_w 291, 3) := dk_20 1 35 (dk_at dksX7_keyHere_1 5 rfl rfl)
theorem dX7_keyHere_32 : decode cX7_keyHere 32 = .ok (.invokevirtual 218, 3) := dk_182 0 218 (dk_at dksX7_keyHere_1 8 rfl rfl)
theorem dX7_keyHere_35 : decode cX7_keyHere 35 = .ok (.ifCond .eq 7, 3) := dk_153 0 7 (dk_at dksX7_keyHere_1 11 rfl rfl)
theorem dX7_keyHere_38 : decode cX7_keyHere 38 = .ok (.iconst 2, 1) := dk_5 (dk_at dksX7_keyHere_1 14 rfl rfl)
theorem dX7_keyHere_39 : decode cX7_keyHere 39 = .ok (.goto 91, 3) := dk_167 0 91 (dk_at dksX7_keyHere_1 15 rfl rfl)
theorem dX7_keyHere_42 : decode cX7_keyHere 42 = .ok (.aload_n 0, 1) := dk_42 (dk_at dksX7_keyHere_1 18 rfl rfl)
theorem dX7_keyHere_43 : decode cX7_keyHere 43 = .ok (.ldc2_w 293, 3) := dk_20 1 37 (dk_at dksX7_keyHere_1 19 rfl rfl)
theorem dX7_keyHere_46 : decode cX7_keyHere 46 = .ok (.invokevirtual 218, 3) := dk_182 0 218 (dk_at dksX7_keyHere_2 0 rfl rfl)
theorem dX7_keyHere_49 : decode cX7_keyHere 49 = .ok (.ifCond .eq 7, 3) := dk_153 0 7 (dk_at dksX7_keyHere_2 3 rfl rfl)
theorem dX7_keyHere_52 : decode cX7_keyHere 52 = .ok (.iconst 3, 1) := dk_6 (dk_at dksX7_keyHere_2 6 rfl rfl)
theorem dX7_keyHere_53 : decode cX7_keyHere 53 = .ok (.goto 77, 3) := dk_167 0 77 (dk_at dksX7_keyHere_2 7 rfl rfl)
theorem dX7_keyHere_56 : decode cX7_keyHere 56 = .ok (.aload_n 0, 1) := dk_42 (dk_at dksX7_keyHere_2 10 rfl rfl)
theorem dX7_keyHere_57 : decode cX7_keyHere 57 = .ok (.ldc2_w 295, 3) := dk_20 1 39 (dk_at dksX7_keyHere_2 11 rfl rfl)
theorem dX7_keyHere_60 : decode cX7_keyHere 60 = .ok (.invokevirtual 218, 3) := dk_182 0 218 (dk_at dksX7_keyHere_2 14 rfl rfl)
theorem dX7_keyHere_63 : decode cX7_keyHere 63 = .ok (.ifCond .eq 7, 3) := dk_153 0 7 (dk_at dksX7_keyHere_2 17 rfl rfl)
theorem dX7_keyHere_66 : decode cX7_keyHere 66 = .ok (.iconst 4, 1) := dk_7 (dk_at dksX7_keyHere_2 20 rfl rfl)
theorem dX7_keyHere_67 : decode cX7_keyHere 67 = .ok (.goto 63, 3) := dk_167 0 63 (dk_at dksX7_keyHere_2 21 rfl rfl)
theorem dX7_keyHere_70 : decode cX7_keyHere 70 = .ok (.aload_n 0, 1) := dk_42 (dk_at dksX7_keyHere_3 0 rfl rfl)
theorem dX7_keyHere_71 : decode cX7_keyHere 71 = .ok (.ldc2_w 297, 3) := dk_20 1 41 (dk_at dksX7_keyHere_3 1 rfl rfl)
theorem dX7_keyHere_74 : decode cX7_keyHere 74 = .ok (.invokevirtual 218, 3) := dk_182 0 218 (dk_at dksX7_keyHere_3 4 rfl rfl)
theorem dX7_keyHere_77 : decode cX7_keyHere 77 = .ok (.ifCond .eq 7, 3) := dk_153 0 7 (dk_at dksX7_keyHere_3 7 rfl rfl)
theorem dX7_keyHere_80 : decode cX7_keyHere 80 = .ok (.iconst 5, 1) := dk_8 (dk_at dksX7_keyHere_3 10 rfl rfl)
theorem dX7_keyHere_81 : decode cX7_keyHere 81 = .ok (.goto 49, 3) := dk_167 0 49 (dk_at dksX7_keyHere_3 11 rfl rfl)
theorem dX7_keyHere_84 : decode cX7_keyHere 84 = .ok (.aload_n 0, 1) := dk_42 (dk_at dksX7_keyHere_3 14 rfl rfl)
theorem dX7_keyHere_85 : decode cX7_keyHere 85 = .ok (.ldc2_w 299, 3) := dk_20 1 43 (dk_at dksX7_keyHere_3 15 rfl rfl)
theorem dX7_keyHere_88 : decode cX7_keyHere 88 = .ok (.invokevirtual 218, 3) := dk_182 0 218 (dk_at dksX7_keyHere_3 18 rfl rfl)
theorem dX7_keyHere_91 : decode cX7_keyHere 91 = .ok (.ifCond .eq 8, 3) := dk_153 0 8 (dk_at dksX7_keyHere_3 21 rfl rfl)
theorem dX7_keyHere_94 : decode cX7_keyHere 94 = .ok (.bipush 6, 2) := dk_16 6 (dk_at dksX7_keyHere_4 0 rfl rfl)
theorem dX7_keyHere_96 : decode cX7_keyHere 96 = .ok (.goto 34, 3) := dk_167 0 34 (dk_at dksX7_keyHere_4 2 rfl rfl)
theorem dX7_keyHere_99 : decode cX7_keyHere 99 = .ok (.aload_n 0, 1) := dk_42 (dk_at dksX7_keyHere_4 5 rfl rfl)
theorem dX7_keyHere_100 : decode cX7_keyHere 100 = .ok (.ldc2_w 301, 3) := dk_20 1 45 (dk_at dksX7_keyHere_4 6 rfl rfl)
theorem dX7_keyHere_103 : decode cX7_keyHere 103 = .ok (.invokevirtual 218, 3) := dk_182 0 218 (dk_at dksX7_keyHere_4 9 rfl rfl)
theorem dX7_keyHere_106 : decode cX7_keyHere 106 = .ok (.ifCond .eq 8, 3) := dk_153 0 8 (dk_at dksX7_keyHere_4 12 rfl rfl)
theorem dX7_keyHere_109 : decode cX7_keyHere 109 = .ok (.bipush 7, 2) := dk_16 7 (dk_at dksX7_keyHere_4 15 rfl rfl)
theorem dX7_keyHere_111 : decode cX7_keyHere 111 = .ok (.goto 19, 3) := dk_167 0 19 (dk_at dksX7_keyHere_4 17 rfl rfl)
theorem dX7_keyHere_114 : decode cX7_keyHere 114 = .ok (.aload_n 0, 1) := dk_42 (dk_at dksX7_keyHere_4 20 rfl rfl)
theorem dX7_keyHere_115 : decode cX7_keyHere 115 = .ok (.ldc2_w 303, 3) := dk_20 1 47 (dk_at dksX7_keyHere_4 21 rfl rfl)
theorem dX7_keyHere_118 : decode cX7_keyHere 118 = .ok (.invokevirtual 218, 3) := dk_182 0 218 (dk_at dksX7_keyHere_5 0 rfl rfl)
theorem dX7_keyHere_121 : decode cX7_keyHere 121 = .ok (.ifCond .eq 8, 3) := dk_153 0 8 (dk_at dksX7_keyHere_5 3 rfl rfl)
theorem dX7_keyHere_124 : decode cX7_keyHere 124 = .ok (.bipush 8, 2) := dk_16 8 (dk_at dksX7_keyHere_5 6 rfl rfl)
theorem dX7_keyHere_126 : decode cX7_keyHere 126 = .ok (.goto 4, 3) := dk_167 0 4 (dk_at dksX7_keyHere_5 8 rfl rfl)
theorem dX7_keyHere_129 : decode cX7_keyHere 129 = .ok (.iconst (-1), 1) := dk_2 (dk_at dksX7_keyHere_5 11 rfl rfl)
theorem dX7_keyHere_130 : decode cX7_keyHere 130 = .ok (.ireturn, 1) := dk_172 (dk_at dksX7_keyHere_5 12 rfl rfl)
abbrev cX7_isWord : ByteArray := prog_19_method_43_code
def yX7_isWord : MethodName := ⟨RX7, "isWord", "(J)Z"⟩
def dkwX7_isWord_1 : List UInt8 := [4, 167, 0, 4, 3, 172]
abbrev dktX7_isWord_1 : List UInt8 := dkwX7_isWord_1 ++ []
def dkwX7_isWord_0 : List UInt8 := [42, 180, 0, 197, 154, 0, 24, 42, 180, 0, 180, 4, 160, 0, 16, 42, 180, 0, 183, 31, 148, 154, 0, 7]
abbrev dktX7_isWord_0 : List UInt8 := dkwX7_isWord_0 ++ dktX7_isWord_1
theorem dksX7_isWord_0 : cX7_isWord.data.toList.drop 0 = dktX7_isWord_0 := by decide +kernel
theorem dksX7_isWord_1 : cX7_isWord.data.toList.drop 24 = dktX7_isWord_1 := dk_seg dksX7_isWord_0 24 rfl rfl
theorem dX7_isWord_0 : decode cX7_isWord 0 = .ok (.aload_n 0, 1) := dk_42 (dk_at dksX7_isWord_0 0 rfl rfl)
theorem dX7_isWord_1 : decode cX7_isWord 1 = .ok (.getfield 197, 3) := dk_180 0 197 (dk_at dksX7_isWord_0 1 rfl rfl)
theorem dX7_isWord_4 : decode cX7_isWord 4 = .ok (.ifCond .ne 24, 3) := dk_154 0 24 (dk_at dksX7_isWord_0 4 rfl rfl)
theorem dX7_isWord_7 : decode cX7_isWord 7 = .ok (.aload_n 0, 1) := dk_42 (dk_at dksX7_isWord_0 7 rfl rfl)
theorem dX7_isWord_8 : decode cX7_isWord 8 = .ok (.getfield 180, 3) := dk_180 0 180 (dk_at dksX7_isWord_0 8 rfl rfl)
theorem dX7_isWord_11 : decode cX7_isWord 11 = .ok (.iconst 1, 1) := dk_4 (dk_at dksX7_isWord_0 11 rfl rfl)
theorem dX7_isWord_12 : decode cX7_isWord 12 = .ok (.if_icmp .ne 16, 3) := dk_160 0 16 (dk_at dksX7_isWord_0 12 rfl rfl)
theorem dX7_isWord_15 : decode cX7_isWord 15 = .ok (.aload_n 0, 1) := dk_42 (dk_at dksX7_isWord_0 15 rfl rfl)
theorem dX7_isWord_16 : decode cX7_isWord 16 = .ok (.getfield 183, 3) := dk_180 0 183 (dk_at dksX7_isWord_0 16 rfl rfl)
theorem dX7_isWord_19 : decode cX7_isWord 19 = .ok (.lload_n 1, 1) := dk_31 (dk_at dksX7_isWord_0 19 rfl rfl)
theorem dX7_isWord_20 : decode cX7_isWord 20 = .ok (.lcmp, 1) := dk_148 (dk_at dksX7_isWord_0 20 rfl rfl)
theorem dX7_isWord_21 : decode cX7_isWord 21 = .ok (.ifCond .ne 7, 3) := dk_154 0 7 (dk_at dksX7_isWord_0 21 rfl rfl)
theorem dX7_isWord_24 : decode cX7_isWord 24 = .ok (.iconst 1, 1) := dk_4 (dk_at dksX7_isWord_1 0 rfl rfl)
theorem dX7_isWord_25 : decode cX7_isWord 25 = .ok (.goto 4, 3) := dk_167 0 4 (dk_at dksX7_isWord_1 1 rfl rfl)
theorem dX7_isWord_28 : decode cX7_isWord 28 = .ok (.iconst 0, 1) := dk_3 (dk_at dksX7_isWord_1 4 rfl rfl)
theorem dX7_isWord_29 : decode cX7_isWord 29 = .ok (.ireturn, 1) := dk_172 (dk_at dksX7_isWord_1 5 rfl rfl)
abbrev cX7_fail : ByteArray := prog_19_method_42_code
def yX7_fail : MethodName := ⟨RX7, "fail", "()V"⟩
def dkwX7_fail_0 : List UInt8 := [42, 180, 0, 197, 154, 0, 16, 42, 4, 181, 0, 197, 42, 42, 180, 0, 177, 181, 0, 201, 177]
abbrev dktX7_fail_0 : List UInt8 := dkwX7_fail_0 ++ []
theorem dksX7_fail_0 : cX7_fail.data.toList.drop 0 = dktX7_fail_0 := by decide +kernel
theorem dX7_fail_0 : decode cX7_fail 0 = .ok (.aload_n 0, 1) := dk_42 (dk_at dksX7_fail_0 0 rfl rfl)
theorem dX7_fail_1 : decode cX7_fail 1 = .ok (.getfield 197, 3) := dk_180 0 197 (dk_at dksX7_fail_0 1 rfl rfl)
theorem dX7_fail_4 : decode cX7_fail 4 = .ok (.ifCond .ne 16, 3) := dk_154 0 16 (dk_at dksX7_fail_0 4 rfl rfl)
theorem dX7_fail_7 : decode cX7_fail 7 = .ok (.aload_n 0, 1) := dk_42 (dk_at dksX7_fail_0 7 rfl rfl)
theorem dX7_fail_8 : decode cX7_fail 8 = .ok (.iconst 1, 1) := dk_4 (dk_at dksX7_fail_0 8 rfl rfl)
theorem dX7_fail_9 : decode cX7_fail 9 = .ok (.putfield 197, 3) := dk_181 0 197 (dk_at dksX7_fail_0 9 rfl rfl)
theorem dX7_fail_12 : decode cX7_fail 12 = .ok (.aload_n 0, 1) := dk_42 (dk_at dksX7_fail_0 12 rfl rfl)
theorem dX7_fail_13 : decode cX7_fail 13 = .ok (.aload_n 0, 1) := dk_42 (dk_at dksX7_fail_0 13 rfl rfl)
theorem dX7_fail_14 : decode cX7_fail 14 = .ok (.getfield 177, 3) := dk_180 0 177 (dk_at dksX7_fail_0 14 rfl rfl)
theorem dX7_fail_17 : decode cX7_fail 17 = .ok (.putfield 201, 3) := dk_181 0 201 (dk_at dksX7_fail_0 17 rfl rfl)
theorem dX7_fail_20 : decode cX7_fail 20 = .ok (.return_, 1) := dk_177 (dk_at dksX7_fail_0 20 rfl rfl)
abbrev cX7_either : ByteArray := prog_19_method_52_code
def yX7_either : MethodName := ⟨RX7, "either", "()I"⟩
def dkwX7_either_1 : List UInt8 := [27, 154, 0, 7, 28, 153, 0, 7, 4, 167, 0, 4, 3, 60, 167, 255, 223, 27, 172]
abbrev dktX7_either_1 : List UInt8 := dkwX7_either_1 ++ []
def dkwX7_either_0 : List UInt8 := [42, 182, 1, 26, 60, 42, 20, 1, 29, 182, 0, 218, 153, 0, 29, 42, 182, 0, 210, 42, 182, 1, 26, 61]
abbrev dktX7_either_0 : List UInt8 := dkwX7_either_0 ++ dktX7_either_1
theorem dksX7_either_0 : cX7_either.data.toList.drop 0 = dktX7_either_0 := by decide +kernel
theorem dksX7_either_1 : cX7_either.data.toList.drop 24 = dktX7_either_1 := dk_seg dksX7_either_0 24 rfl rfl
theorem dX7_either_0 : decode cX7_either 0 = .ok (.aload_n 0, 1) := dk_42 (dk_at dksX7_either_0 0 rfl rfl)
theorem dX7_either_1 : decode cX7_either 1 = .ok (.invokevirtual 282, 3) := dk_182 1 26 (dk_at dksX7_either_0 1 rfl rfl)
theorem dX7_either_4 : decode cX7_either 4 = .ok (.istore_n 1, 1) := dk_60 (dk_at dksX7_either_0 4 rfl rfl)
theorem dX7_either_5 : decode cX7_either 5 = .ok (.aload_n 0, 1) := dk_42 (dk_at dksX7_either_0 5 rfl rfl)
theorem dX7_either_6 : decode cX7_either 6 = .ok (.ldc2_w 285, 3) := dk_20 1 29 (dk_at dksX7_either_0 6 rfl rfl)
theorem dX7_either_9 : decode cX7_either 9 = .ok (.invokevirtual 218, 3) := dk_182 0 218 (dk_at dksX7_either_0 9 rfl rfl)
theorem dX7_either_12 : decode cX7_either 12 = .ok (.ifCond .eq 29, 3) := dk_153 0 29 (dk_at dksX7_either_0 12 rfl rfl)
theorem dX7_either_15 : decode cX7_either 15 = .ok (.aload_n 0, 1) := dk_42 (dk_at dksX7_either_0 15 rfl rfl)
theorem dX7_either_16 : decode cX7_either 16 = .ok (.invokevirtual 210, 3) := dk_182 0 210 (dk_at dksX7_either_0 16 rfl rfl)
theorem dX7_either_19 : decode cX7_either 19 = .ok (.aload_n 0, 1) := dk_42 (dk_at dksX7_either_0 19 rfl rfl)
theorem dX7_either_20 : decode cX7_either 20 = .ok (.invokevirtual 282, 3) := dk_182 1 26 (dk_at dksX7_either_0 20 rfl rfl)
theorem dX7_either_23 : decode cX7_either 23 = .ok (.istore_n 2, 1) := dk_61 (dk_at dksX7_either_0 23 rfl rfl)
theorem dX7_either_24 : decode cX7_either 24 = .ok (.iload_n 1, 1) := dk_27 (dk_at dksX7_either_1 0 rfl rfl)
theorem dX7_either_25 : decode cX7_either 25 = .ok (.ifCond .ne 7, 3) := dk_154 0 7 (dk_at dksX7_either_1 1 rfl rfl)
theorem dX7_either_28 : decode cX7_either 28 = .ok (.iload_n 2, 1) := dk_28 (dk_at dksX7_either_1 4 rfl rfl)
theorem dX7_either_29 : decode cX7_either 29 = .ok (.ifCond .eq 7, 3) := dk_153 0 7 (dk_at dksX7_either_1 5 rfl rfl)
theorem dX7_either_32 : decode cX7_either 32 = .ok (.iconst 1, 1) := dk_4 (dk_at dksX7_either_1 8 rfl rfl)
theorem dX7_either_33 : decode cX7_either 33 = .ok (.goto 4, 3) := dk_167 0 4 (dk_at dksX7_either_1 9 rfl rfl)
theorem dX7_either_36 : decode cX7_either 36 = .ok (.iconst 0, 1) := dk_3 (dk_at dksX7_either_1 12 rfl rfl)
theorem dX7_either_37 : decode cX7_either 37 = .ok (.istore_n 1, 1) := dk_60 (dk_at dksX7_either_1 13 rfl rfl)
theorem dX7_either_38 : decode cX7_either 38 = .ok (.goto (-33), 3) := dk_167 255 223 (dk_at dksX7_either_1 14 rfl rfl)
theorem dX7_either_41 : decode cX7_either 41 = .ok (.iload_n 1, 1) := dk_27 (dk_at dksX7_either_1 17 rfl rfl)
theorem dX7_either_42 : decode cX7_either 42 = .ok (.ireturn, 1) := dk_172 (dk_at dksX7_either_1 18 rfl rfl)
abbrev cX7_both : ByteArray := prog_19_method_51_code
def yX7_both : MethodName := ⟨RX7, "both", "()I"⟩
def dkwX7_both_1 : List UInt8 := [27, 153, 0, 11, 28, 153, 0, 7, 4, 167, 0, 4, 3, 60, 167, 255, 223, 27, 172]
abbrev dktX7_both_1 : List UInt8 := dkwX7_both_1 ++ []
def dkwX7_both_0 : List UInt8 := [42, 182, 1, 14, 60, 42, 20, 1, 24, 182, 0, 218, 153, 0, 29, 42, 182, 0, 210, 42, 182, 1, 14, 61]
abbrev dktX7_both_0 : List UInt8 := dkwX7_both_0 ++ dktX7_both_1
theorem dksX7_both_0 : cX7_both.data.toList.drop 0 = dktX7_both_0 := by decide +kernel
theorem dksX7_both_1 : cX7_both.data.toList.drop 24 = dktX7_both_1 := dk_seg dksX7_both_0 24 rfl rfl
theorem dX7_both_0 : decode cX7_both 0 = .ok (.aload_n 0, 1) := dk_42 (dk_at dksX7_both_0 0 rfl rfl)
theorem dX7_both_1 : decode cX7_both 1 = .ok (.invokevirtual 270, 3) := dk_182 1 14 (dk_at dksX7_both_0 1 rfl rfl)
theorem dX7_both_4 : decode cX7_both 4 = .ok (.istore_n 1, 1) := dk_60 (dk_at dksX7_both_0 4 rfl rfl)
theorem dX7_both_5 : decode cX7_both 5 = .ok (.aload_n 0, 1) := dk_42 (dk_at dksX7_both_0 5 rfl rfl)
theorem dX7_both_6 : decode cX7_both 6 = .ok (.ldc2_w 280, 3) := dk_20 1 24 (dk_at dksX7_both_0 6 rfl rfl)
theorem dX7_both_9 : decode cX7_both 9 = .ok (.invokevirtual 218, 3) := dk_182 0 218 (dk_at dksX7_both_0 9 rfl rfl)
theorem dX7_both_12 : decode cX7_both 12 = .ok (.ifCond .eq 29, 3) := dk_153 0 29 (dk_at dksX7_both_0 12 rfl rfl)
theorem dX7_both_15 : decode cX7_both 15 = .ok (.aload_n 0, 1) := dk_42 (dk_at dksX7_both_0 15 rfl rfl)
theorem dX7_both_16 : decode cX7_both 16 = .ok (.invokevirtual 210, 3) := dk_182 0 210 (dk_at dksX7_both_0 16 rfl rfl)
theorem dX7_both_19 : decode cX7_both 19 = .ok (.aload_n 0, 1) := dk_42 (dk_at dksX7_both_0 19 rfl rfl)
theorem dX7_both_20 : decode cX7_both 20 = .ok (.invokevirtual 270, 3) := dk_182 1 14 (dk_at dksX7_both_0 20 rfl rfl)
theorem dX7_both_23 : decode cX7_both 23 = .ok (.istore_n 2, 1) := dk_61 (dk_at dksX7_both_0 23 rfl rfl)
theorem dX7_both_24 : decode cX7_both 24 = .ok (.iload_n 1, 1) := dk_27 (dk_at dksX7_both_1 0 rfl rfl)
theorem dX7_both_25 : decode cX7_both 25 = .ok (.ifCond .eq 11, 3) := dk_153 0 11 (dk_at dksX7_both_1 1 rfl rfl)
theorem dX7_both_28 : decode cX7_both 28 = .ok (.iload_n 2, 1) := dk_28 (dk_at dksX7_both_1 4 rfl rfl)
theorem dX7_both_29 : decode cX7_both 29 = .ok (.ifCond .eq 7, 3) := dk_153 0 7 (dk_at dksX7_both_1 5 rfl rfl)
theorem dX7_both_32 : decode cX7_both 32 = .ok (.iconst 1, 1) := dk_4 (dk_at dksX7_both_1 8 rfl rfl)
theorem dX7_both_33 : decode cX7_both 33 = .ok (.goto 4, 3) := dk_167 0 4 (dk_at dksX7_both_1 9 rfl rfl)
theorem dX7_both_36 : decode cX7_both 36 = .ok (.iconst 0, 1) := dk_3 (dk_at dksX7_both_1 12 rfl rfl)
theorem dX7_both_37 : decode cX7_both 37 = .ok (.istore_n 1, 1) := dk_60 (dk_at dksX7_both_1 13 rfl rfl)
theorem dX7_both_38 : decode cX7_both 38 = .ok (.goto (-33), 3) := dk_167 255 223 (dk_at dksX7_both_1 14 rfl rfl)
theorem dX7_both_41 : decode cX7_both 41 = .ok (.iload_n 1, 1) := dk_27 (dk_at dksX7_both_1 17 rfl rfl)
theorem dX7_both_42 : decode cX7_both 42 = .ok (.ireturn, 1) := dk_172 (dk_at dksX7_both_1 18 rfl rfl)
abbrev cX7_not : ByteArray := prog_19_method_50_code
def yX7_not : MethodName := ⟨RX7, "not", "()I"⟩
def dkwX7_not_5 : List UInt8 := [27, 21, 4, 160, 0, 16, 167, 0, 9, 27, 21, 4, 164, 0, 7, 4, 167, 0, 4, 3, 172]
abbrev dktX7_not_5 : List UInt8 := dkwX7_not_5 ++ []
def dkwX7_not_4 : List UInt8 := [20, 1, 20, 148, 154, 0, 12, 27, 21, 4, 162, 0, 33, 167, 0, 26, 32, 20, 1, 22, 148, 154, 0, 12]
abbrev dktX7_not_4 : List UInt8 := dkwX7_not_4 ++ dktX7_not_5
def dkwX7_not_3 : List UInt8 := [182, 0, 243, 154, 0, 5, 27, 172, 42, 180, 0, 183, 65, 42, 182, 0, 210, 42, 182, 1, 17, 54, 4, 32]
abbrev dktX7_not_3 : List UInt8 := dkwX7_not_3 ++ dktX7_not_4
def dkwX7_not_2 : List UInt8 := [60, 42, 16, 60, 182, 0, 243, 154, 0, 23, 42, 16, 61, 182, 0, 243, 154, 0, 14, 42, 16, 62]
abbrev dktX7_not_2 : List UInt8 := dkwX7_not_2 ++ dktX7_not_3
def dkwX7_not_1 : List UInt8 := [42, 89, 180, 0, 204, 4, 100, 181, 0, 204, 27, 154, 0, 7, 4, 167, 0, 4, 3, 172, 42, 182, 1, 17]
abbrev dktX7_not_1 : List UInt8 := dkwX7_not_1 ++ dktX7_not_2
def dkwX7_not_0 : List UInt8 := [42, 20, 1, 12, 182, 0, 218, 153, 0, 37, 42, 182, 0, 246, 154, 0, 5, 3, 172, 42, 182, 1, 14, 60]
abbrev dktX7_not_0 : List UInt8 := dkwX7_not_0 ++ dktX7_not_1
theorem dksX7_not_0 : cX7_not.data.toList.drop 0 = dktX7_not_0 := by decide +kernel
theorem dksX7_not_1 : cX7_not.data.toList.drop 24 = dktX7_not_1 := dk_seg dksX7_not_0 24 rfl rfl
theorem dksX7_not_2 : cX7_not.data.toList.drop 48 = dktX7_not_2 := dk_seg dksX7_not_1 24 rfl rfl
theorem dksX7_not_3 : cX7_not.data.toList.drop 70 = dktX7_not_3 := dk_seg dksX7_not_2 22 rfl rfl
theorem dksX7_not_4 : cX7_not.data.toList.drop 94 = dktX7_not_4 := dk_seg dksX7_not_3 24 rfl rfl
theorem dksX7_not_5 : cX7_not.data.toList.drop 118 = dktX7_not_5 := dk_seg dksX7_not_4 24 rfl rfl
theorem dX7_not_0 : decode cX7_not 0 = .ok (.aload_n 0, 1) := dk_42 (dk_at dksX7_not_0 0 rfl rfl)
theorem dX7_not_1 : decode cX7_not 1 = .ok (.ldc2_w 268, 3) := dk_20 1 12 (dk_at dksX7_not_0 1 rfl rfl)
theorem dX7_not_4 : decode cX7_not 4 = .ok (.invokevirtual 218, 3) := dk_182 0 218 (dk_at dksX7_not_0 4 rfl rfl)
theorem dX7_not_7 : decode cX7_not 7 = .ok (.ifCond .eq 37, 3) := dk_153 0 37 (dk_at dksX7_not_0 7 rfl rfl)
theorem dX7_not_10 : decode cX7_not 10 = .ok (.aload_n 0, 1) := dk_42 (dk_at dksX7_not_0 10 rfl rfl)
theorem dX7_not_11 : decode cX7_not 11 = .ok (.invokevirtual 246, 3) := dk_182 0 246 (dk_at dksX7_not_0 11 rfl rfl)
theorem dX7_not_14 : decode cX7_not 14 = .ok (.ifCond .ne 5, 3) := dk_154 0 5 (dk_at dksX7_not_0 14 rfl rfl)
theorem dX7_not_17 : decode cX7_not 17 = .ok (.iconst 0, 1) := dk_3 (dk_at dksX7_not_0 17 rfl rfl)
theorem dX7_not_18 : decode cX7_not 18 = .ok (.ireturn, 1) := dk_172 (dk_at dksX7_not_0 18 rfl rfl)
theorem dX7_not_19 : decode cX7_not 19 = .ok (.aload_n 0, 1) := dk_42 (dk_at dksX7_not_0 19 rfl rfl)
theorem dX7_not_20 : decode cX7_not 20 = .ok (.invokevirtual 270, 3) := dk_182 1 14 (dk_at dksX7_not_0 20 rfl rfl)
theorem dX7_not_23 : decode cX7_not 23 = .ok (.istore_n 1, 1) := dk_60 (dk_at dksX7_not_0 23 rfl rfl)
theorem dX7_not_24 : decode cX7_not 24 = .ok (.aload_n 0, 1) := dk_42 (dk_at dksX7_not_1 0 rfl rfl)
theorem dX7_not_25 : decode cX7_not 25 = .ok (.dup, 1) := dk_89 (dk_at dksX7_not_1 1 rfl rfl)
theorem dX7_not_26 : decode cX7_not 26 = .ok (.getfield 204, 3) := dk_180 0 204 (dk_at dksX7_not_1 2 rfl rfl)
theorem dX7_not_29 : decode cX7_not 29 = .ok (.iconst 1, 1) := dk_4 (dk_at dksX7_not_1 5 rfl rfl)
theorem dX7_not_30 : decode cX7_not 30 = .ok (.isub, 1) := dk_100 (dk_at dksX7_not_1 6 rfl rfl)
theorem dX7_not_31 : decode cX7_not 31 = .ok (.putfield 204, 3) := dk_181 0 204 (dk_at dksX7_not_1 7 rfl rfl)
theorem dX7_not_34 : decode cX7_not 34 = .ok (.iload_n 1, 1) := dk_27 (dk_at dksX7_not_1 10 rfl rfl)
theorem dX7_not_35 : decode cX7_not 35 = .ok (.ifCond .ne 7, 3) := dk_154 0 7 (dk_at dksX7_not_1 11 rfl rfl)
theorem dX7_not_38 : decode cX7_not 38 = .ok (.iconst 1, 1) := dk_4 (dk_at dksX7_not_1 14 rfl rfl)
theorem dX7_not_39 : decode cX7_not 39 = .ok (.goto 4, 3) := dk_167 0 4 (dk_at dksX7_not_1 15 rfl rfl)
theorem dX7_not_42 : decode cX7_not 42 = .ok (.iconst 0, 1) := dk_3 (dk_at dksX7_not_1 18 rfl rfl)
theorem dX7_not_43 : decode cX7_not 43 = .ok (.ireturn, 1) := dk_172 (dk_at dksX7_not_1 19 rfl rfl)
theorem dX7_not_44 : decode cX7_not 44 = .ok (.aload_n 0, 1) := dk_42 (dk_at dksX7_not_1 20 rfl rfl)
theorem dX7_not_45 : decode cX7_not 45 = .ok (.invokevirtual 273, 3) := dk_182 1 17 (dk_at dksX7_not_1 21 rfl rfl)
theorem dX7_not_48 : decode cX7_not 48 = .ok (.istore_n 1, 1) := dk_60 (dk_at dksX7_not_2 0 rfl rfl)
theorem dX7_not_49 : decode cX7_not 49 = .ok (.aload_n 0, 1) := dk_42 (dk_at dksX7_not_2 1 rfl rfl)
theorem dX7_not_50 : decode cX7_not 50 = .ok (.bipush 60, 2) := dk_16 60 (dk_at dksX7_not_2 2 rfl rfl)
theorem dX7_not_52 : decode cX7_not 52 = .ok (.invokevirtual 243, 3) := dk_182 0 243 (dk_at dksX7_not_2 4 rfl rfl)
theorem dX7_not_55 : decode cX7_not 55 = .ok (.ifCond .ne 23, 3) := dk_154 0 23 (dk_at dksX7_not_2 7 rfl rfl)
theorem dX7_not_58 : decode cX7_not 58 = .ok (.aload_n 0, 1) := dk_42 (dk_at dksX7_not_2 10 rfl rfl)
theorem dX7_not_59 : decode cX7_not 59 = .ok (.bipush 61, 2) := dk_16 61 (dk_at dksX7_not_2 11 rfl rfl)
theorem dX7_not_61 : decode cX7_not 61 = .ok (.invokevirtual 243, 3) := dk_182 0 243 (dk_at dksX7_not_2 13 rfl rfl)
theorem dX7_not_64 : decode cX7_not 64 = .ok (.ifCond .ne 14, 3) := dk_154 0 14 (dk_at dksX7_not_2 16 rfl rfl)
theorem dX7_not_67 : decode cX7_not 67 = .ok (.aload_n 0, 1) := dk_42 (dk_at dksX7_not_2 19 rfl rfl)
theorem dX7_not_68 : decode cX7_not 68 = .ok (.bipush 62, 2) := dk_16 62 (dk_at dksX7_not_2 20 rfl rfl)
theorem dX7_not_70 : decode cX7_not 70 = .ok (.invokevirtual 243, 3) := dk_182 0 243 (dk_at dksX7_not_3 0 rfl rfl)
theorem dX7_not_73 : decode cX7_not 73 = .ok (.ifCond .ne 5, 3) := dk_154 0 5 (dk_at dksX7_not_3 3 rfl rfl)
theorem dX7_not_76 : decode cX7_not 76 = .ok (.iload_n 1, 1) := dk_27 (dk_at dksX7_not_3 6 rfl rfl)
theorem dX7_not_77 : decode cX7_not 77 = .ok (.ireturn, 1) := dk_172 (dk_at dksX7_not_3 7 rfl rfl)
theorem dX7_not_78 : decode cX7_not 78 = .ok (.aload_n 0, 1) := dk_42 (dk_at dksX7_not_3 8 rfl rfl)
theorem dX7_not_79 : decode cX7_not 79 = .ok (.getfield 183, 3) := dk_180 0 183 (dk_at dksX7_not_3 9 rfl rfl)
theorem dX7_not_82 : decode cX7_not 82 = .ok (.lstore_n 2, 1) := dk_65 (dk_at dksX7_not_3 12 rfl rfl)
theorem dX7_not_83 : decode cX7_not 83 = .ok (.aload_n 0, 1) := dk_42 (dk_at dksX7_not_3 13 rfl rfl)
theorem dX7_not_84 : decode cX7_not 84 = .ok (.invokevirtual 210, 3) := dk_182 0 210 (dk_at dksX7_not_3 14 rfl rfl)
theorem dX7_not_87 : decode cX7_not 87 = .ok (.aload_n 0, 1) := dk_42 (dk_at dksX7_not_3 17 rfl rfl)
theorem dX7_not_88 : decode cX7_not 88 = .ok (.invokevirtual 273, 3) := dk_182 1 17 (dk_at dksX7_not_3 18 rfl rfl)
theorem dX7_not_91 : decode cX7_not 91 = .ok (.istore 4, 2) := dk_54 4 (dk_at dksX7_not_3 21 rfl rfl)
theorem dX7_not_93 : decode cX7_not 93 = .ok (.lload_n 2, 1) := dk_32 (dk_at dksX7_not_3 23 rfl rfl)
theorem dX7_not_94 : decode cX7_not 94 = .ok (.ldc2_w 276, 3) := dk_20 1 20 (dk_at dksX7_not_4 0 rfl rfl)
theorem dX7_not_97 : decode cX7_not 97 = .ok (.lcmp, 1) := dk_148 (dk_at dksX7_not_4 3 rfl rfl)
theorem dX7_not_98 : decode cX7_not 98 = .ok (.ifCond .ne 12, 3) := dk_154 0 12 (dk_at dksX7_not_4 4 rfl rfl)
theorem dX7_not_101 : decode cX7_not 101 = .ok (.iload_n 1, 1) := dk_27 (dk_at dksX7_not_4 7 rfl rfl)
theorem dX7_not_102 : decode cX7_not 102 = .ok (.iload 4, 2) := dk_21 4 (dk_at dksX7_not_4 8 rfl rfl)
theorem dX7_not_104 : decode cX7_not 104 = .ok (.if_icmp .ge 33, 3) := dk_162 0 33 (dk_at dksX7_not_4 10 rfl rfl)
theorem dX7_not_107 : decode cX7_not 107 = .ok (.goto 26, 3) := dk_167 0 26 (dk_at dksX7_not_4 13 rfl rfl)
theorem dX7_not_110 : decode cX7_not 110 = .ok (.lload_n 2, 1) := dk_32 (dk_at dksX7_not_4 16 rfl rfl)
theorem dX7_not_111 : decode cX7_not 111 = .ok (.ldc2_w 278, 3) := dk_20 1 22 (dk_at dksX7_not_4 17 rfl rfl)
theorem dX7_not_114 : decode cX7_not 114 = .ok (.lcmp, 1) := dk_148 (dk_at dksX7_not_4 20 rfl rfl)
theorem dX7_not_115 : decode cX7_not 115 = .ok (.ifCond .ne 12, 3) := dk_154 0 12 (dk_at dksX7_not_4 21 rfl rfl)
theorem dX7_not_118 : decode cX7_not 118 = .ok (.iload_n 1, 1) := dk_27 (dk_at dksX7_not_5 0 rfl rfl)
theorem dX7_not_119 : decode cX7_not 119 = .ok (.iload 4, 2) := dk_21 4 (dk_at dksX7_not_5 1 rfl rfl)
theorem dX7_not_121 : decode cX7_not 121 = .ok (.if_icmp .ne 16, 3) := dk_160 0 16 (dk_at dksX7_not_5 3 rfl rfl)
theorem dX7_not_124 : decode cX7_not 124 = .ok (.goto 9, 3) := dk_167 0 9 (dk_at dksX7_not_5 6 rfl rfl)
theorem dX7_not_127 : decode cX7_not 127 = .ok (.iload_n 1, 1) := dk_27 (dk_at dksX7_not_5 9 rfl rfl)
theorem dX7_not_128 : decode cX7_not 128 = .ok (.iload 4, 2) := dk_21 4 (dk_at dksX7_not_5 10 rfl rfl)
theorem dX7_not_130 : decode cX7_not 130 = .ok (.if_icmp .le 7, 3) := dk_164 0 7 (dk_at dksX7_not_5 12 rfl rfl)
theorem dX7_not_133 : decode cX7_not 133 = .ok (.iconst 1, 1) := dk_4 (dk_at dksX7_not_5 15 rfl rfl)
theorem dX7_not_134 : decode cX7_not 134 = .ok (.goto 4, 3) := dk_167 0 4 (dk_at dksX7_not_5 16 rfl rfl)
theorem dX7_not_137 : decode cX7_not 137 = .ok (.iconst 0, 1) := dk_3 (dk_at dksX7_not_5 19 rfl rfl)
theorem dX7_not_138 : decode cX7_not 138 = .ok (.ireturn, 1) := dk_172 (dk_at dksX7_not_5 20 rfl rfl)
abbrev cX7_opens : ByteArray := prog_19_method_45_code
def yX7_opens : MethodName := ⟨RX7, "opens", "()Z"⟩
def dkwX7_opens_1 : List UInt8 := [181, 0, 204, 42, 182, 0, 210, 4, 172]
abbrev dktX7_opens_1 : List UInt8 := dkwX7_opens_1 ++ []
def dkwX7_opens_0 : List UInt8 := [42, 180, 0, 204, 16, 6, 160, 0, 9, 42, 182, 0, 207, 3, 172, 42, 89, 180, 0, 204, 4, 96]
abbrev dktX7_opens_0 : List UInt8 := dkwX7_opens_0 ++ dktX7_opens_1
theorem dksX7_opens_0 : cX7_opens.data.toList.drop 0 = dktX7_opens_0 := by decide +kernel
theorem dksX7_opens_1 : cX7_opens.data.toList.drop 22 = dktX7_opens_1 := dk_seg dksX7_opens_0 22 rfl rfl
theorem dX7_opens_0 : decode cX7_opens 0 = .ok (.aload_n 0, 1) := dk_42 (dk_at dksX7_opens_0 0 rfl rfl)
theorem dX7_opens_1 : decode cX7_opens 1 = .ok (.getfield 204, 3) := dk_180 0 204 (dk_at dksX7_opens_0 1 rfl rfl)
theorem dX7_opens_4 : decode cX7_opens 4 = .ok (.bipush 6, 2) := dk_16 6 (dk_at dksX7_opens_0 4 rfl rfl)
theorem dX7_opens_6 : decode cX7_opens 6 = .ok (.if_icmp .ne 9, 3) := dk_160 0 9 (dk_at dksX7_opens_0 6 rfl rfl)
theorem dX7_opens_9 : decode cX7_opens 9 = .ok (.aload_n 0, 1) := dk_42 (dk_at dksX7_opens_0 9 rfl rfl)
theorem dX7_opens_10 : decode cX7_opens 10 = .ok (.invokevirtual 207, 3) := dk_182 0 207 (dk_at dksX7_opens_0 10 rfl rfl)
theorem dX7_opens_13 : decode cX7_opens 13 = .ok (.iconst 0, 1) := dk_3 (dk_at dksX7_opens_0 13 rfl rfl)
theorem dX7_opens_14 : decode cX7_opens 14 = .ok (.ireturn, 1) := dk_172 (dk_at dksX7_opens_0 14 rfl rfl)
theorem dX7_opens_15 : decode cX7_opens 15 = .ok (.aload_n 0, 1) := dk_42 (dk_at dksX7_opens_0 15 rfl rfl)
theorem dX7_opens_16 : decode cX7_opens 16 = .ok (.dup, 1) := dk_89 (dk_at dksX7_opens_0 16 rfl rfl)
theorem dX7_opens_17 : decode cX7_opens 17 = .ok (.getfield 204, 3) := dk_180 0 204 (dk_at dksX7_opens_0 17 rfl rfl)
theorem dX7_opens_20 : decode cX7_opens 20 = .ok (.iconst 1, 1) := dk_4 (dk_at dksX7_opens_0 20 rfl rfl)
theorem dX7_opens_21 : decode cX7_opens 21 = .ok (.iadd, 1) := dk_96 (dk_at dksX7_opens_0 21 rfl rfl)
theorem dX7_opens_22 : decode cX7_opens 22 = .ok (.putfield 204, 3) := dk_181 0 204 (dk_at dksX7_opens_1 0 rfl rfl)
theorem dX7_opens_25 : decode cX7_opens 25 = .ok (.aload_n 0, 1) := dk_42 (dk_at dksX7_opens_1 3 rfl rfl)
theorem dX7_opens_26 : decode cX7_opens 26 = .ok (.invokevirtual 210, 3) := dk_182 0 210 (dk_at dksX7_opens_1 4 rfl rfl)
theorem dX7_opens_29 : decode cX7_opens 29 = .ok (.iconst 1, 1) := dk_4 (dk_at dksX7_opens_1 7 rfl rfl)
theorem dX7_opens_30 : decode cX7_opens 30 = .ok (.ireturn, 1) := dk_172 (dk_at dksX7_opens_1 8 rfl rfl)
abbrev cX7_added : ByteArray := prog_19_method_49_code
def yX7_added : MethodName := ⟨RX7, "added", "()I"⟩
def dkwX7_added_2 : List UInt8 := [62, 28, 153, 0, 9, 27, 29, 96, 167, 0, 6, 27, 29, 100, 60, 167, 255, 198, 27, 172]
abbrev dktX7_added_2 : List UInt8 := dkwX7_added_2 ++ []
def dkwX7_added_1 : List UInt8 := [180, 0, 183, 20, 1, 10, 148, 154, 0, 7, 4, 167, 0, 4, 3, 61, 42, 182, 0, 210, 42, 182, 1, 7]
abbrev dktX7_added_1 : List UInt8 := dkwX7_added_1 ++ dktX7_added_2
def dkwX7_added_0 : List UInt8 := [42, 182, 1, 7, 60, 42, 16, 43, 182, 0, 243, 154, 0, 12, 42, 16, 45, 182, 0, 243, 153, 0, 46, 42]
abbrev dktX7_added_0 : List UInt8 := dkwX7_added_0 ++ dktX7_added_1
theorem dksX7_added_0 : cX7_added.data.toList.drop 0 = dktX7_added_0 := by decide +kernel
theorem dksX7_added_1 : cX7_added.data.toList.drop 24 = dktX7_added_1 := dk_seg dksX7_added_0 24 rfl rfl
theorem dksX7_added_2 : cX7_added.data.toList.drop 48 = dktX7_added_2 := dk_seg dksX7_added_1 24 rfl rfl
theorem dX7_added_0 : decode cX7_added 0 = .ok (.aload_n 0, 1) := dk_42 (dk_at dksX7_added_0 0 rfl rfl)
theorem dX7_added_1 : decode cX7_added 1 = .ok (.invokevirtual 263, 3) := dk_182 1 7 (dk_at dksX7_added_0 1 rfl rfl)
theorem dX7_added_4 : decode cX7_added 4 = .ok (.istore_n 1, 1) := dk_60 (dk_at dksX7_added_0 4 rfl rfl)
theorem dX7_added_5 : decode cX7_added 5 = .ok (.aload_n 0, 1) := dk_42 (dk_at dksX7_added_0 5 rfl rfl)
theorem dX7_added_6 : decode cX7_added 6 = .ok (.bipush 43, 2) := dk_16 43 (dk_at dksX7_added_0 6 rfl rfl)
theorem dX7_added_8 : decode cX7_added 8 = .ok (.invokevirtual 243, 3) := dk_182 0 243 (dk_at dksX7_added_0 8 rfl rfl)
theorem dX7_added_11 : decode cX7_added 11 = .ok (.ifCond .ne 12, 3) := dk_154 0 12 (dk_at dksX7_added_0 11 rfl rfl)
theorem dX7_added_14 : decode cX7_added 14 = .ok (.aload_n 0, 1) := dk_42 (dk_at dksX7_added_0 14 rfl rfl)
theorem dX7_added_15 : decode cX7_added 15 = .ok (.bipush 45, 2) := dk_16 45 (dk_at dksX7_added_0 15 rfl rfl)
theorem dX7_added_17 : decode cX7_added 17 = .ok (.invokevirtual 243, 3) := dk_182 0 243 (dk_at dksX7_added_0 17 rfl rfl)
theorem dX7_added_20 : decode cX7_added 20 = .ok (.ifCond .eq 46, 3) := dk_153 0 46 (dk_at dksX7_added_0 20 rfl rfl)
theorem dX7_added_23 : decode cX7_added 23 = .ok (.aload_n 0, 1) := dk_42 (dk_at dksX7_added_0 23 rfl rfl)
theorem dX7_added_24 : decode cX7_added 24 = .ok (.getfield 183, 3) := dk_180 0 183 (dk_at dksX7_added_1 0 rfl rfl)
theorem dX7_added_27 : decode cX7_added 27 = .ok (.ldc2_w 266, 3) := dk_20 1 10 (dk_at dksX7_added_1 3 rfl rfl)
theorem dX7_added_30 : decode cX7_added 30 = .ok (.lcmp, 1) := dk_148 (dk_at dksX7_added_1 6 rfl rfl)
theorem dX7_added_31 : decode cX7_added 31 = .ok (.ifCond .ne 7, 3) := dk_154 0 7 (dk_at dksX7_added_1 7 rfl rfl)
theorem dX7_added_34 : decode cX7_added 34 = .ok (.iconst 1, 1) := dk_4 (dk_at dksX7_added_1 10 rfl rfl)
theorem dX7_added_35 : decode cX7_added 35 = .ok (.goto 4, 3) := dk_167 0 4 (dk_at dksX7_added_1 11 rfl rfl)
theorem dX7_added_38 : decode cX7_added 38 = .ok (.iconst 0, 1) := dk_3 (dk_at dksX7_added_1 14 rfl rfl)
theorem dX7_added_39 : decode cX7_added 39 = .ok (.istore_n 2, 1) := dk_61 (dk_at dksX7_added_1 15 rfl rfl)
theorem dX7_added_40 : decode cX7_added 40 = .ok (.aload_n 0, 1) := dk_42 (dk_at dksX7_added_1 16 rfl rfl)
theorem dX7_added_41 : decode cX7_added 41 = .ok (.invokevirtual 210, 3) := dk_182 0 210 (dk_at dksX7_added_1 17 rfl rfl)
theorem dX7_added_44 : decode cX7_added 44 = .ok (.aload_n 0, 1) := dk_42 (dk_at dksX7_added_1 20 rfl rfl)
theorem dX7_added_45 : decode cX7_added 45 = .ok (.invokevirtual 263, 3) := dk_182 1 7 (dk_at dksX7_added_1 21 rfl rfl)
theorem dX7_added_48 : decode cX7_added 48 = .ok (.istore_n 3, 1) := dk_62 (dk_at dksX7_added_2 0 rfl rfl)
theorem dX7_added_49 : decode cX7_added 49 = .ok (.iload_n 2, 1) := dk_28 (dk_at dksX7_added_2 1 rfl rfl)
theorem dX7_added_50 : decode cX7_added 50 = .ok (.ifCond .eq 9, 3) := dk_153 0 9 (dk_at dksX7_added_2 2 rfl rfl)
theorem dX7_added_53 : decode cX7_added 53 = .ok (.iload_n 1, 1) := dk_27 (dk_at dksX7_added_2 5 rfl rfl)
theorem dX7_added_54 : decode cX7_added 54 = .ok (.iload_n 3, 1) := dk_29 (dk_at dksX7_added_2 6 rfl rfl)
theorem dX7_added_55 : decode cX7_added 55 = .ok (.iadd, 1) := dk_96 (dk_at dksX7_added_2 7 rfl rfl)
theorem dX7_added_56 : decode cX7_added 56 = .ok (.goto 6, 3) := dk_167 0 6 (dk_at dksX7_added_2 8 rfl rfl)
theorem dX7_added_59 : decode cX7_added 59 = .ok (.iload_n 1, 1) := dk_27 (dk_at dksX7_added_2 11 rfl rfl)
theorem dX7_added_60 : decode cX7_added 60 = .ok (.iload_n 3, 1) := dk_29 (dk_at dksX7_added_2 12 rfl rfl)
theorem dX7_added_61 : decode cX7_added 61 = .ok (.isub, 1) := dk_100 (dk_at dksX7_added_2 13 rfl rfl)
theorem dX7_added_62 : decode cX7_added 62 = .ok (.istore_n 1, 1) := dk_60 (dk_at dksX7_added_2 14 rfl rfl)
theorem dX7_added_63 : decode cX7_added 63 = .ok (.goto (-58), 3) := dk_167 255 198 (dk_at dksX7_added_2 15 rfl rfl)
theorem dX7_added_66 : decode cX7_added 66 = .ok (.iload_n 1, 1) := dk_27 (dk_at dksX7_added_2 18 rfl rfl)
theorem dX7_added_67 : decode cX7_added 67 = .ok (.ireturn, 1) := dk_172 (dk_at dksX7_added_2 19 rfl rfl)
abbrev cX7_term : ByteArray := prog_19_method_48_code
def yX7_term : MethodName := ⟨RX7, "term", "()I"⟩
def dkwX7_term_5 : List UInt8 := [167, 255, 144, 27, 172]
abbrev dktX7_term_5 : List UInt8 := dkwX7_term_5 ++ []
def dkwX7_term_4 : List UInt8 := [167, 0, 23, 32, 20, 1, 5, 148, 154, 0, 10, 27, 21, 4, 108, 167, 0, 7, 27, 21, 4, 112, 60]
abbrev dktX7_term_4 : List UInt8 := dkwX7_term_4 ++ dktX7_term_5
def dkwX7_term_3 : List UInt8 := [167, 0, 47, 21, 4, 2, 160, 0, 21, 32, 20, 1, 5, 148, 154, 0, 8, 27, 116, 167, 0, 4, 3, 60]
abbrev dktX7_term_3 : List UInt8 := dkwX7_term_3 ++ dktX7_term_4
def dkwX7_term_2 : List UInt8 := [20, 1, 3, 148, 154, 0, 11, 27, 21, 4, 104, 60, 167, 0, 57, 21, 4, 154, 0, 8, 3, 60]
abbrev dktX7_term_2 : List UInt8 := dkwX7_term_2 ++ dktX7_term_3
def dkwX7_term_1 : List UInt8 := [16, 37, 182, 0, 243, 153, 0, 91, 42, 180, 0, 183, 65, 42, 182, 0, 210, 42, 182, 0, 250, 54, 4, 32]
abbrev dktX7_term_1 : List UInt8 := dkwX7_term_1 ++ dktX7_term_2
def dkwX7_term_0 : List UInt8 := [42, 182, 0, 250, 60, 42, 16, 42, 182, 0, 243, 154, 0, 21, 42, 16, 47, 182, 0, 243, 154, 0, 12, 42]
abbrev dktX7_term_0 : List UInt8 := dkwX7_term_0 ++ dktX7_term_1
theorem dksX7_term_0 : cX7_term.data.toList.drop 0 = dktX7_term_0 := by decide +kernel
theorem dksX7_term_1 : cX7_term.data.toList.drop 24 = dktX7_term_1 := dk_seg dksX7_term_0 24 rfl rfl
theorem dksX7_term_2 : cX7_term.data.toList.drop 48 = dktX7_term_2 := dk_seg dksX7_term_1 24 rfl rfl
theorem dksX7_term_3 : cX7_term.data.toList.drop 70 = dktX7_term_3 := dk_seg dksX7_term_2 22 rfl rfl
theorem dksX7_term_4 : cX7_term.data.toList.drop 94 = dktX7_term_4 := dk_seg dksX7_term_3 24 rfl rfl
theorem dksX7_term_5 : cX7_term.data.toList.drop 117 = dktX7_term_5 := dk_seg dksX7_term_4 23 rfl rfl
theorem dX7_term_0 : decode cX7_term 0 = .ok (.aload_n 0, 1) := dk_42 (dk_at dksX7_term_0 0 rfl rfl)
theorem dX7_term_1 : decode cX7_term 1 = .ok (.invokevirtual 250, 3) := dk_182 0 250 (dk_at dksX7_term_0 1 rfl rfl)
theorem dX7_term_4 : decode cX7_term 4 = .ok (.istore_n 1, 1) := dk_60 (dk_at dksX7_term_0 4 rfl rfl)
theorem dX7_term_5 : decode cX7_term 5 = .ok (.aload_n 0, 1) := dk_42 (dk_at dksX7_term_0 5 rfl rfl)
theorem dX7_term_6 : decode cX7_term 6 = .ok (.bipush 42, 2) := dk_16 42 (dk_at dksX7_term_0 6 rfl rfl)
theorem dX7_term_8 : decode cX7_term 8 = .ok (.invokevirtual 243, 3) := dk_182 0 243 (dk_at dksX7_term_0 8 rfl rfl)
theorem dX7_term_11 : decode cX7_term 11 = .ok (.ifCond .ne 21, 3) := dk_154 0 21 (dk_at dksX7_term_0 11 rfl rfl)
theorem dX7_term_14 : decode cX7_term 14 = .ok (.aload_n 0, 1) := dk_42 (dk_at dksX7_term_0 14 rfl rfl)
theorem dX7_term_15 : decode cX7_term 15 = .ok (.bipush 47, 2) := dk_16 47 (dk_at dksX7_term_0 15 rfl rfl)
theorem dX7_term_17 : decode cX7_term 17 = .ok (.invokevirtual 243, 3) := dk_182 0 243 (dk_at dksX7_term_0 17 rfl rfl)
theorem dX7_term_20 : decode cX7_term 20 = .ok (.ifCond .ne 12, 3) := dk_154 0 12 (dk_at dksX7_term_0 20 rfl rfl)
theorem dX7_term_23 : decode cX7_term 23 = .ok (.aload_n 0, 1) := dk_42 (dk_at dksX7_term_0 23 rfl rfl)
theorem dX7_term_24 : decode cX7_term 24 = .ok (.bipush 37, 2) := dk_16 37 (dk_at dksX7_term_1 0 rfl rfl)
theorem dX7_term_26 : decode cX7_term 26 = .ok (.invokevirtual 243, 3) := dk_182 0 243 (dk_at dksX7_term_1 2 rfl rfl)
theorem dX7_term_29 : decode cX7_term 29 = .ok (.ifCond .eq 91, 3) := dk_153 0 91 (dk_at dksX7_term_1 5 rfl rfl)
theorem dX7_term_32 : decode cX7_term 32 = .ok (.aload_n 0, 1) := dk_42 (dk_at dksX7_term_1 8 rfl rfl)
theorem dX7_term_33 : decode cX7_term 33 = .ok (.getfield 183, 3) := dk_180 0 183 (dk_at dksX7_term_1 9 rfl rfl)
theorem dX7_term_36 : decode cX7_term 36 = .ok (.lstore_n 2, 1) := dk_65 (dk_at dksX7_term_1 12 rfl rfl)
theorem dX7_term_37 : decode cX7_term 37 = .ok (.aload_n 0, 1) := dk_42 (dk_at dksX7_term_1 13 rfl rfl)
theorem dX7_term_38 : decode cX7_term 38 = .ok (.invokevirtual 210, 3) := dk_182 0 210 (dk_at dksX7_term_1 14 rfl rfl)
theorem dX7_term_41 : decode cX7_term 41 = .ok (.aload_n 0, 1) := dk_42 (dk_at dksX7_term_1 17 rfl rfl)
theorem dX7_term_42 : decode cX7_term 42 = .ok (.invokevirtual 250, 3) := dk_182 0 250 (dk_at dksX7_term_1 18 rfl rfl)
theorem dX7_term_45 : decode cX7_term 45 = .ok (.istore 4, 2) := dk_54 4 (dk_at dksX7_term_1 21 rfl rfl)
theorem dX7_term_47 : decode cX7_term 47 = .ok (.lload_n 2, 1) := dk_32 (dk_at dksX7_term_1 23 rfl rfl)
theorem dX7_term_48 : decode cX7_term 48 = .ok (.ldc2_w 259, 3) := dk_20 1 3 (dk_at dksX7_term_2 0 rfl rfl)
theorem dX7_term_51 : decode cX7_term 51 = .ok (.lcmp, 1) := dk_148 (dk_at dksX7_term_2 3 rfl rfl)
theorem dX7_term_52 : decode cX7_term 52 = .ok (.ifCond .ne 11, 3) := dk_154 0 11 (dk_at dksX7_term_2 4 rfl rfl)
theorem dX7_term_55 : decode cX7_term 55 = .ok (.iload_n 1, 1) := dk_27 (dk_at dksX7_term_2 7 rfl rfl)
theorem dX7_term_56 : decode cX7_term 56 = .ok (.iload 4, 2) := dk_21 4 (dk_at dksX7_term_2 8 rfl rfl)
theorem dX7_term_58 : decode cX7_term 58 = .ok (.imul, 1) := dk_104 (dk_at dksX7_term_2 10 rfl rfl)
theorem dX7_term_59 : decode cX7_term 59 = .ok (.istore_n 1, 1) := dk_60 (dk_at dksX7_term_2 11 rfl rfl)
theorem dX7_term_60 : decode cX7_term 60 = .ok (.goto 57, 3) := dk_167 0 57 (dk_at dksX7_term_2 12 rfl rfl)
theorem dX7_term_63 : decode cX7_term 63 = .ok (.iload 4, 2) := dk_21 4 (dk_at dksX7_term_2 15 rfl rfl)
theorem dX7_term_65 : decode cX7_term 65 = .ok (.ifCond .ne 8, 3) := dk_154 0 8 (dk_at dksX7_term_2 17 rfl rfl)
theorem dX7_term_68 : decode cX7_term 68 = .ok (.iconst 0, 1) := dk_3 (dk_at dksX7_term_2 20 rfl rfl)
theorem dX7_term_69 : decode cX7_term 69 = .ok (.istore_n 1, 1) := dk_60 (dk_at dksX7_term_2 21 rfl rfl)
theorem dX7_term_70 : decode cX7_term 70 = .ok (.goto 47, 3) := dk_167 0 47 (dk_at dksX7_term_3 0 rfl rfl)
theorem dX7_term_73 : decode cX7_term 73 = .ok (.iload 4, 2) := dk_21 4 (dk_at dksX7_term_3 3 rfl rfl)
theorem dX7_term_75 : decode cX7_term 75 = .ok (.iconst (-1), 1) := dk_2 (dk_at dksX7_term_3 5 rfl rfl)
theorem dX7_term_76 : decode cX7_term 76 = .ok (.if_icmp .ne 21, 3) := dk_160 0 21 (dk_at dksX7_term_3 6 rfl rfl)
theorem dX7_term_79 : decode cX7_term 79 = .ok (.lload_n 2, 1) := dk_32 (dk_at dksX7_term_3 9 rfl rfl)
theorem dX7_term_80 : decode cX7_term 80 = .ok (.ldc2_w 261, 3) := dk_20 1 5 (dk_at dksX7_term_3 10 rfl rfl)
theorem dX7_term_83 : decode cX7_term 83 = .ok (.lcmp, 1) := dk_148 (dk_at dksX7_term_3 13 rfl rfl)
theorem dX7_term_84 : decode cX7_term 84 = .ok (.ifCond .ne 8, 3) := dk_154 0 8 (dk_at dksX7_term_3 14 rfl rfl)
theorem dX7_term_87 : decode cX7_term 87 = .ok (.iload_n 1, 1) := dk_27 (dk_at dksX7_term_3 17 rfl rfl)
theorem dX7_term_88 : decode cX7_term 88 = .ok (.ineg, 1) := dk_116 (dk_at dksX7_term_3 18 rfl rfl)
theorem dX7_term_89 : decode cX7_term 89 = .ok (.goto 4, 3) := dk_167 0 4 (dk_at dksX7_term_3 19 rfl rfl)
theorem dX7_term_92 : decode cX7_term 92 = .ok (.iconst 0, 1) := dk_3 (dk_at dksX7_term_3 22 rfl rfl)
theorem dX7_term_93 : decode cX7_term 93 = .ok (.istore_n 1, 1) := dk_60 (dk_at dksX7_term_3 23 rfl rfl)
theorem dX7_term_94 : decode cX7_term 94 = .ok (.goto 23, 3) := dk_167 0 23 (dk_at dksX7_term_4 0 rfl rfl)
theorem dX7_term_97 : decode cX7_term 97 = .ok (.lload_n 2, 1) := dk_32 (dk_at dksX7_term_4 3 rfl rfl)
theorem dX7_term_98 : decode cX7_term 98 = .ok (.ldc2_w 261, 3) := dk_20 1 5 (dk_at dksX7_term_4 4 rfl rfl)
theorem dX7_term_101 : decode cX7_term 101 = .ok (.lcmp, 1) := dk_148 (dk_at dksX7_term_4 7 rfl rfl)
theorem dX7_term_102 : decode cX7_term 102 = .ok (.ifCond .ne 10, 3) := dk_154 0 10 (dk_at dksX7_term_4 8 rfl rfl)
theorem dX7_term_105 : decode cX7_term 105 = .ok (.iload_n 1, 1) := dk_27 (dk_at dksX7_term_4 11 rfl rfl)
theorem dX7_term_106 : decode cX7_term 106 = .ok (.iload 4, 2) := dk_21 4 (dk_at dksX7_term_4 12 rfl rfl)
theorem dX7_term_108 : decode cX7_term 108 = .ok (.idiv, 1) := dk_108 (dk_at dksX7_term_4 14 rfl rfl)
theorem dX7_term_109 : decode cX7_term 109 = .ok (.goto 7, 3) := dk_167 0 7 (dk_at dksX7_term_4 15 rfl rfl)
theorem dX7_term_112 : decode cX7_term 112 = .ok (.iload_n 1, 1) := dk_27 (dk_at dksX7_term_4 18 rfl rfl)
theorem dX7_term_113 : decode cX7_term 113 = .ok (.iload 4, 2) := dk_21 4 (dk_at dksX7_term_4 19 rfl rfl)
theorem dX7_term_115 : decode cX7_term 115 = .ok (.irem, 1) := dk_112 (dk_at dksX7_term_4 21 rfl rfl)
theorem dX7_term_116 : decode cX7_term 116 = .ok (.istore_n 1, 1) := dk_60 (dk_at dksX7_term_4 22 rfl rfl)
theorem dX7_term_117 : decode cX7_term 117 = .ok (.goto (-112), 3) := dk_167 255 144 (dk_at dksX7_term_5 0 rfl rfl)
theorem dX7_term_120 : decode cX7_term 120 = .ok (.iload_n 1, 1) := dk_27 (dk_at dksX7_term_5 3 rfl rfl)
theorem dX7_term_121 : decode cX7_term 121 = .ok (.ireturn, 1) := dk_172 (dk_at dksX7_term_5 4 rfl rfl)
abbrev cX7_one : ByteArray := prog_19_method_47_code
def yX7_one : MethodName := ⟨RX7, "one", "()I"⟩
def dkwX7_one_6 : List UInt8 := [182, 1, 0, 60, 42, 180, 0, 197, 154, 0, 14, 42, 182, 0, 210, 167, 0, 7, 42, 182, 0, 207, 27, 172]
abbrev dktX7_one_6 : List UInt8 := dkwX7_one_6 ++ []
def dkwX7_one_5 : List UInt8 := [182, 0, 210, 167, 0, 41, 42, 180, 0, 197, 154, 0, 30, 42, 180, 0, 180, 4, 160, 0, 22, 42]
abbrev dktX7_one_5 : List UInt8 := dkwX7_one_5 ++ dktX7_one_6
def dkwX7_one_4 : List UInt8 := [42, 180, 0, 197, 154, 0, 24, 42, 180, 0, 180, 5, 160, 0, 16, 42, 180, 0, 183, 136, 60, 42]
abbrev dktX7_one_4 : List UInt8 := dkwX7_one_4 ++ dktX7_one_5
def dkwX7_one_3 : List UInt8 := [42, 89, 180, 0, 204, 4, 100, 181, 0, 204, 42, 180, 0, 197, 154, 0, 76, 42, 182, 0, 210, 167, 0, 69]
abbrev dktX7_one_3 : List UInt8 := dkwX7_one_3 ++ dktX7_one_4
def dkwX7_one_2 : List UInt8 := [182, 0, 246, 153, 0, 111, 42, 182, 0, 253, 60, 42, 16, 41, 182, 0, 243, 154, 0, 7, 42, 182, 0, 207]
abbrev dktX7_one_2 : List UInt8 := dkwX7_one_2 ++ dktX7_one_3
def dkwX7_one_1 : List UInt8 := [42, 89, 180, 0, 204, 4, 100, 181, 0, 204, 167, 0, 127, 42, 16, 40, 182, 0, 243, 153, 0, 52, 42]
abbrev dktX7_one_1 : List UInt8 := dkwX7_one_1 ++ dktX7_one_2
def dkwX7_one_0 : List UInt8 := [3, 60, 42, 16, 45, 182, 0, 243, 153, 0, 29, 42, 182, 0, 246, 153, 0, 146, 42, 182, 0, 250, 116, 60]
abbrev dktX7_one_0 : List UInt8 := dkwX7_one_0 ++ dktX7_one_1
theorem dksX7_one_0 : cX7_one.data.toList.drop 0 = dktX7_one_0 := by decide +kernel
theorem dksX7_one_1 : cX7_one.data.toList.drop 24 = dktX7_one_1 := dk_seg dksX7_one_0 24 rfl rfl
theorem dksX7_one_2 : cX7_one.data.toList.drop 47 = dktX7_one_2 := dk_seg dksX7_one_1 23 rfl rfl
theorem dksX7_one_3 : cX7_one.data.toList.drop 71 = dktX7_one_3 := dk_seg dksX7_one_2 24 rfl rfl
theorem dksX7_one_4 : cX7_one.data.toList.drop 95 = dktX7_one_4 := dk_seg dksX7_one_3 24 rfl rfl
theorem dksX7_one_5 : cX7_one.data.toList.drop 117 = dktX7_one_5 := dk_seg dksX7_one_4 22 rfl rfl
theorem dksX7_one_6 : cX7_one.data.toList.drop 139 = dktX7_one_6 := dk_seg dksX7_one_5 22 rfl rfl
theorem dX7_one_0 : decode cX7_one 0 = .ok (.iconst 0, 1) := dk_3 (dk_at dksX7_one_0 0 rfl rfl)
theorem dX7_one_1 : decode cX7_one 1 = .ok (.istore_n 1, 1) := dk_60 (dk_at dksX7_one_0 1 rfl rfl)
theorem dX7_one_2 : decode cX7_one 2 = .ok (.aload_n 0, 1) := dk_42 (dk_at dksX7_one_0 2 rfl rfl)
theorem dX7_one_3 : decode cX7_one 3 = .ok (.bipush 45, 2) := dk_16 45 (dk_at dksX7_one_0 3 rfl rfl)
theorem dX7_one_5 : decode cX7_one 5 = .ok (.invokevirtual 243, 3) := dk_182 0 243 (dk_at dksX7_one_0 5 rfl rfl)
theorem dX7_one_8 : decode cX7_one 8 = .ok (.ifCond .eq 29, 3) := dk_153 0 29 (dk_at dksX7_one_0 8 rfl rfl)
theorem dX7_one_11 : decode cX7_one 11 = .ok (.aload_n 0, 1) := dk_42 (dk_at dksX7_one_0 11 rfl rfl)
theorem dX7_one_12 : decode cX7_one 12 = .ok (.invokevirtual 246, 3) := dk_182 0 246 (dk_at dksX7_one_0 12 rfl rfl)
theorem dX7_one_15 : decode cX7_one 15 = .ok (.ifCond .eq 146, 3) := dk_153 0 146 (dk_at dksX7_one_0 15 rfl rfl)
theorem dX7_one_18 : decode cX7_one 18 = .ok (.aload_n 0, 1) := dk_42 (dk_at dksX7_one_0 18 rfl rfl)
theorem dX7_one_19 : decode cX7_one 19 = .ok (.invokevirtual 250, 3) := dk_182 0 250 (dk_at dksX7_one_0 19 rfl rfl)
theorem dX7_one_22 : decode cX7_one 22 = .ok (.ineg, 1) := dk_116 (dk_at dksX7_one_0 22 rfl rfl)
theorem dX7_one_23 : decode cX7_one 23 = .ok (.istore_n 1, 1) := dk_60 (dk_at dksX7_one_0 23 rfl rfl)
theorem dX7_one_24 : decode cX7_one 24 = .ok (.aload_n 0, 1) := dk_42 (dk_at dksX7_one_1 0 rfl rfl)
theorem dX7_one_25 : decode cX7_one 25 = .ok (.dup, 1) := dk_89 (dk_at dksX7_one_1 1 rfl rfl)
theorem dX7_one_26 : decode cX7_one 26 = .ok (.getfield 204, 3) := dk_180 0 204 (dk_at dksX7_one_1 2 rfl rfl)
theorem dX7_one_29 : decode cX7_one 29 = .ok (.iconst 1, 1) := dk_4 (dk_at dksX7_one_1 5 rfl rfl)
theorem dX7_one_30 : decode cX7_one 30 = .ok (.isub, 1) := dk_100 (dk_at dksX7_one_1 6 rfl rfl)
theorem dX7_one_31 : decode cX7_one 31 = .ok (.putfield 204, 3) := dk_181 0 204 (dk_at dksX7_one_1 7 rfl rfl)
theorem dX7_one_34 : decode cX7_one 34 = .ok (.goto 127, 3) := dk_167 0 127 (dk_at dksX7_one_1 10 rfl rfl)
theorem dX7_one_37 : decode cX7_one 37 = .ok (.aload_n 0, 1) := dk_42 (dk_at dksX7_one_1 13 rfl rfl)
theorem dX7_one_38 : decode cX7_one 38 = .ok (.bipush 40, 2) := dk_16 40 (dk_at dksX7_one_1 14 rfl rfl)
theorem dX7_one_40 : decode cX7_one 40 = .ok (.invokevirtual 243, 3) := dk_182 0 243 (dk_at dksX7_one_1 16 rfl rfl)
theorem dX7_one_43 : decode cX7_one 43 = .ok (.ifCond .eq 52, 3) := dk_153 0 52 (dk_at dksX7_one_1 19 rfl rfl)
theorem dX7_one_46 : decode cX7_one 46 = .ok (.aload_n 0, 1) := dk_42 (dk_at dksX7_one_1 22 rfl rfl)
theorem dX7_one_47 : decode cX7_one 47 = .ok (.invokevirtual 246, 3) := dk_182 0 246 (dk_at dksX7_one_2 0 rfl rfl)
theorem dX7_one_50 : decode cX7_one 50 = .ok (.ifCond .eq 111, 3) := dk_153 0 111 (dk_at dksX7_one_2 3 rfl rfl)
theorem dX7_one_53 : decode cX7_one 53 = .ok (.aload_n 0, 1) := dk_42 (dk_at dksX7_one_2 6 rfl rfl)
theorem dX7_one_54 : decode cX7_one 54 = .ok (.invokevirtual 253, 3) := dk_182 0 253 (dk_at dksX7_one_2 7 rfl rfl)
theorem dX7_one_57 : decode cX7_one 57 = .ok (.istore_n 1, 1) := dk_60 (dk_at dksX7_one_2 10 rfl rfl)
theorem dX7_one_58 : decode cX7_one 58 = .ok (.aload_n 0, 1) := dk_42 (dk_at dksX7_one_2 11 rfl rfl)
theorem dX7_one_59 : decode cX7_one 59 = .ok (.bipush 41, 2) := dk_16 41 (dk_at dksX7_one_2 12 rfl rfl)
theorem dX7_one_61 : decode cX7_one 61 = .ok (.invokevirtual 243, 3) := dk_182 0 243 (dk_at dksX7_one_2 14 rfl rfl)
theorem dX7_one_64 : decode cX7_one 64 = .ok (.ifCond .ne 7, 3) := dk_154 0 7 (dk_at dksX7_one_2 17 rfl rfl)
theorem dX7_one_67 : decode cX7_one 67 = .ok (.aload_n 0, 1) := dk_42 (dk_at dksX7_one_2 20 rfl rfl)
theorem dX7_one_68 : decode cX7_one 68 = .ok (.invokevirtual 207, 3) := dk_182 0 207 (dk_at dksX7_one_2 21 rfl rfl)
theorem dX7_one_71 : decode cX7_one 71 = .ok (.aload_n 0, 1) := dk_42 (dk_at dksX7_one_3 0 rfl rfl)
theorem dX7_one_72 : decode cX7_one 72 = .ok (.dup, 1) := dk_89 (dk_at dksX7_one_3 1 rfl rfl)
theorem dX7_one_73 : decode cX7_one 73 = .ok (.getfield 204, 3) := dk_180 0 204 (dk_at dksX7_one_3 2 rfl rfl)
theorem dX7_one_76 : decode cX7_one 76 = .ok (.iconst 1, 1) := dk_4 (dk_at dksX7_one_3 5 rfl rfl)
theorem dX7_one_77 : decode cX7_one 77 = .ok (.isub, 1) := dk_100 (dk_at dksX7_one_3 6 rfl rfl)
theorem dX7_one_78 : decode cX7_one 78 = .ok (.putfield 204, 3) := dk_181 0 204 (dk_at dksX7_one_3 7 rfl rfl)
theorem dX7_one_81 : decode cX7_one 81 = .ok (.aload_n 0, 1) := dk_42 (dk_at dksX7_one_3 10 rfl rfl)
theorem dX7_one_82 : decode cX7_one 82 = .ok (.getfield 197, 3) := dk_180 0 197 (dk_at dksX7_one_3 11 rfl rfl)
theorem dX7_one_85 : decode cX7_one 85 = .ok (.ifCond .ne 76, 3) := dk_154 0 76 (dk_at dksX7_one_3 14 rfl rfl)
theorem dX7_one_88 : decode cX7_one 88 = .ok (.aload_n 0, 1) := dk_42 (dk_at dksX7_one_3 17 rfl rfl)
theorem dX7_one_89 : decode cX7_one 89 = .ok (.invokevirtual 210, 3) := dk_182 0 210 (dk_at dksX7_one_3 18 rfl rfl)
theorem dX7_one_92 : decode cX7_one 92 = .ok (.goto 69, 3) := dk_167 0 69 (dk_at dksX7_one_3 21 rfl rfl)
theorem dX7_one_95 : decode cX7_one 95 = .ok (.aload_n 0, 1) := dk_42 (dk_at dksX7_one_4 0 rfl rfl)
theorem dX7_one_96 : decode cX7_one 96 = .ok (.getfield 197, 3) := dk_180 0 197 (dk_at dksX7_one_4 1 rfl rfl)
theorem dX7_one_99 : decode cX7_one 99 = .ok (.ifCond .ne 24, 3) := dk_154 0 24 (dk_at dksX7_one_4 4 rfl rfl)
theorem dX7_one_102 : decode cX7_one 102 = .ok (.aload_n 0, 1) := dk_42 (dk_at dksX7_one_4 7 rfl rfl)
theorem dX7_one_103 : decode cX7_one 103 = .ok (.getfield 180, 3) := dk_180 0 180 (dk_at dksX7_one_4 8 rfl rfl)
theorem dX7_one_106 : decode cX7_one 106 = .ok (.iconst 2, 1) := dk_5 (dk_at dksX7_one_4 11 rfl rfl)
theorem dX7_one_107 : decode cX7_one 107 = .ok (.if_icmp .ne 16, 3) := dk_160 0 16 (dk_at dksX7_one_4 12 rfl rfl)
theorem dX7_one_110 : decode cX7_one 110 = .ok (.aload_n 0, 1) := dk_42 (dk_at dksX7_one_4 15 rfl rfl)
theorem dX7_one_111 : decode cX7_one 111 = .ok (.getfield 183, 3) := dk_180 0 183 (dk_at dksX7_one_4 16 rfl rfl)
theorem dX7_one_114 : decode cX7_one 114 = .ok (.l2i, 1) := dk_136 (dk_at dksX7_one_4 19 rfl rfl)
theorem dX7_one_115 : decode cX7_one 115 = .ok (.istore_n 1, 1) := dk_60 (dk_at dksX7_one_4 20 rfl rfl)
theorem dX7_one_116 : decode cX7_one 116 = .ok (.aload_n 0, 1) := dk_42 (dk_at dksX7_one_4 21 rfl rfl)
theorem dX7_one_117 : decode cX7_one 117 = .ok (.invokevirtual 210, 3) := dk_182 0 210 (dk_at dksX7_one_5 0 rfl rfl)
theorem dX7_one_120 : decode cX7_one 120 = .ok (.goto 41, 3) := dk_167 0 41 (dk_at dksX7_one_5 3 rfl rfl)
theorem dX7_one_123 : decode cX7_one 123 = .ok (.aload_n 0, 1) := dk_42 (dk_at dksX7_one_5 6 rfl rfl)
theorem dX7_one_124 : decode cX7_one 124 = .ok (.getfield 197, 3) := dk_180 0 197 (dk_at dksX7_one_5 7 rfl rfl)
theorem dX7_one_127 : decode cX7_one 127 = .ok (.ifCond .ne 30, 3) := dk_154 0 30 (dk_at dksX7_one_5 10 rfl rfl)
theorem dX7_one_130 : decode cX7_one 130 = .ok (.aload_n 0, 1) := dk_42 (dk_at dksX7_one_5 13 rfl rfl)
theorem dX7_one_131 : decode cX7_one 131 = .ok (.getfield 180, 3) := dk_180 0 180 (dk_at dksX7_one_5 14 rfl rfl)
theorem dX7_one_134 : decode cX7_one 134 = .ok (.iconst 1, 1) := dk_4 (dk_at dksX7_one_5 17 rfl rfl)
theorem dX7_one_135 : decode cX7_one 135 = .ok (.if_icmp .ne 22, 3) := dk_160 0 22 (dk_at dksX7_one_5 18 rfl rfl)
theorem dX7_one_138 : decode cX7_one 138 = .ok (.aload_n 0, 1) := dk_42 (dk_at dksX7_one_5 21 rfl rfl)
theorem dX7_one_139 : decode cX7_one 139 = .ok (.invokevirtual 256, 3) := dk_182 1 0 (dk_at dksX7_one_6 0 rfl rfl)
theorem dX7_one_142 : decode cX7_one 142 = .ok (.istore_n 1, 1) := dk_60 (dk_at dksX7_one_6 3 rfl rfl)
theorem dX7_one_143 : decode cX7_one 143 = .ok (.aload_n 0, 1) := dk_42 (dk_at dksX7_one_6 4 rfl rfl)
theorem dX7_one_144 : decode cX7_one 144 = .ok (.getfield 197, 3) := dk_180 0 197 (dk_at dksX7_one_6 5 rfl rfl)
theorem dX7_one_147 : decode cX7_one 147 = .ok (.ifCond .ne 14, 3) := dk_154 0 14 (dk_at dksX7_one_6 8 rfl rfl)
theorem dX7_one_150 : decode cX7_one 150 = .ok (.aload_n 0, 1) := dk_42 (dk_at dksX7_one_6 11 rfl rfl)
theorem dX7_one_151 : decode cX7_one 151 = .ok (.invokevirtual 210, 3) := dk_182 0 210 (dk_at dksX7_one_6 12 rfl rfl)
theorem dX7_one_154 : decode cX7_one 154 = .ok (.goto 7, 3) := dk_167 0 7 (dk_at dksX7_one_6 15 rfl rfl)
theorem dX7_one_157 : decode cX7_one 157 = .ok (.aload_n 0, 1) := dk_42 (dk_at dksX7_one_6 18 rfl rfl)
theorem dX7_one_158 : decode cX7_one 158 = .ok (.invokevirtual 207, 3) := dk_182 0 207 (dk_at dksX7_one_6 19 rfl rfl)
theorem dX7_one_161 : decode cX7_one 161 = .ok (.iload_n 1, 1) := dk_27 (dk_at dksX7_one_6 22 rfl rfl)
theorem dX7_one_162 : decode cX7_one 162 = .ok (.ireturn, 1) := dk_172 (dk_at dksX7_one_6 23 rfl rfl)
abbrev cX7_isSign : ByteArray := prog_19_method_44_code
def yX7_isSign : MethodName := ⟨RX7, "isSign", "(I)Z"⟩
def dkwX7_isSign_1 : List UInt8 := [154, 0, 7, 4, 167, 0, 4, 3, 172]
abbrev dktX7_isSign_1 : List UInt8 := dkwX7_isSign_1 ++ []
def dkwX7_isSign_0 : List UInt8 := [42, 180, 0, 197, 154, 0, 25, 42, 180, 0, 180, 6, 160, 0, 17, 42, 180, 0, 183, 27, 133, 148]
abbrev dktX7_isSign_0 : List UInt8 := dkwX7_isSign_0 ++ dktX7_isSign_1
theorem dksX7_isSign_0 : cX7_isSign.data.toList.drop 0 = dktX7_isSign_0 := by decide +kernel
theorem dksX7_isSign_1 : cX7_isSign.data.toList.drop 22 = dktX7_isSign_1 := dk_seg dksX7_isSign_0 22 rfl rfl
theorem dX7_isSign_0 : decode cX7_isSign 0 = .ok (.aload_n 0, 1) := dk_42 (dk_at dksX7_isSign_0 0 rfl rfl)
theorem dX7_isSign_1 : decode cX7_isSign 1 = .ok (.getfield 197, 3) := dk_180 0 197 (dk_at dksX7_isSign_0 1 rfl rfl)
theorem dX7_isSign_4 : decode cX7_isSign 4 = .ok (.ifCond .ne 25, 3) := dk_154 0 25 (dk_at dksX7_isSign_0 4 rfl rfl)
theorem dX7_isSign_7 : decode cX7_isSign 7 = .ok (.aload_n 0, 1) := dk_42 (dk_at dksX7_isSign_0 7 rfl rfl)
theorem dX7_isSign_8 : decode cX7_isSign 8 = .ok (.getfield 180, 3) := dk_180 0 180 (dk_at dksX7_isSign_0 8 rfl rfl)
theorem dX7_isSign_11 : decode cX7_isSign 11 = .ok (.iconst 3, 1) := dk_6 (dk_at dksX7_isSign_0 11 rfl rfl)
theorem dX7_isSign_12 : decode cX7_isSign 12 = .ok (.if_icmp .ne 17, 3) := dk_160 0 17 (dk_at dksX7_isSign_0 12 rfl rfl)
theorem dX7_isSign_15 : decode cX7_isSign 15 = .ok (.aload_n 0, 1) := dk_42 (dk_at dksX7_isSign_0 15 rfl rfl)
theorem dX7_isSign_16 : decode cX7_isSign 16 = .ok (.getfield 183, 3) := dk_180 0 183 (dk_at dksX7_isSign_0 16 rfl rfl)
theorem dX7_isSign_19 : decode cX7_isSign 19 = .ok (.iload_n 1, 1) := dk_27 (dk_at dksX7_isSign_0 19 rfl rfl)
theorem dX7_isSign_20 : decode cX7_isSign 20 = .ok (.i2l, 1) := dk_133 (dk_at dksX7_isSign_0 20 rfl rfl)
theorem dX7_isSign_21 : decode cX7_isSign 21 = .ok (.lcmp, 1) := dk_148 (dk_at dksX7_isSign_0 21 rfl rfl)
theorem dX7_isSign_22 : decode cX7_isSign 22 = .ok (.ifCond .ne 7, 3) := dk_154 0 7 (dk_at dksX7_isSign_1 0 rfl rfl)
theorem dX7_isSign_25 : decode cX7_isSign 25 = .ok (.iconst 1, 1) := dk_4 (dk_at dksX7_isSign_1 3 rfl rfl)
theorem dX7_isSign_26 : decode cX7_isSign 26 = .ok (.goto 4, 3) := dk_167 0 4 (dk_at dksX7_isSign_1 4 rfl rfl)
theorem dX7_isSign_29 : decode cX7_isSign 29 = .ok (.iconst 0, 1) := dk_3 (dk_at dksX7_isSign_1 7 rfl rfl)
theorem dX7_isSign_30 : decode cX7_isSign 30 = .ok (.ireturn, 1) := dk_172 (dk_at dksX7_isSign_1 8 rfl rfl)
abbrev cX7_name : ByteArray := prog_19_method_46_code
def yX7_name : MethodName := ⟨RX7, "name", "()I"⟩
def dkwX7_name_11 : List UInt8 := [167, 0, 12, 42, 42, 180, 0, 213, 29, 182, 0, 84, 172]
abbrev dktX7_name_11 : List UInt8 := dkwX7_name_11 ++ []
def dkwX7_name_10 : List UInt8 := [153, 0, 7, 3, 167, 0, 32, 29, 8, 160, 0, 18, 42, 180, 0, 30, 2, 159, 0, 10, 42, 180, 0, 30]
abbrev dktX7_name_10 : List UInt8 := dkwX7_name_10 ++ dktX7_name_11
def dkwX7_name_9 : List UInt8 := [182, 0, 218, 153, 0, 7, 7, 167, 0, 4, 2, 62, 29, 2, 160, 0, 9, 42, 182, 0, 207, 3, 172, 27]
abbrev dktX7_name_9 : List UInt8 := dkwX7_name_9 ++ dktX7_name_10
def dkwX7_name_8 : List UInt8 := [167, 0, 33, 42, 20, 0, 239, 182, 0, 218, 153, 0, 8, 16, 6, 167, 0, 18, 42, 20, 0, 241]
abbrev dktX7_name_8 : List UInt8 := dkwX7_name_8 ++ dktX7_name_9
def dkwX7_name_7 : List UInt8 := [20, 0, 235, 182, 0, 218, 153, 0, 7, 6, 167, 0, 47, 42, 20, 0, 237, 182, 0, 218, 153, 0, 7, 8]
abbrev dktX7_name_7 : List UInt8 := dkwX7_name_7 ++ dktX7_name_8
def dkwX7_name_6 : List UInt8 := [153, 0, 7, 5, 167, 0, 75, 42, 20, 0, 233, 182, 0, 218, 153, 0, 7, 4, 167, 0, 61, 42]
abbrev dktX7_name_6 : List UInt8 := dkwX7_name_6 ++ dktX7_name_7
def dkwX7_name_5 : List UInt8 := [153, 0, 14, 42, 180, 0, 13, 28, 5, 96, 46, 167, 0, 4, 3, 172, 42, 20, 0, 231, 182, 0, 218]
abbrev dktX7_name_5 : List UInt8 := dkwX7_name_5 ++ dktX7_name_6
def dkwX7_name_4 : List UInt8 := [180, 0, 13, 28, 4, 96, 46, 167, 0, 4, 3, 172, 42, 20, 0, 229, 182, 0, 218, 153, 0, 20, 27]
abbrev dktX7_name_4 : List UInt8 := dkwX7_name_4 ++ dktX7_name_5
def dkwX7_name_3 : List UInt8 := [180, 0, 213, 3, 182, 0, 84, 172, 42, 20, 0, 227, 182, 0, 218, 153, 0, 20, 27, 153, 0, 14, 42]
abbrev dktX7_name_3 : List UInt8 := dkwX7_name_3 ++ dktX7_name_4
def dkwX7_name_2 : List UInt8 := [20, 0, 225, 182, 0, 218, 153, 0, 26, 27, 153, 0, 12, 42, 180, 0, 13, 28, 46, 167, 0, 12, 42, 42]
abbrev dktX7_name_2 : List UInt8 := dkwX7_name_2 ++ dktX7_name_3
def dkwX7_name_1 : List UInt8 := [16, 100, 100, 104, 96, 61, 42, 20, 0, 216, 182, 0, 218, 153, 0, 8, 42, 180, 0, 222, 172, 42]
abbrev dktX7_name_1 : List UInt8 := dkwX7_name_1 ++ dktX7_name_2
def dkwX7_name_0 : List UInt8 := [42, 180, 0, 213, 16, 100, 161, 0, 7, 4, 167, 0, 4, 3, 60, 17, 3, 160, 7, 42, 180, 0, 213]
abbrev dktX7_name_0 : List UInt8 := dkwX7_name_0 ++ dktX7_name_1
theorem dksX7_name_0 : cX7_name.data.toList.drop 0 = dktX7_name_0 := by decide +kernel
theorem dksX7_name_1 : cX7_name.data.toList.drop 23 = dktX7_name_1 := dk_seg dksX7_name_0 23 rfl rfl
theorem dksX7_name_2 : cX7_name.data.toList.drop 45 = dktX7_name_2 := dk_seg dksX7_name_1 22 rfl rfl
theorem dksX7_name_3 : cX7_name.data.toList.drop 69 = dktX7_name_3 := dk_seg dksX7_name_2 24 rfl rfl
theorem dksX7_name_4 : cX7_name.data.toList.drop 92 = dktX7_name_4 := dk_seg dksX7_name_3 23 rfl rfl
theorem dksX7_name_5 : cX7_name.data.toList.drop 115 = dktX7_name_5 := dk_seg dksX7_name_4 23 rfl rfl
theorem dksX7_name_6 : cX7_name.data.toList.drop 138 = dktX7_name_6 := dk_seg dksX7_name_5 23 rfl rfl
theorem dksX7_name_7 : cX7_name.data.toList.drop 160 = dktX7_name_7 := dk_seg dksX7_name_6 22 rfl rfl
theorem dksX7_name_8 : cX7_name.data.toList.drop 184 = dktX7_name_8 := dk_seg dksX7_name_7 24 rfl rfl
theorem dksX7_name_9 : cX7_name.data.toList.drop 206 = dktX7_name_9 := dk_seg dksX7_name_8 22 rfl rfl
theorem dksX7_name_10 : cX7_name.data.toList.drop 230 = dktX7_name_10 := dk_seg dksX7_name_9 24 rfl rfl
theorem dksX7_name_11 : cX7_name.data.toList.drop 254 = dktX7_name_11 := dk_seg dksX7_name_10 24 rfl rfl
theorem dX7_name_0 : decode cX7_name 0 = .ok (.aload_n 0, 1) := dk_42 (dk_at dksX7_name_0 0 rfl rfl)
theorem dX7_name_1 : decode cX7_name 1 = .ok (.getfield 213, 3) := dk_180 0 213 (dk_at dksX7_name_0 1 rfl rfl)
theorem dX7_name_4 : decode cX7_name 4 = .ok (.bipush 100, 2) := dk_16 100 (dk_at dksX7_name_0 4 rfl rfl)
theorem dX7_name_6 : decode cX7_name 6 = .ok (.if_icmp .lt 7, 3) := dk_161 0 7 (dk_at dksX7_name_0 6 rfl rfl)
theorem dX7_name_9 : decode cX7_name 9 = .ok (.iconst 1, 1) := dk_4 (dk_at dksX7_name_0 9 rfl rfl)
theorem dX7_name_10 : decode cX7_name 10 = .ok (.goto 4, 3) := dk_167 0 4 (dk_at dksX7_name_0 10 rfl rfl)
theorem dX7_name_13 : decode cX7_name 13 = .ok (.iconst 0, 1) := dk_3 (dk_at dksX7_name_0 13 rfl rfl)
theorem dX7_name_14 : decode cX7_name 14 = .ok (.istore_n 1, 1) := dk_60 (dk_at dksX7_name_0 14 rfl rfl)
theorem dX7_name_15 : decode cX7_name 15 = .ok (.sipush 928, 3) := dk_17 3 160 (dk_at dksX7_name_0 15 rfl rfl)
theorem dX7_name_18 : decode cX7_name 18 = .ok (.iconst 4, 1) := dk_7 (dk_at dksX7_name_0 18 rfl rfl)
theorem dX7_name_19 : decode cX7_name 19 = .ok (.aload_n 0, 1) := dk_42 (dk_at dksX7_name_0 19 rfl rfl)
theorem dX7_name_20 : decode cX7_name 20 = .ok (.getfield 213, 3) := dk_180 0 213 (dk_at dksX7_name_0 20 rfl rfl)
theorem dX7_name_23 : decode cX7_name 23 = .ok (.bipush 100, 2) := dk_16 100 (dk_at dksX7_name_1 0 rfl rfl)
theorem dX7_name_25 : decode cX7_name 25 = .ok (.isub, 1) := dk_100 (dk_at dksX7_name_1 2 rfl rfl)
theorem dX7_name_26 : decode cX7_name 26 = .ok (.imul, 1) := dk_104 (dk_at dksX7_name_1 3 rfl rfl)
theorem dX7_name_27 : decode cX7_name 27 = .ok (.iadd, 1) := dk_96 (dk_at dksX7_name_1 4 rfl rfl)
theorem dX7_name_28 : decode cX7_name 28 = .ok (.istore_n 2, 1) := dk_61 (dk_at dksX7_name_1 5 rfl rfl)
theorem dX7_name_29 : decode cX7_name 29 = .ok (.aload_n 0, 1) := dk_42 (dk_at dksX7_name_1 6 rfl rfl)
theorem dX7_name_30 : decode cX7_name 30 = .ok (.ldc2_w 216, 3) := dk_20 0 216 (dk_at dksX7_name_1 7 rfl rfl)
theorem dX7_name_33 : decode cX7_name 33 = .ok (.invokevirtual 218, 3) := dk_182 0 218 (dk_at dksX7_name_1 10 rfl rfl)
theorem dX7_name_36 : decode cX7_name 36 = .ok (.ifCond .eq 8, 3) := dk_153 0 8 (dk_at dksX7_name_1 13 rfl rfl)
theorem dX7_name_39 : decode cX7_name 39 = .ok (.aload_n 0, 1) := dk_42 (dk_at dksX7_name_1 16 rfl rfl)
theorem dX7_name_40 : decode cX7_name 40 = .ok (.getfield 222, 3) := dk_180 0 222 (dk_at dksX7_name_1 17 rfl rfl)
theorem dX7_name_43 : decode cX7_name 43 = .ok (.ireturn, 1) := dk_172 (dk_at dksX7_name_1 20 rfl rfl)
theorem dX7_name_44 : decode cX7_name 44 = .ok (.aload_n 0, 1) := dk_42 (dk_at dksX7_name_1 21 rfl rfl)
theorem dX7_name_45 : decode cX7_name 45 = .ok (.ldc2_w 225, 3) := dk_20 0 225 (dk_at dksX7_name_2 0 rfl rfl)
theorem dX7_name_48 : decode cX7_name 48 = .ok (.invokevirtual 218, 3) := dk_182 0 218 (dk_at dksX7_name_2 3 rfl rfl)
theorem dX7_name_51 : decode cX7_name 51 = .ok (.ifCond .eq 26, 3) := dk_153 0 26 (dk_at dksX7_name_2 6 rfl rfl)
theorem dX7_name_54 : decode cX7_name 54 = .ok (.iload_n 1, 1) := dk_27 (dk_at dksX7_name_2 9 rfl rfl)
theorem dX7_name_55 : decode cX7_name 55 = .ok (.ifCond .eq 12, 3) := dk_153 0 12 (dk_at dksX7_name_2 10 rfl rfl)
theorem dX7_name_58 : decode cX7_name 58 = .ok (.aload_n 0, 1) := dk_42 (dk_at dksX7_name_2 13 rfl rfl)
theorem dX7_name_59 : decode cX7_name 59 = .ok (.getfield 13, 3) := dk_180 0 13 (dk_at dksX7_name_2 14 rfl rfl)
theorem dX7_name_62 : decode cX7_name 62 = .ok (.iload_n 2, 1) := dk_28 (dk_at dksX7_name_2 17 rfl rfl)
theorem dX7_name_63 : decode cX7_name 63 = .ok (.iaload, 1) := dk_46 (dk_at dksX7_name_2 18 rfl rfl)
theorem dX7_name_64 : decode cX7_name 64 = .ok (.goto 12, 3) := dk_167 0 12 (dk_at dksX7_name_2 19 rfl rfl)
theorem dX7_name_67 : decode cX7_name 67 = .ok (.aload_n 0, 1) := dk_42 (dk_at dksX7_name_2 22 rfl rfl)
theorem dX7_name_68 : decode cX7_name 68 = .ok (.aload_n 0, 1) := dk_42 (dk_at dksX7_name_2 23 rfl rfl)
theorem dX7_name_69 : decode cX7_name 69 = .ok (.getfield 213, 3) := dk_180 0 213 (dk_at dksX7_name_3 0 rfl rfl)
theorem dX7_name_72 : decode cX7_name 72 = .ok (.iconst 0, 1) := dk_3 (dk_at dksX7_name_3 3 rfl rfl)
theorem dX7_name_73 : decode cX7_name 73 = .ok (.invokevirtual 84, 3) := dk_182 0 84 (dk_at dksX7_name_3 4 rfl rfl)
theorem dX7_name_76 : decode cX7_name 76 = .ok (.ireturn, 1) := dk_172 (dk_at dksX7_name_3 7 rfl rfl)
theorem dX7_name_77 : decode cX7_name 77 = .ok (.aload_n 0, 1) := dk_42 (dk_at dksX7_name_3 8 rfl rfl)
theorem dX7_name_78 : decode cX7_name 78 = .ok (.ldc2_w 227, 3) := dk_20 0 227 (dk_at dksX7_name_3 9 rfl rfl)
theorem dX7_name_81 : decode cX7_name 81 = .ok (.invokevirtual 218, 3) := dk_182 0 218 (dk_at dksX7_name_3 12 rfl rfl)
theorem dX7_name_84 : decode cX7_name 84 = .ok (.ifCond .eq 20, 3) := dk_153 0 20 (dk_at dksX7_name_3 15 rfl rfl)
theorem dX7_name_87 : decode cX7_name 87 = .ok (.iload_n 1, 1) := dk_27 (dk_at dksX7_name_3 18 rfl rfl)
theorem dX7_name_88 : decode cX7_name 88 = .ok (.ifCond .eq 14, 3) := dk_153 0 14 (dk_at dksX7_name_3 19 rfl rfl)
theorem dX7_name_91 : decode cX7_name 91 = .ok (.aload_n 0, 1) := dk_42 (dk_at dksX7_name_3 22 rfl rfl)
theorem dX7_name_92 : decode cX7_name 92 = .ok (.getfield 13, 3) := dk_180 0 13 (dk_at dksX7_name_4 0 rfl rfl)
theorem dX7_name_95 : decode cX7_name 95 = .ok (.iload_n 2, 1) := dk_28 (dk_at dksX7_name_4 3 rfl rfl)
theorem dX7_name_96 : decode cX7_name 96 = .ok (.iconst 1, 1) := dk_4 (dk_at dksX7_name_4 4 rfl rfl)
theorem dX7_name_97 : decode cX7_name 97 = .ok (.iadd, 1) := dk_96 (dk_at dksX7_name_4 5 rfl rfl)
theorem dX7_name_98 : decode cX7_name 98 = .ok (.iaload, 1) := dk_46 (dk_at dksX7_name_4 6 rfl rfl)
theorem dX7_name_99 : decode cX7_name 99 = .ok (.goto 4, 3) := dk_167 0 4 (dk_at dksX7_name_4 7 rfl rfl)
theorem dX7_name_102 : decode cX7_name 102 = .ok (.iconst 0, 1) := dk_3 (dk_at dksX7_name_4 10 rfl rfl)
theorem dX7_name_103 : decode cX7_name 103 = .ok (.ireturn, 1) := dk_172 (dk_at dksX7_name_4 11 rfl rfl)
theorem dX7_name_104 : decode cX7_name 104 = .ok (.aload_n 0, 1) := dk_42 (dk_at dksX7_name_4 12 rfl rfl)
theorem dX7_name_105 : decode cX7_name 105 = .ok (.ldc2_w 229, 3) := dk_20 0 229 (dk_at dksX7_name_4 13 rfl rfl)
theorem dX7_name_108 : decode cX7_name 108 = .ok (.invokevirtual 218, 3) := dk_182 0 218 (dk_at dksX7_name_4 16 rfl rfl)
theorem dX7_name_111 : decode cX7_name 111 = .ok (.ifCond .eq 20, 3) := dk_153 0 20 (dk_at dksX7_name_4 19 rfl rfl)
theorem dX7_name_114 : decode cX7_name 114 = .ok (.iload_n 1, 1) := dk_27 (dk_at dksX7_name_4 22 rfl rfl)
theorem dX7_name_115 : decode cX7_name 115 = .ok (.ifCond .eq 14, 3) := dk_153 0 14 (dk_at dksX7_name_5 0 rfl rfl)
theorem dX7_name_118 : decode cX7_name 118 = .ok (.aload_n 0, 1) := dk_42 (dk_at dksX7_name_5 3 rfl rfl)
theorem dX7_name_119 : decode cX7_name 119 = .ok (.getfield 13, 3) := dk_180 0 13 (dk_at dksX7_name_5 4 rfl rfl)
theorem dX7_name_122 : decode cX7_name 122 = .ok (.iload_n 2, 1) := dk_28 (dk_at dksX7_name_5 7 rfl rfl)
theorem dX7_name_123 : decode cX7_name 123 = .ok (.iconst 2, 1) := dk_5 (dk_at dksX7_name_5 8 rfl rfl)
theorem dX7_name_124 : decode cX7_name 124 = .ok (.iadd, 1) := dk_96 (dk_at dksX7_name_5 9 rfl rfl)
theorem dX7_name_125 : decode cX7_name 125 = .ok (.iaload, 1) := dk_46 (dk_at dksX7_name_5 10 rfl rfl)
theorem dX7_name_126 : decode cX7_name 126 = .ok (.goto 4, 3) := dk_167 0 4 (dk_at dksX7_name_5 11 rfl rfl)
theorem dX7_name_129 : decode cX7_name 129 = .ok (.iconst 0, 1) := dk_3 (dk_at dksX7_name_5 14 rfl rfl)
theorem dX7_name_130 : decode cX7_name 130 = .ok (.ireturn, 1) := dk_172 (dk_at dksX7_name_5 15 rfl rfl)
theorem dX7_name_131 : decode cX7_name 131 = .ok (.aload_n 0, 1) := dk_42 (dk_at dksX7_name_5 16 rfl rfl)
theorem dX7_name_132 : decode cX7_name 132 = .ok (.ldc2_w 231, 3) := dk_20 0 231 (dk_at dksX7_name_5 17 rfl rfl)
theorem dX7_name_135 : decode cX7_name 135 = .ok (.invokevirtual 218, 3) := dk_182 0 218 (dk_at dksX7_name_5 20 rfl rfl)
theorem dX7_name_138 : decode cX7_name 138 = .ok (.ifCond .eq 7, 3) := dk_153 0 7 (dk_at dksX7_name_6 0 rfl rfl)
theorem dX7_name_141 : decode cX7_name 141 = .ok (.iconst 2, 1) := dk_5 (dk_at dksX7_name_6 3 rfl rfl)
theorem dX7_name_142 : decode cX7_name 142 = .ok (.goto 75, 3) := dk_167 0 75 (dk_at dksX7_name_6 4 rfl rfl)
theorem dX7_name_145 : decode cX7_name 145 = .ok (.aload_n 0, 1) := dk_42 (dk_at dksX7_name_6 7 rfl rfl)
theorem dX7_name_146 : decode cX7_name 146 = .ok (.ldc2_w 233, 3) := dk_20 0 233 (dk_at dksX7_name_6 8 rfl rfl)
theorem dX7_name_149 : decode cX7_name 149 = .ok (.invokevirtual 218, 3) := dk_182 0 218 (dk_at dksX7_name_6 11 rfl rfl)
theorem dX7_name_152 : decode cX7_name 152 = .ok (.ifCond .eq 7, 3) := dk_153 0 7 (dk_at dksX7_name_6 14 rfl rfl)
theorem dX7_name_155 : decode cX7_name 155 = .ok (.iconst 1, 1) := dk_4 (dk_at dksX7_name_6 17 rfl rfl)
theorem dX7_name_156 : decode cX7_name 156 = .ok (.goto 61, 3) := dk_167 0 61 (dk_at dksX7_name_6 18 rfl rfl)
theorem dX7_name_159 : decode cX7_name 159 = .ok (.aload_n 0, 1) := dk_42 (dk_at dksX7_name_6 21 rfl rfl)
theorem dX7_name_160 : decode cX7_name 160 = .ok (.ldc2_w 235, 3) := dk_20 0 235 (dk_at dksX7_name_7 0 rfl rfl)
theorem dX7_name_163 : decode cX7_name 163 = .ok (.invokevirtual 218, 3) := dk_182 0 218 (dk_at dksX7_name_7 3 rfl rfl)
theorem dX7_name_166 : decode cX7_name 166 = .ok (.ifCond .eq 7, 3) := dk_153 0 7 (dk_at dksX7_name_7 6 rfl rfl)
theorem dX7_name_169 : decode cX7_name 169 = .ok (.iconst 3, 1) := dk_6 (dk_at dksX7_name_7 9 rfl rfl)
theorem dX7_name_170 : decode cX7_name 170 = .ok (.goto 47, 3) := dk_167 0 47 (dk_at dksX7_name_7 10 rfl rfl)
theorem dX7_name_173 : decode cX7_name 173 = .ok (.aload_n 0, 1) := dk_42 (dk_at dksX7_name_7 13 rfl rfl)
theorem dX7_name_174 : decode cX7_name 174 = .ok (.ldc2_w 237, 3) := dk_20 0 237 (dk_at dksX7_name_7 14 rfl rfl)
theorem dX7_name_177 : decode cX7_name 177 = .ok (.invokevirtual 218, 3) := dk_182 0 218 (dk_at dksX7_name_7 17 rfl rfl)
theorem dX7_name_180 : decode cX7_name 180 = .ok (.ifCond .eq 7, 3) := dk_153 0 7 (dk_at dksX7_name_7 20 rfl rfl)
theorem dX7_name_183 : decode cX7_name 183 = .ok (.iconst 5, 1) := dk_8 (dk_at dksX7_name_7 23 rfl rfl)
theorem dX7_name_184 : decode cX7_name 184 = .ok (.goto 33, 3) := dk_167 0 33 (dk_at dksX7_name_8 0 rfl rfl)
theorem dX7_name_187 : decode cX7_name 187 = .ok (.aload_n 0, 1) := dk_42 (dk_at dksX7_name_8 3 rfl rfl)
theorem dX7_name_188 : decode cX7_name 188 = .ok (.ldc2_w 239, 3) := dk_20 0 239 (dk_at dksX7_name_8 4 rfl rfl)
theorem dX7_name_191 : decode cX7_name 191 = .ok (.invokevirtual 218, 3) := dk_182 0 218 (dk_at dksX7_name_8 7 rfl rfl)
theorem dX7_name_194 : decode cX7_name 194 = .ok (.ifCond .eq 8, 3) := dk_153 0 8 (dk_at dksX7_name_8 10 rfl rfl)
theorem dX7_name_197 : decode cX7_name 197 = .ok (.bipush 6, 2) := dk_16 6 (dk_at dksX7_name_8 13 rfl rfl)
theorem dX7_name_199 : decode cX7_name 199 = .ok (.goto 18, 3) := dk_167 0 18 (dk_at dksX7_name_8 15 rfl rfl)
theorem dX7_name_202 : decode cX7_name 202 = .ok (.aload_n 0, 1) := dk_42 (dk_at dksX7_name_8 18 rfl rfl)
theorem dX7_name_203 : decode cX7_name 203 = .ok (.ldc2_w 241, 3) := dk_20 0 241 (dk_at dksX7_name_8 19 rfl rfl)
theorem dX7_name_206 : decode cX7_name 206 = .ok (.invokevirtual 218, 3) := dk_182 0 218 (dk_at dksX7_name_9 0 rfl rfl)
theorem dX7_name_209 : decode cX7_name 209 = .ok (.ifCond .eq 7, 3) := dk_153 0 7 (dk_at dksX7_name_9 3 rfl rfl)
theorem dX7_name_212 : decode cX7_name 212 = .ok (.iconst 4, 1) := dk_7 (dk_at dksX7_name_9 6 rfl rfl)
theorem dX7_name_213 : decode cX7_name 213 = .ok (.goto 4, 3) := dk_167 0 4 (dk_at dksX7_name_9 7 rfl rfl)
theorem dX7_name_216 : decode cX7_name 216 = .ok (.iconst (-1), 1) := dk_2 (dk_at dksX7_name_9 10 rfl rfl)
theorem dX7_name_217 : decode cX7_name 217 = .ok (.istore_n 3, 1) := dk_62 (dk_at dksX7_name_9 11 rfl rfl)
theorem dX7_name_218 : decode cX7_name 218 = .ok (.iload_n 3, 1) := dk_29 (dk_at dksX7_name_9 12 rfl rfl)
theorem dX7_name_219 : decode cX7_name 219 = .ok (.iconst (-1), 1) := dk_2 (dk_at dksX7_name_9 13 rfl rfl)
theorem dX7_name_220 : decode cX7_name 220 = .ok (.if_icmp .ne 9, 3) := dk_160 0 9 (dk_at dksX7_name_9 14 rfl rfl)
theorem dX7_name_223 : decode cX7_name 223 = .ok (.aload_n 0, 1) := dk_42 (dk_at dksX7_name_9 17 rfl rfl)
theorem dX7_name_224 : decode cX7_name 224 = .ok (.invokevirtual 207, 3) := dk_182 0 207 (dk_at dksX7_name_9 18 rfl rfl)
theorem dX7_name_227 : decode cX7_name 227 = .ok (.iconst 0, 1) := dk_3 (dk_at dksX7_name_9 21 rfl rfl)
theorem dX7_name_228 : decode cX7_name 228 = .ok (.ireturn, 1) := dk_172 (dk_at dksX7_name_9 22 rfl rfl)
theorem dX7_name_229 : decode cX7_name 229 = .ok (.iload_n 1, 1) := dk_27 (dk_at dksX7_name_9 23 rfl rfl)
theorem dX7_name_230 : decode cX7_name 230 = .ok (.ifCond .eq 7, 3) := dk_153 0 7 (dk_at dksX7_name_10 0 rfl rfl)
theorem dX7_name_233 : decode cX7_name 233 = .ok (.iconst 0, 1) := dk_3 (dk_at dksX7_name_10 3 rfl rfl)
theorem dX7_name_234 : decode cX7_name 234 = .ok (.goto 32, 3) := dk_167 0 32 (dk_at dksX7_name_10 4 rfl rfl)
theorem dX7_name_237 : decode cX7_name 237 = .ok (.iload_n 3, 1) := dk_29 (dk_at dksX7_name_10 7 rfl rfl)
theorem dX7_name_238 : decode cX7_name 238 = .ok (.iconst 5, 1) := dk_8 (dk_at dksX7_name_10 8 rfl rfl)
theorem dX7_name_239 : decode cX7_name 239 = .ok (.if_icmp .ne 18, 3) := dk_160 0 18 (dk_at dksX7_name_10 9 rfl rfl)
theorem dX7_name_242 : decode cX7_name 242 = .ok (.aload_n 0, 1) := dk_42 (dk_at dksX7_name_10 12 rfl rfl)
theorem dX7_name_243 : decode cX7_name 243 = .ok (.getfield 30, 3) := dk_180 0 30 (dk_at dksX7_name_10 13 rfl rfl)
theorem dX7_name_246 : decode cX7_name 246 = .ok (.iconst (-1), 1) := dk_2 (dk_at dksX7_name_10 16 rfl rfl)
theorem dX7_name_247 : decode cX7_name 247 = .ok (.if_icmp .eq 10, 3) := dk_159 0 10 (dk_at dksX7_name_10 17 rfl rfl)
theorem dX7_name_250 : decode cX7_name 250 = .ok (.aload_n 0, 1) := dk_42 (dk_at dksX7_name_10 20 rfl rfl)
theorem dX7_name_251 : decode cX7_name 251 = .ok (.getfield 30, 3) := dk_180 0 30 (dk_at dksX7_name_10 21 rfl rfl)
theorem dX7_name_254 : decode cX7_name 254 = .ok (.goto 12, 3) := dk_167 0 12 (dk_at dksX7_name_11 0 rfl rfl)
theorem dX7_name_257 : decode cX7_name 257 = .ok (.aload_n 0, 1) := dk_42 (dk_at dksX7_name_11 3 rfl rfl)
theorem dX7_name_258 : decode cX7_name 258 = .ok (.aload_n 0, 1) := dk_42 (dk_at dksX7_name_11 4 rfl rfl)
theorem dX7_name_259 : decode cX7_name 259 = .ok (.getfield 213, 3) := dk_180 0 213 (dk_at dksX7_name_11 5 rfl rfl)
theorem dX7_name_262 : decode cX7_name 262 = .ok (.iload_n 3, 1) := dk_29 (dk_at dksX7_name_11 8 rfl rfl)
theorem dX7_name_263 : decode cX7_name 263 = .ok (.invokevirtual 84, 3) := dk_182 0 84 (dk_at dksX7_name_11 9 rfl rfl)
theorem dX7_name_266 : decode cX7_name 266 = .ok (.ireturn, 1) := dk_172 (dk_at dksX7_name_11 12 rfl rfl)
abbrev cX7_feet : ByteArray := prog_19_method_20_code
def yX7_feet : MethodName := ⟨RX7, "feet", "(III)I"⟩
def dkwX7_feet_2 : List UInt8 := [182, 0, 80, 172]
abbrev dktX7_feet_2 : List UInt8 := dkwX7_feet_2 ++ []
def dkwX7_feet_1 : List UInt8 := [172, 29, 3, 17, 1, 244, 184, 0, 76, 153, 0, 12, 27, 28, 29, 184, 0, 106, 167, 0, 9, 42, 16, 249]
abbrev dktX7_feet_1 : List UInt8 := dkwX7_feet_1 ++ dktX7_feet_2
def dkwX7_feet_0 : List UInt8 := [27, 3, 6, 184, 0, 76, 153, 0, 12, 28, 3, 7, 184, 0, 76, 154, 0, 10, 42, 16, 251, 182, 0, 80]
abbrev dktX7_feet_0 : List UInt8 := dkwX7_feet_0 ++ dktX7_feet_1
theorem dksX7_feet_0 : cX7_feet.data.toList.drop 0 = dktX7_feet_0 := by decide +kernel
theorem dksX7_feet_1 : cX7_feet.data.toList.drop 24 = dktX7_feet_1 := dk_seg dksX7_feet_0 24 rfl rfl
theorem dksX7_feet_2 : cX7_feet.data.toList.drop 48 = dktX7_feet_2 := dk_seg dksX7_feet_1 24 rfl rfl
theorem dX7_feet_0 : decode cX7_feet 0 = .ok (.iload_n 1, 1) := dk_27 (dk_at dksX7_feet_0 0 rfl rfl)
theorem dX7_feet_1 : decode cX7_feet 1 = .ok (.iconst 0, 1) := dk_3 (dk_at dksX7_feet_0 1 rfl rfl)
theorem dX7_feet_2 : decode cX7_feet 2 = .ok (.iconst 3, 1) := dk_6 (dk_at dksX7_feet_0 2 rfl rfl)
theorem dX7_feet_3 : decode cX7_feet 3 = .ok (.invokestatic 76, 3) := dk_184 0 76 (dk_at dksX7_feet_0 3 rfl rfl)
theorem dX7_feet_6 : decode cX7_feet 6 = .ok (.ifCond .eq 12, 3) := dk_153 0 12 (dk_at dksX7_feet_0 6 rfl rfl)
theorem dX7_feet_9 : decode cX7_feet 9 = .ok (.iload_n 2, 1) := dk_28 (dk_at dksX7_feet_0 9 rfl rfl)
theorem dX7_feet_10 : decode cX7_feet 10 = .ok (.iconst 0, 1) := dk_3 (dk_at dksX7_feet_0 10 rfl rfl)
theorem dX7_feet_11 : decode cX7_feet 11 = .ok (.iconst 4, 1) := dk_7 (dk_at dksX7_feet_0 11 rfl rfl)
theorem dX7_feet_12 : decode cX7_feet 12 = .ok (.invokestatic 76, 3) := dk_184 0 76 (dk_at dksX7_feet_0 12 rfl rfl)
theorem dX7_feet_15 : decode cX7_feet 15 = .ok (.ifCond .ne 10, 3) := dk_154 0 10 (dk_at dksX7_feet_0 15 rfl rfl)
theorem dX7_feet_18 : decode cX7_feet 18 = .ok (.aload_n 0, 1) := dk_42 (dk_at dksX7_feet_0 18 rfl rfl)
theorem dX7_feet_19 : decode cX7_feet 19 = .ok (.bipush (-5), 2) := dk_16 251 (dk_at dksX7_feet_0 19 rfl rfl)
theorem dX7_feet_21 : decode cX7_feet 21 = .ok (.invokevirtual 80, 3) := dk_182 0 80 (dk_at dksX7_feet_0 21 rfl rfl)
theorem dX7_feet_24 : decode cX7_feet 24 = .ok (.ireturn, 1) := dk_172 (dk_at dksX7_feet_1 0 rfl rfl)
theorem dX7_feet_25 : decode cX7_feet 25 = .ok (.iload_n 3, 1) := dk_29 (dk_at dksX7_feet_1 1 rfl rfl)
theorem dX7_feet_26 : decode cX7_feet 26 = .ok (.iconst 0, 1) := dk_3 (dk_at dksX7_feet_1 2 rfl rfl)
theorem dX7_feet_27 : decode cX7_feet 27 = .ok (.sipush 500, 3) := dk_17 1 244 (dk_at dksX7_feet_1 3 rfl rfl)
theorem dX7_feet_30 : decode cX7_feet 30 = .ok (.invokestatic 76, 3) := dk_184 0 76 (dk_at dksX7_feet_1 6 rfl rfl)
theorem dX7_feet_33 : decode cX7_feet 33 = .ok (.ifCond .eq 12, 3) := dk_153 0 12 (dk_at dksX7_feet_1 9 rfl rfl)
theorem dX7_feet_36 : decode cX7_feet 36 = .ok (.iload_n 1, 1) := dk_27 (dk_at dksX7_feet_1 12 rfl rfl)
theorem dX7_feet_37 : decode cX7_feet 37 = .ok (.iload_n 2, 1) := dk_28 (dk_at dksX7_feet_1 13 rfl rfl)
theorem dX7_feet_38 : decode cX7_feet 38 = .ok (.iload_n 3, 1) := dk_29 (dk_at dksX7_feet_1 14 rfl rfl)
theorem dX7_feet_39 : decode cX7_feet 39 = .ok (.invokestatic 106, 3) := dk_184 0 106 (dk_at dksX7_feet_1 15 rfl rfl)
theorem dX7_feet_42 : decode cX7_feet 42 = .ok (.goto 9, 3) := dk_167 0 9 (dk_at dksX7_feet_1 18 rfl rfl)
theorem dX7_feet_45 : decode cX7_feet 45 = .ok (.aload_n 0, 1) := dk_42 (dk_at dksX7_feet_1 21 rfl rfl)
theorem dX7_feet_46 : decode cX7_feet 46 = .ok (.bipush (-7), 2) := dk_16 249 (dk_at dksX7_feet_1 22 rfl rfl)
theorem dX7_feet_48 : decode cX7_feet 48 = .ok (.invokevirtual 80, 3) := dk_182 0 80 (dk_at dksX7_feet_2 0 rfl rfl)
theorem dX7_feet_51 : decode cX7_feet 51 = .ok (.ireturn, 1) := dk_172 (dk_at dksX7_feet_2 3 rfl rfl)
abbrev cX7_road : ByteArray := prog_19_method_22_code
def yX7_road : MethodName := ⟨RX7, "road", "(III)I"⟩
def dkwX7_road_5 : List UInt8 := [79, 42, 182, 0, 73, 42, 180, 0, 13, 16, 6, 46, 172]
abbrev dktX7_road_5 : List UInt8 := dkwX7_road_5 ++ []
def dkwX7_road_4 : List UInt8 := [4, 96, 28, 79, 42, 180, 0, 13, 21, 4, 5, 96, 29, 79, 42, 180, 0, 13, 16, 6, 92, 46, 4, 96]
abbrev dktX7_road_4 : List UInt8 := dkwX7_road_4 ++ dktX7_road_5
def dkwX7_road_3 : List UInt8 := [180, 0, 13, 16, 6, 46, 104, 96, 54, 4, 42, 180, 0, 13, 21, 4, 27, 79, 42, 180, 0, 13, 21, 4]
abbrev dktX7_road_3 : List UInt8 := dkwX7_road_3 ++ dktX7_road_4
def dkwX7_road_2 : List UInt8 := [180, 0, 13, 16, 6, 46, 16, 12, 160, 0, 10, 42, 16, 248, 182, 0, 80, 172, 17, 13, 82, 6, 42]
abbrev dktX7_road_2 : List UInt8 := dkwX7_road_2 ++ dktX7_road_3
def dkwX7_road_1 : List UInt8 := [159, 0, 14, 29, 4, 17, 3, 231, 184, 0, 76, 154, 0, 10, 42, 16, 249, 182, 0, 80, 172, 42]
abbrev dktX7_road_1 : List UInt8 := dkwX7_road_1 ++ dktX7_road_2
def dkwX7_road_0 : List UInt8 := [27, 184, 0, 137, 153, 0, 10, 28, 184, 0, 137, 154, 0, 10, 42, 16, 253, 182, 0, 80, 172, 27, 28]
abbrev dktX7_road_0 : List UInt8 := dkwX7_road_0 ++ dktX7_road_1
theorem dksX7_road_0 : cX7_road.data.toList.drop 0 = dktX7_road_0 := by decide +kernel
theorem dksX7_road_1 : cX7_road.data.toList.drop 23 = dktX7_road_1 := dk_seg dksX7_road_0 23 rfl rfl
theorem dksX7_road_2 : cX7_road.data.toList.drop 45 = dktX7_road_2 := dk_seg dksX7_road_1 22 rfl rfl
theorem dksX7_road_3 : cX7_road.data.toList.drop 68 = dktX7_road_3 := dk_seg dksX7_road_2 23 rfl rfl
theorem dksX7_road_4 : cX7_road.data.toList.drop 92 = dktX7_road_4 := dk_seg dksX7_road_3 24 rfl rfl
theorem dksX7_road_5 : cX7_road.data.toList.drop 116 = dktX7_road_5 := dk_seg dksX7_road_4 24 rfl rfl
theorem dX7_road_0 : decode cX7_road 0 = .ok (.iload_n 1, 1) := dk_27 (dk_at dksX7_road_0 0 rfl rfl)
theorem dX7_road_1 : decode cX7_road 1 = .ok (.invokestatic 137, 3) := dk_184 0 137 (dk_at dksX7_road_0 1 rfl rfl)
theorem dX7_road_4 : decode cX7_road 4 = .ok (.ifCond .eq 10, 3) := dk_153 0 10 (dk_at dksX7_road_0 4 rfl rfl)
theorem dX7_road_7 : decode cX7_road 7 = .ok (.iload_n 2, 1) := dk_28 (dk_at dksX7_road_0 7 rfl rfl)
theorem dX7_road_8 : decode cX7_road 8 = .ok (.invokestatic 137, 3) := dk_184 0 137 (dk_at dksX7_road_0 8 rfl rfl)
theorem dX7_road_11 : decode cX7_road 11 = .ok (.ifCond .ne 10, 3) := dk_154 0 10 (dk_at dksX7_road_0 11 rfl rfl)
theorem dX7_road_14 : decode cX7_road 14 = .ok (.aload_n 0, 1) := dk_42 (dk_at dksX7_road_0 14 rfl rfl)
theorem dX7_road_15 : decode cX7_road 15 = .ok (.bipush (-3), 2) := dk_16 253 (dk_at dksX7_road_0 15 rfl rfl)
theorem dX7_road_17 : decode cX7_road 17 = .ok (.invokevirtual 80, 3) := dk_182 0 80 (dk_at dksX7_road_0 17 rfl rfl)
theorem dX7_road_20 : decode cX7_road 20 = .ok (.ireturn, 1) := dk_172 (dk_at dksX7_road_0 20 rfl rfl)
theorem dX7_road_21 : decode cX7_road 21 = .ok (.iload_n 1, 1) := dk_27 (dk_at dksX7_road_0 21 rfl rfl)
theorem dX7_road_22 : decode cX7_road 22 = .ok (.iload_n 2, 1) := dk_28 (dk_at dksX7_road_0 22 rfl rfl)
theorem dX7_road_23 : decode cX7_road 23 = .ok (.if_icmp .eq 14, 3) := dk_159 0 14 (dk_at dksX7_road_1 0 rfl rfl)
theorem dX7_road_26 : decode cX7_road 26 = .ok (.iload_n 3, 1) := dk_29 (dk_at dksX7_road_1 3 rfl rfl)
theorem dX7_road_27 : decode cX7_road 27 = .ok (.iconst 1, 1) := dk_4 (dk_at dksX7_road_1 4 rfl rfl)
theorem dX7_road_28 : decode cX7_road 28 = .ok (.sipush 999, 3) := dk_17 3 231 (dk_at dksX7_road_1 5 rfl rfl)
theorem dX7_road_31 : decode cX7_road 31 = .ok (.invokestatic 76, 3) := dk_184 0 76 (dk_at dksX7_road_1 8 rfl rfl)
theorem dX7_road_34 : decode cX7_road 34 = .ok (.ifCond .ne 10, 3) := dk_154 0 10 (dk_at dksX7_road_1 11 rfl rfl)
theorem dX7_road_37 : decode cX7_road 37 = .ok (.aload_n 0, 1) := dk_42 (dk_at dksX7_road_1 14 rfl rfl)
theorem dX7_road_38 : decode cX7_road 38 = .ok (.bipush (-7), 2) := dk_16 249 (dk_at dksX7_road_1 15 rfl rfl)
theorem dX7_road_40 : decode cX7_road 40 = .ok (.invokevirtual 80, 3) := dk_182 0 80 (dk_at dksX7_road_1 17 rfl rfl)
theorem dX7_road_43 : decode cX7_road 43 = .ok (.ireturn, 1) := dk_172 (dk_at dksX7_road_1 20 rfl rfl)
theorem dX7_road_44 : decode cX7_road 44 = .ok (.aload_n 0, 1) := dk_42 (dk_at dksX7_road_1 21 rfl rfl)
theorem dX7_road_45 : decode cX7_road 45 = .ok (.getfield 13, 3) := dk_180 0 13 (dk_at dksX7_road_2 0 rfl rfl)
theorem dX7_road_48 : decode cX7_road 48 = .ok (.bipush 6, 2) := dk_16 6 (dk_at dksX7_road_2 3 rfl rfl)
theorem dX7_road_50 : decode cX7_road 50 = .ok (.iaload, 1) := dk_46 (dk_at dksX7_road_2 5 rfl rfl)
theorem dX7_road_51 : decode cX7_road 51 = .ok (.bipush 12, 2) := dk_16 12 (dk_at dksX7_road_2 6 rfl rfl)
theorem dX7_road_53 : decode cX7_road 53 = .ok (.if_icmp .ne 10, 3) := dk_160 0 10 (dk_at dksX7_road_2 8 rfl rfl)
theorem dX7_road_56 : decode cX7_road 56 = .ok (.aload_n 0, 1) := dk_42 (dk_at dksX7_road_2 11 rfl rfl)
theorem dX7_road_57 : decode cX7_road 57 = .ok (.bipush (-8), 2) := dk_16 248 (dk_at dksX7_road_2 12 rfl rfl)
theorem dX7_road_59 : decode cX7_road 59 = .ok (.invokevirtual 80, 3) := dk_182 0 80 (dk_at dksX7_road_2 14 rfl rfl)
theorem dX7_road_62 : decode cX7_road 62 = .ok (.ireturn, 1) := dk_172 (dk_at dksX7_road_2 17 rfl rfl)
theorem dX7_road_63 : decode cX7_road 63 = .ok (.sipush 3410, 3) := dk_17 13 82 (dk_at dksX7_road_2 18 rfl rfl)
theorem dX7_road_66 : decode cX7_road 66 = .ok (.iconst 3, 1) := dk_6 (dk_at dksX7_road_2 21 rfl rfl)
theorem dX7_road_67 : decode cX7_road 67 = .ok (.aload_n 0, 1) := dk_42 (dk_at dksX7_road_2 22 rfl rfl)
theorem dX7_road_68 : decode cX7_road 68 = .ok (.getfield 13, 3) := dk_180 0 13 (dk_at dksX7_road_3 0 rfl rfl)
theorem dX7_road_71 : decode cX7_road 71 = .ok (.bipush 6, 2) := dk_16 6 (dk_at dksX7_road_3 3 rfl rfl)
theorem dX7_road_73 : decode cX7_road 73 = .ok (.iaload, 1) := dk_46 (dk_at dksX7_road_3 5 rfl rfl)
theorem dX7_road_74 : decode cX7_road 74 = .ok (.imul, 1) := dk_104 (dk_at dksX7_road_3 6 rfl rfl)
theorem dX7_road_75 : decode cX7_road 75 = .ok (.iadd, 1) := dk_96 (dk_at dksX7_road_3 7 rfl rfl)
theorem dX7_road_76 : decode cX7_road 76 = .ok (.istore 4, 2) := dk_54 4 (dk_at dksX7_road_3 8 rfl rfl)
theorem dX7_road_78 : decode cX7_road 78 = .ok (.aload_n 0, 1) := dk_42 (dk_at dksX7_road_3 10 rfl rfl)
theorem dX7_road_79 : decode cX7_road 79 = .ok (.getfield 13, 3) := dk_180 0 13 (dk_at dksX7_road_3 11 rfl rfl)
theorem dX7_road_82 : decode cX7_road 82 = .ok (.iload 4, 2) := dk_21 4 (dk_at dksX7_road_3 14 rfl rfl)
theorem dX7_road_84 : decode cX7_road 84 = .ok (.iload_n 1, 1) := dk_27 (dk_at dksX7_road_3 16 rfl rfl)
theorem dX7_road_85 : decode cX7_road 85 = .ok (.iastore, 1) := dk_79 (dk_at dksX7_road_3 17 rfl rfl)
theorem dX7_road_86 : decode cX7_road 86 = .ok (.aload_n 0, 1) := dk_42 (dk_at dksX7_road_3 18 rfl rfl)
theorem dX7_road_87 : decode cX7_road 87 = .ok (.getfield 13, 3) := dk_180 0 13 (dk_at dksX7_road_3 19 rfl rfl)
theorem dX7_road_90 : decode cX7_road 90 = .ok (.iload 4, 2) := dk_21 4 (dk_at dksX7_road_3 22 rfl rfl)
theorem dX7_road_92 : decode cX7_road 92 = .ok (.iconst 1, 1) := dk_4 (dk_at dksX7_road_4 0 rfl rfl)
theorem dX7_road_93 : decode cX7_road 93 = .ok (.iadd, 1) := dk_96 (dk_at dksX7_road_4 1 rfl rfl)
theorem dX7_road_94 : decode cX7_road 94 = .ok (.iload_n 2, 1) := dk_28 (dk_at dksX7_road_4 2 rfl rfl)
theorem dX7_road_95 : decode cX7_road 95 = .ok (.iastore, 1) := dk_79 (dk_at dksX7_road_4 3 rfl rfl)
theorem dX7_road_96 : decode cX7_road 96 = .ok (.aload_n 0, 1) := dk_42 (dk_at dksX7_road_4 4 rfl rfl)
theorem dX7_road_97 : decode cX7_road 97 = .ok (.getfield 13, 3) := dk_180 0 13 (dk_at dksX7_road_4 5 rfl rfl)
theorem dX7_road_100 : decode cX7_road 100 = .ok (.iload 4, 2) := dk_21 4 (dk_at dksX7_road_4 8 rfl rfl)
theorem dX7_road_102 : decode cX7_road 102 = .ok (.iconst 2, 1) := dk_5 (dk_at dksX7_road_4 10 rfl rfl)
theorem dX7_road_103 : decode cX7_road 103 = .ok (.iadd, 1) := dk_96 (dk_at dksX7_road_4 11 rfl rfl)
theorem dX7_road_104 : decode cX7_road 104 = .ok (.iload_n 3, 1) := dk_29 (dk_at dksX7_road_4 12 rfl rfl)
theorem dX7_road_105 : decode cX7_road 105 = .ok (.iastore, 1) := dk_79 (dk_at dksX7_road_4 13 rfl rfl)
theorem dX7_road_106 : decode cX7_road 106 = .ok (.aload_n 0, 1) := dk_42 (dk_at dksX7_road_4 14 rfl rfl)
theorem dX7_road_107 : decode cX7_road 107 = .ok (.getfield 13, 3) := dk_180 0 13 (dk_at dksX7_road_4 15 rfl rfl)
theorem dX7_road_110 : decode cX7_road 110 = .ok (.bipush 6, 2) := dk_16 6 (dk_at dksX7_road_4 18 rfl rfl)
theorem dX7_road_112 : decode cX7_road 112 = .ok (.dup2, 1) := dk_92 (dk_at dksX7_road_4 20 rfl rfl)
theorem dX7_road_113 : decode cX7_road 113 = .ok (.iaload, 1) := dk_46 (dk_at dksX7_road_4 21 rfl rfl)
theorem dX7_road_114 : decode cX7_road 114 = .ok (.iconst 1, 1) := dk_4 (dk_at dksX7_road_4 22 rfl rfl)
theorem dX7_road_115 : decode cX7_road 115 = .ok (.iadd, 1) := dk_96 (dk_at dksX7_road_4 23 rfl rfl)
theorem dX7_road_116 : decode cX7_road 116 = .ok (.iastore, 1) := dk_79 (dk_at dksX7_road_5 0 rfl rfl)
theorem dX7_road_117 : decode cX7_road 117 = .ok (.aload_n 0, 1) := dk_42 (dk_at dksX7_road_5 1 rfl rfl)
theorem dX7_road_118 : decode cX7_road 118 = .ok (.invokevirtual 73, 3) := dk_182 0 73 (dk_at dksX7_road_5 2 rfl rfl)
theorem dX7_road_121 : decode cX7_road 121 = .ok (.aload_n 0, 1) := dk_42 (dk_at dksX7_road_5 5 rfl rfl)
theorem dX7_road_122 : decode cX7_road 122 = .ok (.getfield 13, 3) := dk_180 0 13 (dk_at dksX7_road_5 6 rfl rfl)
theorem dX7_road_125 : decode cX7_road 125 = .ok (.bipush 6, 2) := dk_16 6 (dk_at dksX7_road_5 9 rfl rfl)
theorem dX7_road_127 : decode cX7_road 127 = .ok (.iaload, 1) := dk_46 (dk_at dksX7_road_5 11 rfl rfl)
theorem dX7_road_128 : decode cX7_road 128 = .ok (.ireturn, 1) := dk_172 (dk_at dksX7_road_5 12 rfl rfl)
abbrev cX7_isBlock : ByteArray := prog_19_method_9_code
def yX7_isBlock : MethodName := ⟨RX7, "isBlock", "(I)Z"⟩
def dkwX7_isBlock_0 : List UInt8 := [26, 3, 8, 184, 0, 76, 172]
abbrev dktX7_isBlock_0 : List UInt8 := dkwX7_isBlock_0 ++ []
theorem dksX7_isBlock_0 : cX7_isBlock.data.toList.drop 0 = dktX7_isBlock_0 := by decide +kernel
theorem dX7_isBlock_0 : decode cX7_isBlock 0 = .ok (.iload_n 0, 1) := dk_26 (dk_at dksX7_isBlock_0 0 rfl rfl)
theorem dX7_isBlock_1 : decode cX7_isBlock 1 = .ok (.iconst 0, 1) := dk_3 (dk_at dksX7_isBlock_0 1 rfl rfl)
theorem dX7_isBlock_2 : decode cX7_isBlock 2 = .ok (.iconst 5, 1) := dk_8 (dk_at dksX7_isBlock_0 2 rfl rfl)
theorem dX7_isBlock_3 : decode cX7_isBlock 3 = .ok (.invokestatic 76, 3) := dk_184 0 76 (dk_at dksX7_isBlock_0 3 rfl rfl)
theorem dX7_isBlock_6 : decode cX7_isBlock 6 = .ok (.ireturn, 1) := dk_172 (dk_at dksX7_isBlock_0 6 rfl rfl)
abbrev cX7_haul : ByteArray := prog_19_method_23_code
def yX7_haul : MethodName := ⟨RX7, "haul", "(I)I"⟩
def dkwX7_haul_1 : List UInt8 := [18, 136, 161, 0, 7, 2, 167, 0, 13, 42, 180, 0, 13, 17, 17, 178, 27, 96, 46, 172]
abbrev dktX7_haul_1 : List UInt8 := dkwX7_haul_1 ++ []
def dkwX7_haul_0 : List UInt8 := [27, 184, 0, 137, 154, 0, 10, 42, 16, 253, 182, 0, 80, 172, 42, 180, 0, 13, 17, 17, 178, 27, 96, 46]
abbrev dktX7_haul_0 : List UInt8 := dkwX7_haul_0 ++ dktX7_haul_1
theorem dksX7_haul_0 : cX7_haul.data.toList.drop 0 = dktX7_haul_0 := by decide +kernel
theorem dksX7_haul_1 : cX7_haul.data.toList.drop 24 = dktX7_haul_1 := dk_seg dksX7_haul_0 24 rfl rfl
theorem dX7_haul_0 : decode cX7_haul 0 = .ok (.iload_n 1, 1) := dk_27 (dk_at dksX7_haul_0 0 rfl rfl)
theorem dX7_haul_1 : decode cX7_haul 1 = .ok (.invokestatic 137, 3) := dk_184 0 137 (dk_at dksX7_haul_0 1 rfl rfl)
theorem dX7_haul_4 : decode cX7_haul 4 = .ok (.ifCond .ne 10, 3) := dk_154 0 10 (dk_at dksX7_haul_0 4 rfl rfl)
theorem dX7_haul_7 : decode cX7_haul 7 = .ok (.aload_n 0, 1) := dk_42 (dk_at dksX7_haul_0 7 rfl rfl)
theorem dX7_haul_8 : decode cX7_haul 8 = .ok (.bipush (-3), 2) := dk_16 253 (dk_at dksX7_haul_0 8 rfl rfl)
theorem dX7_haul_10 : decode cX7_haul 10 = .ok (.invokevirtual 80, 3) := dk_182 0 80 (dk_at dksX7_haul_0 10 rfl rfl)
theorem dX7_haul_13 : decode cX7_haul 13 = .ok (.ireturn, 1) := dk_172 (dk_at dksX7_haul_0 13 rfl rfl)
theorem dX7_haul_14 : decode cX7_haul 14 = .ok (.aload_n 0, 1) := dk_42 (dk_at dksX7_haul_0 14 rfl rfl)
theorem dX7_haul_15 : decode cX7_haul 15 = .ok (.getfield 13, 3) := dk_180 0 13 (dk_at dksX7_haul_0 15 rfl rfl)
theorem dX7_haul_18 : decode cX7_haul 18 = .ok (.sipush 4530, 3) := dk_17 17 178 (dk_at dksX7_haul_0 18 rfl rfl)
theorem dX7_haul_21 : decode cX7_haul 21 = .ok (.iload_n 1, 1) := dk_27 (dk_at dksX7_haul_0 21 rfl rfl)
theorem dX7_haul_22 : decode cX7_haul 22 = .ok (.iadd, 1) := dk_96 (dk_at dksX7_haul_0 22 rfl rfl)
theorem dX7_haul_23 : decode cX7_haul 23 = .ok (.iaload, 1) := dk_46 (dk_at dksX7_haul_0 23 rfl rfl)
theorem dX7_haul_24 : decode cX7_haul 24 = .ok (.ldc 136, 2) := dk_18 136 (dk_at dksX7_haul_1 0 rfl rfl)
theorem dX7_haul_26 : decode cX7_haul 26 = .ok (.if_icmp .lt 7, 3) := dk_161 0 7 (dk_at dksX7_haul_1 2 rfl rfl)
theorem dX7_haul_29 : decode cX7_haul 29 = .ok (.iconst (-1), 1) := dk_2 (dk_at dksX7_haul_1 5 rfl rfl)
theorem dX7_haul_30 : decode cX7_haul 30 = .ok (.goto 13, 3) := dk_167 0 13 (dk_at dksX7_haul_1 6 rfl rfl)
theorem dX7_haul_33 : decode cX7_haul 33 = .ok (.aload_n 0, 1) := dk_42 (dk_at dksX7_haul_1 9 rfl rfl)
theorem dX7_haul_34 : decode cX7_haul 34 = .ok (.getfield 13, 3) := dk_180 0 13 (dk_at dksX7_haul_1 10 rfl rfl)
theorem dX7_haul_37 : decode cX7_haul 37 = .ok (.sipush 4530, 3) := dk_17 17 178 (dk_at dksX7_haul_1 13 rfl rfl)
theorem dX7_haul_40 : decode cX7_haul 40 = .ok (.iload_n 1, 1) := dk_27 (dk_at dksX7_haul_1 16 rfl rfl)
theorem dX7_haul_41 : decode cX7_haul 41 = .ok (.iadd, 1) := dk_96 (dk_at dksX7_haul_1 17 rfl rfl)
theorem dX7_haul_42 : decode cX7_haul 42 = .ok (.iaload, 1) := dk_46 (dk_at dksX7_haul_1 18 rfl rfl)
theorem dX7_haul_43 : decode cX7_haul 43 = .ok (.ireturn, 1) := dk_172 (dk_at dksX7_haul_1 19 rfl rfl)
abbrev cX7_village : ByteArray := prog_19_method_25_code
def yX7_village : MethodName := ⟨RX7, "village", "(III)I"⟩
def dkwX7_village_5 : List UInt8 := [180, 0, 13, 6, 92, 46, 4, 96, 79, 42, 180, 0, 13, 6, 46, 4, 100, 172]
abbrev dktX7_village_5 : List UInt8 := dkwX7_village_5 ++ []
def dkwX7_village_4 : List UInt8 := [96, 28, 79, 42, 180, 0, 13, 21, 4, 5, 96, 29, 79, 42, 180, 0, 13, 21, 4, 6, 96, 3, 79, 42]
abbrev dktX7_village_4 : List UInt8 := dkwX7_village_4 ++ dktX7_village_5
def dkwX7_village_3 : List UInt8 := [180, 0, 13, 6, 46, 104, 96, 54, 4, 42, 180, 0, 13, 21, 4, 27, 79, 42, 180, 0, 13, 21, 4, 4]
abbrev dktX7_village_3 : List UInt8 := dkwX7_village_3 ++ dktX7_village_4
def dkwX7_village_2 : List UInt8 := [180, 0, 13, 6, 46, 16, 8, 160, 0, 10, 42, 16, 248, 182, 0, 80, 172, 17, 3, 160, 7, 42]
abbrev dktX7_village_2 : List UInt8 := dkwX7_village_2 ++ dktX7_village_3
def dkwX7_village_1 : List UInt8 := [153, 0, 14, 29, 3, 17, 3, 231, 184, 0, 76, 154, 0, 10, 42, 16, 249, 182, 0, 80, 172, 42]
abbrev dktX7_village_1 : List UInt8 := dkwX7_village_1 ++ dktX7_village_2
def dkwX7_village_0 : List UInt8 := [27, 184, 0, 137, 154, 0, 10, 42, 16, 253, 182, 0, 80, 172, 28, 3, 17, 3, 231, 184, 0, 76]
abbrev dktX7_village_0 : List UInt8 := dkwX7_village_0 ++ dktX7_village_1
theorem dksX7_village_0 : cX7_village.data.toList.drop 0 = dktX7_village_0 := by decide +kernel
theorem dksX7_village_1 : cX7_village.data.toList.drop 22 = dktX7_village_1 := dk_seg dksX7_village_0 22 rfl rfl
theorem dksX7_village_2 : cX7_village.data.toList.drop 44 = dktX7_village_2 := dk_seg dksX7_village_1 22 rfl rfl
theorem dksX7_village_3 : cX7_village.data.toList.drop 66 = dktX7_village_3 := dk_seg dksX7_village_2 22 rfl rfl
theorem dksX7_village_4 : cX7_village.data.toList.drop 90 = dktX7_village_4 := dk_seg dksX7_village_3 24 rfl rfl
theorem dksX7_village_5 : cX7_village.data.toList.drop 114 = dktX7_village_5 := dk_seg dksX7_village_4 24 rfl rfl
theorem dX7_village_0 : decode cX7_village 0 = .ok (.iload_n 1, 1) := dk_27 (dk_at dksX7_village_0 0 rfl rfl)
theorem dX7_village_1 : decode cX7_village 1 = .ok (.invokestatic 137, 3) := dk_184 0 137 (dk_at dksX7_village_0 1 rfl rfl)
theorem dX7_village_4 : decode cX7_village 4 = .ok (.ifCond .ne 10, 3) := dk_154 0 10 (dk_at dksX7_village_0 4 rfl rfl)
theorem dX7_village_7 : decode cX7_village 7 = .ok (.aload_n 0, 1) := dk_42 (dk_at dksX7_village_0 7 rfl rfl)
theorem dX7_village_8 : decode cX7_village 8 = .ok (.bipush (-3), 2) := dk_16 253 (dk_at dksX7_village_0 8 rfl rfl)
theorem dX7_village_10 : decode cX7_village 10 = .ok (.invokevirtual 80, 3) := dk_182 0 80 (dk_at dksX7_village_0 10 rfl rfl)
theorem dX7_village_13 : decode cX7_village 13 = .ok (.ireturn, 1) := dk_172 (dk_at dksX7_village_0 13 rfl rfl)
theorem dX7_village_14 : decode cX7_village 14 = .ok (.iload_n 2, 1) := dk_28 (dk_at dksX7_village_0 14 rfl rfl)
theorem dX7_village_15 : decode cX7_village 15 = .ok (.iconst 0, 1) := dk_3 (dk_at dksX7_village_0 15 rfl rfl)
theorem dX7_village_16 : decode cX7_village 16 = .ok (.sipush 999, 3) := dk_17 3 231 (dk_at dksX7_village_0 16 rfl rfl)
theorem dX7_village_19 : decode cX7_village 19 = .ok (.invokestatic 76, 3) := dk_184 0 76 (dk_at dksX7_village_0 19 rfl rfl)
theorem dX7_village_22 : decode cX7_village 22 = .ok (.ifCond .eq 14, 3) := dk_153 0 14 (dk_at dksX7_village_1 0 rfl rfl)
theorem dX7_village_25 : decode cX7_village 25 = .ok (.iload_n 3, 1) := dk_29 (dk_at dksX7_village_1 3 rfl rfl)
theorem dX7_village_26 : decode cX7_village 26 = .ok (.iconst 0, 1) := dk_3 (dk_at dksX7_village_1 4 rfl rfl)
theorem dX7_village_27 : decode cX7_village 27 = .ok (.sipush 999, 3) := dk_17 3 231 (dk_at dksX7_village_1 5 rfl rfl)
theorem dX7_village_30 : decode cX7_village 30 = .ok (.invokestatic 76, 3) := dk_184 0 76 (dk_at dksX7_village_1 8 rfl rfl)
theorem dX7_village_33 : decode cX7_village 33 = .ok (.ifCond .ne 10, 3) := dk_154 0 10 (dk_at dksX7_village_1 11 rfl rfl)
theorem dX7_village_36 : decode cX7_village 36 = .ok (.aload_n 0, 1) := dk_42 (dk_at dksX7_village_1 14 rfl rfl)
theorem dX7_village_37 : decode cX7_village 37 = .ok (.bipush (-7), 2) := dk_16 249 (dk_at dksX7_village_1 15 rfl rfl)
theorem dX7_village_39 : decode cX7_village 39 = .ok (.invokevirtual 80, 3) := dk_182 0 80 (dk_at dksX7_village_1 17 rfl rfl)
theorem dX7_village_42 : decode cX7_village 42 = .ok (.ireturn, 1) := dk_172 (dk_at dksX7_village_1 20 rfl rfl)
theorem dX7_village_43 : decode cX7_village 43 = .ok (.aload_n 0, 1) := dk_42 (dk_at dksX7_village_1 21 rfl rfl)
theorem dX7_village_44 : decode cX7_village 44 = .ok (.getfield 13, 3) := dk_180 0 13 (dk_at dksX7_village_2 0 rfl rfl)
theorem dX7_village_47 : decode cX7_village 47 = .ok (.iconst 3, 1) := dk_6 (dk_at dksX7_village_2 3 rfl rfl)
theorem dX7_village_48 : decode cX7_village 48 = .ok (.iaload, 1) := dk_46 (dk_at dksX7_village_2 4 rfl rfl)
theorem dX7_village_49 : decode cX7_village 49 = .ok (.bipush 8, 2) := dk_16 8 (dk_at dksX7_village_2 5 rfl rfl)
theorem dX7_village_51 : decode cX7_village 51 = .ok (.if_icmp .ne 10, 3) := dk_160 0 10 (dk_at dksX7_village_2 7 rfl rfl)
theorem dX7_village_54 : decode cX7_village 54 = .ok (.aload_n 0, 1) := dk_42 (dk_at dksX7_village_2 10 rfl rfl)
theorem dX7_village_55 : decode cX7_village 55 = .ok (.bipush (-8), 2) := dk_16 248 (dk_at dksX7_village_2 11 rfl rfl)
theorem dX7_village_57 : decode cX7_village 57 = .ok (.invokevirtual 80, 3) := dk_182 0 80 (dk_at dksX7_village_2 13 rfl rfl)
theorem dX7_village_60 : decode cX7_village 60 = .ok (.ireturn, 1) := dk_172 (dk_at dksX7_village_2 16 rfl rfl)
theorem dX7_village_61 : decode cX7_village 61 = .ok (.sipush 928, 3) := dk_17 3 160 (dk_at dksX7_village_2 17 rfl rfl)
theorem dX7_village_64 : decode cX7_village 64 = .ok (.iconst 4, 1) := dk_7 (dk_at dksX7_village_2 20 rfl rfl)
theorem dX7_village_65 : decode cX7_village 65 = .ok (.aload_n 0, 1) := dk_42 (dk_at dksX7_village_2 21 rfl rfl)
theorem dX7_village_66 : decode cX7_village 66 = .ok (.getfield 13, 3) := dk_180 0 13 (dk_at dksX7_village_3 0 rfl rfl)
theorem dX7_village_69 : decode cX7_village 69 = .ok (.iconst 3, 1) := dk_6 (dk_at dksX7_village_3 3 rfl rfl)
theorem dX7_village_70 : decode cX7_village 70 = .ok (.iaload, 1) := dk_46 (dk_at dksX7_village_3 4 rfl rfl)
theorem dX7_village_71 : decode cX7_village 71 = .ok (.imul, 1) := dk_104 (dk_at dksX7_village_3 5 rfl rfl)
theorem dX7_village_72 : decode cX7_village 72 = .ok (.iadd, 1) := dk_96 (dk_at dksX7_village_3 6 rfl rfl)
theorem dX7_village_73 : decode cX7_village 73 = .ok (.istore 4, 2) := dk_54 4 (dk_at dksX7_village_3 7 rfl rfl)
theorem dX7_village_75 : decode cX7_village 75 = .ok (.aload_n 0, 1) := dk_42 (dk_at dksX7_village_3 9 rfl rfl)
theorem dX7_village_76 : decode cX7_village 76 = .ok (.getfield 13, 3) := dk_180 0 13 (dk_at dksX7_village_3 10 rfl rfl)
theorem dX7_village_79 : decode cX7_village 79 = .ok (.iload 4, 2) := dk_21 4 (dk_at dksX7_village_3 13 rfl rfl)
theorem dX7_village_81 : decode cX7_village 81 = .ok (.iload_n 1, 1) := dk_27 (dk_at dksX7_village_3 15 rfl rfl)
theorem dX7_village_82 : decode cX7_village 82 = .ok (.iastore, 1) := dk_79 (dk_at dksX7_village_3 16 rfl rfl)
theorem dX7_village_83 : decode cX7_village 83 = .ok (.aload_n 0, 1) := dk_42 (dk_at dksX7_village_3 17 rfl rfl)
theorem dX7_village_84 : decode cX7_village 84 = .ok (.getfield 13, 3) := dk_180 0 13 (dk_at dksX7_village_3 18 rfl rfl)
theorem dX7_village_87 : decode cX7_village 87 = .ok (.iload 4, 2) := dk_21 4 (dk_at dksX7_village_3 21 rfl rfl)
theorem dX7_village_89 : decode cX7_village 89 = .ok (.iconst 1, 1) := dk_4 (dk_at dksX7_village_3 23 rfl rfl)
theorem dX7_village_90 : decode cX7_village 90 = .ok (.iadd, 1) := dk_96 (dk_at dksX7_village_4 0 rfl rfl)
theorem dX7_village_91 : decode cX7_village 91 = .ok (.iload_n 2, 1) := dk_28 (dk_at dksX7_village_4 1 rfl rfl)
theorem dX7_village_92 : decode cX7_village 92 = .ok (.iastore, 1) := dk_79 (dk_at dksX7_village_4 2 rfl rfl)
theorem dX7_village_93 : decode cX7_village 93 = .ok (.aload_n 0, 1) := dk_42 (dk_at dksX7_village_4 3 rfl rfl)
theorem dX7_village_94 : decode cX7_village 94 = .ok (.getfield 13, 3) := dk_180 0 13 (dk_at dksX7_village_4 4 rfl rfl)
theorem dX7_village_97 : decode cX7_village 97 = .ok (.iload 4, 2) := dk_21 4 (dk_at dksX7_village_4 7 rfl rfl)
theorem dX7_village_99 : decode cX7_village 99 = .ok (.iconst 2, 1) := dk_5 (dk_at dksX7_village_4 9 rfl rfl)
theorem dX7_village_100 : decode cX7_village 100 = .ok (.iadd, 1) := dk_96 (dk_at dksX7_village_4 10 rfl rfl)
theorem dX7_village_101 : decode cX7_village 101 = .ok (.iload_n 3, 1) := dk_29 (dk_at dksX7_village_4 11 rfl rfl)
theorem dX7_village_102 : decode cX7_village 102 = .ok (.iastore, 1) := dk_79 (dk_at dksX7_village_4 12 rfl rfl)
theorem dX7_village_103 : decode cX7_village 103 = .ok (.aload_n 0, 1) := dk_42 (dk_at dksX7_village_4 13 rfl rfl)
theorem dX7_village_104 : decode cX7_village 104 = .ok (.getfield 13, 3) := dk_180 0 13 (dk_at dksX7_village_4 14 rfl rfl)
theorem dX7_village_107 : decode cX7_village 107 = .ok (.iload 4, 2) := dk_21 4 (dk_at dksX7_village_4 17 rfl rfl)
theorem dX7_village_109 : decode cX7_village 109 = .ok (.iconst 3, 1) := dk_6 (dk_at dksX7_village_4 19 rfl rfl)
theorem dX7_village_110 : decode cX7_village 110 = .ok (.iadd, 1) := dk_96 (dk_at dksX7_village_4 20 rfl rfl)
theorem dX7_village_111 : decode cX7_village 111 = .ok (.iconst 0, 1) := dk_3 (dk_at dksX7_village_4 21 rfl rfl)
theorem dX7_village_112 : decode cX7_village 112 = .ok (.iastore, 1) := dk_79 (dk_at dksX7_village_4 22 rfl rfl)
theorem dX7_village_113 : decode cX7_village 113 = .ok (.aload_n 0, 1) := dk_42 (dk_at dksX7_village_4 23 rfl rfl)
theorem dX7_village_114 : decode cX7_village 114 = .ok (.getfield 13, 3) := dk_180 0 13 (dk_at dksX7_village_5 0 rfl rfl)
theorem dX7_village_117 : decode cX7_village 117 = .ok (.iconst 3, 1) := dk_6 (dk_at dksX7_village_5 3 rfl rfl)
theorem dX7_village_118 : decode cX7_village 118 = .ok (.dup2, 1) := dk_92 (dk_at dksX7_village_5 4 rfl rfl)
theorem dX7_village_119 : decode cX7_village 119 = .ok (.iaload, 1) := dk_46 (dk_at dksX7_village_5 5 rfl rfl)
theorem dX7_village_120 : decode cX7_village 120 = .ok (.iconst 1, 1) := dk_4 (dk_at dksX7_village_5 6 rfl rfl)
theorem dX7_village_121 : decode cX7_village 121 = .ok (.iadd, 1) := dk_96 (dk_at dksX7_village_5 7 rfl rfl)
theorem dX7_village_122 : decode cX7_village 122 = .ok (.iastore, 1) := dk_79 (dk_at dksX7_village_5 8 rfl rfl)
theorem dX7_village_123 : decode cX7_village 123 = .ok (.aload_n 0, 1) := dk_42 (dk_at dksX7_village_5 9 rfl rfl)
theorem dX7_village_124 : decode cX7_village 124 = .ok (.getfield 13, 3) := dk_180 0 13 (dk_at dksX7_village_5 10 rfl rfl)
theorem dX7_village_127 : decode cX7_village 127 = .ok (.iconst 3, 1) := dk_6 (dk_at dksX7_village_5 13 rfl rfl)
theorem dX7_village_128 : decode cX7_village 128 = .ok (.iaload, 1) := dk_46 (dk_at dksX7_village_5 14 rfl rfl)
theorem dX7_village_129 : decode cX7_village 129 = .ok (.iconst 1, 1) := dk_4 (dk_at dksX7_village_5 15 rfl rfl)
theorem dX7_village_130 : decode cX7_village 130 = .ok (.isub, 1) := dk_100 (dk_at dksX7_village_5 16 rfl rfl)
theorem dX7_village_131 : decode cX7_village 131 = .ok (.ireturn, 1) := dk_172 (dk_at dksX7_village_5 17 rfl rfl)
abbrev cX7_people : ByteArray := prog_19_method_26_code
def yX7_people : MethodName := ⟨RX7, "people", "(III)I"⟩
def dkwX7_people_3 : List UInt8 := [104, 96, 4, 96, 28, 79, 42, 180, 0, 13, 17, 3, 160, 7, 27, 104, 96, 5, 96, 29, 79, 21, 4, 172]
abbrev dktX7_people_3 : List UInt8 := dkwX7_people_3 ++ []
def dkwX7_people_2 : List UInt8 := [180, 0, 13, 17, 3, 160, 7, 27, 104, 96, 4, 96, 46, 54, 4, 42, 180, 0, 13, 17, 3, 160, 7, 27]
abbrev dktX7_people_2 : List UInt8 := dkwX7_people_2 ++ dktX7_people_3
def dkwX7_people_1 : List UInt8 := [153, 0, 14, 29, 3, 17, 3, 231, 184, 0, 76, 154, 0, 10, 42, 16, 249, 182, 0, 80, 172, 42]
abbrev dktX7_people_1 : List UInt8 := dkwX7_people_1 ++ dktX7_people_2
def dkwX7_people_0 : List UInt8 := [42, 27, 182, 0, 140, 154, 0, 10, 42, 16, 253, 182, 0, 80, 172, 28, 3, 17, 3, 231, 184, 0, 76]
abbrev dktX7_people_0 : List UInt8 := dkwX7_people_0 ++ dktX7_people_1
theorem dksX7_people_0 : cX7_people.data.toList.drop 0 = dktX7_people_0 := by decide +kernel
theorem dksX7_people_1 : cX7_people.data.toList.drop 23 = dktX7_people_1 := dk_seg dksX7_people_0 23 rfl rfl
theorem dksX7_people_2 : cX7_people.data.toList.drop 45 = dktX7_people_2 := dk_seg dksX7_people_1 22 rfl rfl
theorem dksX7_people_3 : cX7_people.data.toList.drop 69 = dktX7_people_3 := dk_seg dksX7_people_2 24 rfl rfl
theorem dX7_people_0 : decode cX7_people 0 = .ok (.aload_n 0, 1) := dk_42 (dk_at dksX7_people_0 0 rfl rfl)
theorem dX7_people_1 : decode cX7_people 1 = .ok (.iload_n 1, 1) := dk_27 (dk_at dksX7_people_0 1 rfl rfl)
theorem dX7_people_2 : decode cX7_people 2 = .ok (.invokevirtual 140, 3) := dk_182 0 140 (dk_at dksX7_people_0 2 rfl rfl)
theorem dX7_people_5 : decode cX7_people 5 = .ok (.ifCond .ne 10, 3) := dk_154 0 10 (dk_at dksX7_people_0 5 rfl rfl)
theorem dX7_people_8 : decode cX7_people 8 = .ok (.aload_n 0, 1) := dk_42 (dk_at dksX7_people_0 8 rfl rfl)
theorem dX7_people_9 : decode cX7_people 9 = .ok (.bipush (-3), 2) := dk_16 253 (dk_at dksX7_people_0 9 rfl rfl)
theorem dX7_people_11 : decode cX7_people 11 = .ok (.invokevirtual 80, 3) := dk_182 0 80 (dk_at dksX7_people_0 11 rfl rfl)
theorem dX7_people_14 : decode cX7_people 14 = .ok (.ireturn, 1) := dk_172 (dk_at dksX7_people_0 14 rfl rfl)
theorem dX7_people_15 : decode cX7_people 15 = .ok (.iload_n 2, 1) := dk_28 (dk_at dksX7_people_0 15 rfl rfl)
theorem dX7_people_16 : decode cX7_people 16 = .ok (.iconst 0, 1) := dk_3 (dk_at dksX7_people_0 16 rfl rfl)
theorem dX7_people_17 : decode cX7_people 17 = .ok (.sipush 999, 3) := dk_17 3 231 (dk_at dksX7_people_0 17 rfl rfl)
theorem dX7_people_20 : decode cX7_people 20 = .ok (.invokestatic 76, 3) := dk_184 0 76 (dk_at dksX7_people_0 20 rfl rfl)
theorem dX7_people_23 : decode cX7_people 23 = .ok (.ifCond .eq 14, 3) := dk_153 0 14 (dk_at dksX7_people_1 0 rfl rfl)
theorem dX7_people_26 : decode cX7_people 26 = .ok (.iload_n 3, 1) := dk_29 (dk_at dksX7_people_1 3 rfl rfl)
theorem dX7_people_27 : decode cX7_people 27 = .ok (.iconst 0, 1) := dk_3 (dk_at dksX7_people_1 4 rfl rfl)
theorem dX7_people_28 : decode cX7_people 28 = .ok (.sipush 999, 3) := dk_17 3 231 (dk_at dksX7_people_1 5 rfl rfl)
theorem dX7_people_31 : decode cX7_people 31 = .ok (.invokestatic 76, 3) := dk_184 0 76 (dk_at dksX7_people_1 8 rfl rfl)
theorem dX7_people_34 : decode cX7_people 34 = .ok (.ifCond .ne 10, 3) := dk_154 0 10 (dk_at dksX7_people_1 11 rfl rfl)
theorem dX7_people_37 : decode cX7_people 37 = .ok (.aload_n 0, 1) := dk_42 (dk_at dksX7_people_1 14 rfl rfl)
theorem dX7_people_38 : decode cX7_people 38 = .ok (.bipush (-7), 2) := dk_16 249 (dk_at dksX7_people_1 15 rfl rfl)
theorem dX7_people_40 : decode cX7_people 40 = .ok (.invokevirtual 80, 3) := dk_182 0 80 (dk_at dksX7_people_1 17 rfl rfl)
theorem dX7_people_43 : decode cX7_people 43 = .ok (.ireturn, 1) := dk_172 (dk_at dksX7_people_1 20 rfl rfl)
theorem dX7_people_44 : decode cX7_people 44 = .ok (.aload_n 0, 1) := dk_42 (dk_at dksX7_people_1 21 rfl rfl)
theorem dX7_people_45 : decode cX7_people 45 = .ok (.getfield 13, 3) := dk_180 0 13 (dk_at dksX7_people_2 0 rfl rfl)
theorem dX7_people_48 : decode cX7_people 48 = .ok (.sipush 928, 3) := dk_17 3 160 (dk_at dksX7_people_2 3 rfl rfl)
theorem dX7_people_51 : decode cX7_people 51 = .ok (.iconst 4, 1) := dk_7 (dk_at dksX7_people_2 6 rfl rfl)
theorem dX7_people_52 : decode cX7_people 52 = .ok (.iload_n 1, 1) := dk_27 (dk_at dksX7_people_2 7 rfl rfl)
theorem dX7_people_53 : decode cX7_people 53 = .ok (.imul, 1) := dk_104 (dk_at dksX7_people_2 8 rfl rfl)
theorem dX7_people_54 : decode cX7_people 54 = .ok (.iadd, 1) := dk_96 (dk_at dksX7_people_2 9 rfl rfl)
theorem dX7_people_55 : decode cX7_people 55 = .ok (.iconst 1, 1) := dk_4 (dk_at dksX7_people_2 10 rfl rfl)
theorem dX7_people_56 : decode cX7_people 56 = .ok (.iadd, 1) := dk_96 (dk_at dksX7_people_2 11 rfl rfl)
theorem dX7_people_57 : decode cX7_people 57 = .ok (.iaload, 1) := dk_46 (dk_at dksX7_people_2 12 rfl rfl)
theorem dX7_people_58 : decode cX7_people 58 = .ok (.istore 4, 2) := dk_54 4 (dk_at dksX7_people_2 13 rfl rfl)
theorem dX7_people_60 : decode cX7_people 60 = .ok (.aload_n 0, 1) := dk_42 (dk_at dksX7_people_2 15 rfl rfl)
theorem dX7_people_61 : decode cX7_people 61 = .ok (.getfield 13, 3) := dk_180 0 13 (dk_at dksX7_people_2 16 rfl rfl)
theorem dX7_people_64 : decode cX7_people 64 = .ok (.sipush 928, 3) := dk_17 3 160 (dk_at dksX7_people_2 19 rfl rfl)
theorem dX7_people_67 : decode cX7_people 67 = .ok (.iconst 4, 1) := dk_7 (dk_at dksX7_people_2 22 rfl rfl)
theorem dX7_people_68 : decode cX7_people 68 = .ok (.iload_n 1, 1) := dk_27 (dk_at dksX7_people_2 23 rfl rfl)
theorem dX7_people_69 : decode cX7_people 69 = .ok (.imul, 1) := dk_104 (dk_at dksX7_people_3 0 rfl rfl)
theorem dX7_people_70 : decode cX7_people 70 = .ok (.iadd, 1) := dk_96 (dk_at dksX7_people_3 1 rfl rfl)
theorem dX7_people_71 : decode cX7_people 71 = .ok (.iconst 1, 1) := dk_4 (dk_at dksX7_people_3 2 rfl rfl)
theorem dX7_people_72 : decode cX7_people 72 = .ok (.iadd, 1) := dk_96 (dk_at dksX7_people_3 3 rfl rfl)
theorem dX7_people_73 : decode cX7_people 73 = .ok (.iload_n 2, 1) := dk_28 (dk_at dksX7_people_3 4 rfl rfl)
theorem dX7_people_74 : decode cX7_people 74 = .ok (.iastore, 1) := dk_79 (dk_at dksX7_people_3 5 rfl rfl)
theorem dX7_people_75 : decode cX7_people 75 = .ok (.aload_n 0, 1) := dk_42 (dk_at dksX7_people_3 6 rfl rfl)
theorem dX7_people_76 : decode cX7_people 76 = .ok (.getfield 13, 3) := dk_180 0 13 (dk_at dksX7_people_3 7 rfl rfl)
theorem dX7_people_79 : decode cX7_people 79 = .ok (.sipush 928, 3) := dk_17 3 160 (dk_at dksX7_people_3 10 rfl rfl)
theorem dX7_people_82 : decode cX7_people 82 = .ok (.iconst 4, 1) := dk_7 (dk_at dksX7_people_3 13 rfl rfl)
theorem dX7_people_83 : decode cX7_people 83 = .ok (.iload_n 1, 1) := dk_27 (dk_at dksX7_people_3 14 rfl rfl)
theorem dX7_people_84 : decode cX7_people 84 = .ok (.imul, 1) := dk_104 (dk_at dksX7_people_3 15 rfl rfl)
theorem dX7_people_85 : decode cX7_people 85 = .ok (.iadd, 1) := dk_96 (dk_at dksX7_people_3 16 rfl rfl)
theorem dX7_people_86 : decode cX7_people 86 = .ok (.iconst 2, 1) := dk_5 (dk_at dksX7_people_3 17 rfl rfl)
theorem dX7_people_87 : decode cX7_people 87 = .ok (.iadd, 1) := dk_96 (dk_at dksX7_people_3 18 rfl rfl)
theorem dX7_people_88 : decode cX7_people 88 = .ok (.iload_n 3, 1) := dk_29 (dk_at dksX7_people_3 19 rfl rfl)
theorem dX7_people_89 : decode cX7_people 89 = .ok (.iastore, 1) := dk_79 (dk_at dksX7_people_3 20 rfl rfl)
theorem dX7_people_90 : decode cX7_people 90 = .ok (.iload 4, 2) := dk_21 4 (dk_at dksX7_people_3 21 rfl rfl)
theorem dX7_people_92 : decode cX7_people 92 = .ok (.ireturn, 1) := dk_172 (dk_at dksX7_people_3 23 rfl rfl)
abbrev cX7_isVillage : ByteArray := prog_19_method_24_code
def yX7_isVillage : MethodName := ⟨RX7, "isVillage", "(I)Z"⟩
def dkwX7_isVillage_0 : List UInt8 := [27, 3, 42, 180, 0, 13, 6, 46, 4, 100, 184, 0, 76, 172]
abbrev dktX7_isVillage_0 : List UInt8 := dkwX7_isVillage_0 ++ []
theorem dksX7_isVillage_0 : cX7_isVillage.data.toList.drop 0 = dktX7_isVillage_0 := by decide +kernel
theorem dX7_isVillage_0 : decode cX7_isVillage 0 = .ok (.iload_n 1, 1) := dk_27 (dk_at dksX7_isVillage_0 0 rfl rfl)
theorem dX7_isVillage_1 : decode cX7_isVillage 1 = .ok (.iconst 0, 1) := dk_3 (dk_at dksX7_isVillage_0 1 rfl rfl)
theorem dX7_isVillage_2 : decode cX7_isVillage 2 = .ok (.aload_n 0, 1) := dk_42 (dk_at dksX7_isVillage_0 2 rfl rfl)
theorem dX7_isVillage_3 : decode cX7_isVillage 3 = .ok (.getfield 13, 3) := dk_180 0 13 (dk_at dksX7_isVillage_0 3 rfl rfl)
theorem dX7_isVillage_6 : decode cX7_isVillage 6 = .ok (.iconst 3, 1) := dk_6 (dk_at dksX7_isVillage_0 6 rfl rfl)
theorem dX7_isVillage_7 : decode cX7_isVillage 7 = .ok (.iaload, 1) := dk_46 (dk_at dksX7_isVillage_0 7 rfl rfl)
theorem dX7_isVillage_8 : decode cX7_isVillage 8 = .ok (.iconst 1, 1) := dk_4 (dk_at dksX7_isVillage_0 8 rfl rfl)
theorem dX7_isVillage_9 : decode cX7_isVillage 9 = .ok (.isub, 1) := dk_100 (dk_at dksX7_isVillage_0 9 rfl rfl)
theorem dX7_isVillage_10 : decode cX7_isVillage 10 = .ok (.invokestatic 76, 3) := dk_184 0 76 (dk_at dksX7_isVillage_0 10 rfl rfl)
theorem dX7_isVillage_13 : decode cX7_isVillage 13 = .ok (.ireturn, 1) := dk_172 (dk_at dksX7_isVillage_0 13 rfl rfl)
abbrev cX7_of : ByteArray := prog_19_method_29_code
def yX7_of : MethodName := ⟨RX7, "of", "(II)I"⟩
def dkwX7_of_2 : List UInt8 := [104, 96, 28, 96, 46, 167, 0, 9, 42, 16, 249, 182, 0, 80, 172]
abbrev dktX7_of_2 : List UInt8 := dkwX7_of_2 ++ []
def dkwX7_of_1 : List UInt8 := [182, 0, 146, 167, 0, 35, 28, 3, 6, 184, 0, 76, 153, 0, 20, 42, 180, 0, 13, 17, 3, 160, 7, 27]
abbrev dktX7_of_1 : List UInt8 := dkwX7_of_1 ++ dktX7_of_2
def dkwX7_of_0 : List UInt8 := [42, 27, 182, 0, 140, 154, 0, 10, 42, 16, 253, 182, 0, 80, 172, 28, 7, 160, 0, 11, 42, 27]
abbrev dktX7_of_0 : List UInt8 := dkwX7_of_0 ++ dktX7_of_1
theorem dksX7_of_0 : cX7_of.data.toList.drop 0 = dktX7_of_0 := by decide +kernel
theorem dksX7_of_1 : cX7_of.data.toList.drop 22 = dktX7_of_1 := dk_seg dksX7_of_0 22 rfl rfl
theorem dksX7_of_2 : cX7_of.data.toList.drop 46 = dktX7_of_2 := dk_seg dksX7_of_1 24 rfl rfl
theorem dX7_of_0 : decode cX7_of 0 = .ok (.aload_n 0, 1) := dk_42 (dk_at dksX7_of_0 0 rfl rfl)
theorem dX7_of_1 : decode cX7_of 1 = .ok (.iload_n 1, 1) := dk_27 (dk_at dksX7_of_0 1 rfl rfl)
theorem dX7_of_2 : decode cX7_of 2 = .ok (.invokevirtual 140, 3) := dk_182 0 140 (dk_at dksX7_of_0 2 rfl rfl)
theorem dX7_of_5 : decode cX7_of 5 = .ok (.ifCond .ne 10, 3) := dk_154 0 10 (dk_at dksX7_of_0 5 rfl rfl)
theorem dX7_of_8 : decode cX7_of 8 = .ok (.aload_n 0, 1) := dk_42 (dk_at dksX7_of_0 8 rfl rfl)
theorem dX7_of_9 : decode cX7_of 9 = .ok (.bipush (-3), 2) := dk_16 253 (dk_at dksX7_of_0 9 rfl rfl)
theorem dX7_of_11 : decode cX7_of 11 = .ok (.invokevirtual 80, 3) := dk_182 0 80 (dk_at dksX7_of_0 11 rfl rfl)
theorem dX7_of_14 : decode cX7_of 14 = .ok (.ireturn, 1) := dk_172 (dk_at dksX7_of_0 14 rfl rfl)
theorem dX7_of_15 : decode cX7_of 15 = .ok (.iload_n 2, 1) := dk_28 (dk_at dksX7_of_0 15 rfl rfl)
theorem dX7_of_16 : decode cX7_of 16 = .ok (.iconst 4, 1) := dk_7 (dk_at dksX7_of_0 16 rfl rfl)
theorem dX7_of_17 : decode cX7_of 17 = .ok (.if_icmp .ne 11, 3) := dk_160 0 11 (dk_at dksX7_of_0 17 rfl rfl)
theorem dX7_of_20 : decode cX7_of 20 = .ok (.aload_n 0, 1) := dk_42 (dk_at dksX7_of_0 20 rfl rfl)
theorem dX7_of_21 : decode cX7_of 21 = .ok (.iload_n 1, 1) := dk_27 (dk_at dksX7_of_0 21 rfl rfl)
theorem dX7_of_22 : decode cX7_of 22 = .ok (.invokevirtual 146, 3) := dk_182 0 146 (dk_at dksX7_of_1 0 rfl rfl)
theorem dX7_of_25 : decode cX7_of 25 = .ok (.goto 35, 3) := dk_167 0 35 (dk_at dksX7_of_1 3 rfl rfl)
theorem dX7_of_28 : decode cX7_of 28 = .ok (.iload_n 2, 1) := dk_28 (dk_at dksX7_of_1 6 rfl rfl)
theorem dX7_of_29 : decode cX7_of 29 = .ok (.iconst 0, 1) := dk_3 (dk_at dksX7_of_1 7 rfl rfl)
theorem dX7_of_30 : decode cX7_of 30 = .ok (.iconst 3, 1) := dk_6 (dk_at dksX7_of_1 8 rfl rfl)
theorem dX7_of_31 : decode cX7_of 31 = .ok (.invokestatic 76, 3) := dk_184 0 76 (dk_at dksX7_of_1 9 rfl rfl)
theorem dX7_of_34 : decode cX7_of 34 = .ok (.ifCond .eq 20, 3) := dk_153 0 20 (dk_at dksX7_of_1 12 rfl rfl)
theorem dX7_of_37 : decode cX7_of 37 = .ok (.aload_n 0, 1) := dk_42 (dk_at dksX7_of_1 15 rfl rfl)
theorem dX7_of_38 : decode cX7_of 38 = .ok (.getfield 13, 3) := dk_180 0 13 (dk_at dksX7_of_1 16 rfl rfl)
theorem dX7_of_41 : decode cX7_of 41 = .ok (.sipush 928, 3) := dk_17 3 160 (dk_at dksX7_of_1 19 rfl rfl)
theorem dX7_of_44 : decode cX7_of 44 = .ok (.iconst 4, 1) := dk_7 (dk_at dksX7_of_1 22 rfl rfl)
theorem dX7_of_45 : decode cX7_of 45 = .ok (.iload_n 1, 1) := dk_27 (dk_at dksX7_of_1 23 rfl rfl)
theorem dX7_of_46 : decode cX7_of 46 = .ok (.imul, 1) := dk_104 (dk_at dksX7_of_2 0 rfl rfl)
theorem dX7_of_47 : decode cX7_of 47 = .ok (.iadd, 1) := dk_96 (dk_at dksX7_of_2 1 rfl rfl)
theorem dX7_of_48 : decode cX7_of 48 = .ok (.iload_n 2, 1) := dk_28 (dk_at dksX7_of_2 2 rfl rfl)
theorem dX7_of_49 : decode cX7_of 49 = .ok (.iadd, 1) := dk_96 (dk_at dksX7_of_2 3 rfl rfl)
theorem dX7_of_50 : decode cX7_of 50 = .ok (.iaload, 1) := dk_46 (dk_at dksX7_of_2 4 rfl rfl)
theorem dX7_of_51 : decode cX7_of 51 = .ok (.goto 9, 3) := dk_167 0 9 (dk_at dksX7_of_2 5 rfl rfl)
theorem dX7_of_54 : decode cX7_of 54 = .ok (.aload_n 0, 1) := dk_42 (dk_at dksX7_of_2 8 rfl rfl)
theorem dX7_of_55 : decode cX7_of 55 = .ok (.bipush (-7), 2) := dk_16 249 (dk_at dksX7_of_2 9 rfl rfl)
theorem dX7_of_57 : decode cX7_of 57 = .ok (.invokevirtual 80, 3) := dk_182 0 80 (dk_at dksX7_of_2 11 rfl rfl)
theorem dX7_of_60 : decode cX7_of 60 = .ok (.ireturn, 1) := dk_172 (dk_at dksX7_of_2 14 rfl rfl)
abbrev cX7_mast : ByteArray := prog_19_method_28_code
def yX7_mast : MethodName := ⟨RX7, "mast", "(I)I"⟩
def dkwX7_mast_6 : List UInt8 := [22, 4, 136, 167, 0, 17, 42, 180, 0, 13, 17, 3, 160, 7, 27, 104, 96, 5, 96, 46, 172]
abbrev dktX7_mast_6 : List UInt8 := dkwX7_mast_6 ++ []
def dkwX7_mast_5 : List UInt8 := [55, 4, 22, 4, 42, 180, 0, 13, 17, 3, 160, 7, 27, 104, 96, 5, 96, 46, 133, 148, 156, 0, 9]
abbrev dktX7_mast_5 : List UInt8 := dkwX7_mast_5 ++ dktX7_mast_6
def dkwX7_mast_4 : List UInt8 := [180, 0, 13, 3, 46, 3, 182, 0, 129, 3, 17, 39, 16, 184, 0, 143, 133, 32, 105, 20, 0, 110, 109]
abbrev dktX7_mast_4 : List UInt8 := dkwX7_mast_4 ++ dktX7_mast_5
def dkwX7_mast_3 : List UInt8 := [32, 42, 21, 4, 7, 182, 0, 84, 133, 97, 65, 132, 4, 1, 167, 255, 177, 42, 8, 16, 100, 27, 96, 42]
abbrev dktX7_mast_3 : List UInt8 := dkwX7_mast_3 ++ dktX7_mast_4
def dkwX7_mast_2 : List UInt8 := [164, 0, 35, 42, 21, 4, 182, 0, 126, 154, 0, 26, 42, 21, 4, 8, 182, 0, 84, 16, 60, 161, 0, 14]
abbrev dktX7_mast_2 : List UInt8 := dkwX7_mast_2 ++ dktX7_mast_3
def dkwX7_mast_1 : List UInt8 := [180, 0, 13, 17, 3, 160, 7, 27, 104, 96, 46, 160, 0, 46, 42, 21, 4, 5, 182, 0, 84, 4]
abbrev dktX7_mast_1 : List UInt8 := dkwX7_mast_1 ++ dktX7_mast_2
def dkwX7_mast_0 : List UInt8 := [9, 65, 3, 54, 4, 21, 4, 42, 180, 0, 13, 4, 46, 162, 0, 74, 42, 21, 4, 3, 182, 0, 84, 42]
abbrev dktX7_mast_0 : List UInt8 := dkwX7_mast_0 ++ dktX7_mast_1
theorem dksX7_mast_0 : cX7_mast.data.toList.drop 0 = dktX7_mast_0 := by decide +kernel
theorem dksX7_mast_1 : cX7_mast.data.toList.drop 24 = dktX7_mast_1 := dk_seg dksX7_mast_0 24 rfl rfl
theorem dksX7_mast_2 : cX7_mast.data.toList.drop 46 = dktX7_mast_2 := dk_seg dksX7_mast_1 22 rfl rfl
theorem dksX7_mast_3 : cX7_mast.data.toList.drop 70 = dktX7_mast_3 := dk_seg dksX7_mast_2 24 rfl rfl
theorem dksX7_mast_4 : cX7_mast.data.toList.drop 94 = dktX7_mast_4 := dk_seg dksX7_mast_3 24 rfl rfl
theorem dksX7_mast_5 : cX7_mast.data.toList.drop 117 = dktX7_mast_5 := dk_seg dksX7_mast_4 23 rfl rfl
theorem dksX7_mast_6 : cX7_mast.data.toList.drop 140 = dktX7_mast_6 := dk_seg dksX7_mast_5 23 rfl rfl
theorem dX7_mast_0 : decode cX7_mast 0 = .ok (.lconst 0, 1) := dk_9 (dk_at dksX7_mast_0 0 rfl rfl)
theorem dX7_mast_1 : decode cX7_mast 1 = .ok (.lstore_n 2, 1) := dk_65 (dk_at dksX7_mast_0 1 rfl rfl)
theorem dX7_mast_2 : decode cX7_mast 2 = .ok (.iconst 0, 1) := dk_3 (dk_at dksX7_mast_0 2 rfl rfl)
theorem dX7_mast_3 : decode cX7_mast 3 = .ok (.istore 4, 2) := dk_54 4 (dk_at dksX7_mast_0 3 rfl rfl)
theorem dX7_mast_5 : decode cX7_mast 5 = .ok (.iload 4, 2) := dk_21 4 (dk_at dksX7_mast_0 5 rfl rfl)
theorem dX7_mast_7 : decode cX7_mast 7 = .ok (.aload_n 0, 1) := dk_42 (dk_at dksX7_mast_0 7 rfl rfl)
theorem dX7_mast_8 : decode cX7_mast 8 = .ok (.getfield 13, 3) := dk_180 0 13 (dk_at dksX7_mast_0 8 rfl rfl)
theorem dX7_mast_11 : decode cX7_mast 11 = .ok (.iconst 1, 1) := dk_4 (dk_at dksX7_mast_0 11 rfl rfl)
theorem dX7_mast_12 : decode cX7_mast 12 = .ok (.iaload, 1) := dk_46 (dk_at dksX7_mast_0 12 rfl rfl)
theorem dX7_mast_13 : decode cX7_mast 13 = .ok (.if_icmp .ge 74, 3) := dk_162 0 74 (dk_at dksX7_mast_0 13 rfl rfl)
theorem dX7_mast_16 : decode cX7_mast 16 = .ok (.aload_n 0, 1) := dk_42 (dk_at dksX7_mast_0 16 rfl rfl)
theorem dX7_mast_17 : decode cX7_mast 17 = .ok (.iload 4, 2) := dk_21 4 (dk_at dksX7_mast_0 17 rfl rfl)
theorem dX7_mast_19 : decode cX7_mast 19 = .ok (.iconst 0, 1) := dk_3 (dk_at dksX7_mast_0 19 rfl rfl)
theorem dX7_mast_20 : decode cX7_mast 20 = .ok (.invokevirtual 84, 3) := dk_182 0 84 (dk_at dksX7_mast_0 20 rfl rfl)
theorem dX7_mast_23 : decode cX7_mast 23 = .ok (.aload_n 0, 1) := dk_42 (dk_at dksX7_mast_0 23 rfl rfl)
theorem dX7_mast_24 : decode cX7_mast 24 = .ok (.getfield 13, 3) := dk_180 0 13 (dk_at dksX7_mast_1 0 rfl rfl)
theorem dX7_mast_27 : decode cX7_mast 27 = .ok (.sipush 928, 3) := dk_17 3 160 (dk_at dksX7_mast_1 3 rfl rfl)
theorem dX7_mast_30 : decode cX7_mast 30 = .ok (.iconst 4, 1) := dk_7 (dk_at dksX7_mast_1 6 rfl rfl)
theorem dX7_mast_31 : decode cX7_mast 31 = .ok (.iload_n 1, 1) := dk_27 (dk_at dksX7_mast_1 7 rfl rfl)
theorem dX7_mast_32 : decode cX7_mast 32 = .ok (.imul, 1) := dk_104 (dk_at dksX7_mast_1 8 rfl rfl)
theorem dX7_mast_33 : decode cX7_mast 33 = .ok (.iadd, 1) := dk_96 (dk_at dksX7_mast_1 9 rfl rfl)
theorem dX7_mast_34 : decode cX7_mast 34 = .ok (.iaload, 1) := dk_46 (dk_at dksX7_mast_1 10 rfl rfl)
theorem dX7_mast_35 : decode cX7_mast 35 = .ok (.if_icmp .ne 46, 3) := dk_160 0 46 (dk_at dksX7_mast_1 11 rfl rfl)
theorem dX7_mast_38 : decode cX7_mast 38 = .ok (.aload_n 0, 1) := dk_42 (dk_at dksX7_mast_1 14 rfl rfl)
theorem dX7_mast_39 : decode cX7_mast 39 = .ok (.iload 4, 2) := dk_21 4 (dk_at dksX7_mast_1 15 rfl rfl)
theorem dX7_mast_41 : decode cX7_mast 41 = .ok (.iconst 2, 1) := dk_5 (dk_at dksX7_mast_1 17 rfl rfl)
theorem dX7_mast_42 : decode cX7_mast 42 = .ok (.invokevirtual 84, 3) := dk_182 0 84 (dk_at dksX7_mast_1 18 rfl rfl)
theorem dX7_mast_45 : decode cX7_mast 45 = .ok (.iconst 1, 1) := dk_4 (dk_at dksX7_mast_1 21 rfl rfl)
theorem dX7_mast_46 : decode cX7_mast 46 = .ok (.if_icmp .le 35, 3) := dk_164 0 35 (dk_at dksX7_mast_2 0 rfl rfl)
theorem dX7_mast_49 : decode cX7_mast 49 = .ok (.aload_n 0, 1) := dk_42 (dk_at dksX7_mast_2 3 rfl rfl)
theorem dX7_mast_50 : decode cX7_mast 50 = .ok (.iload 4, 2) := dk_21 4 (dk_at dksX7_mast_2 4 rfl rfl)
theorem dX7_mast_52 : decode cX7_mast 52 = .ok (.invokevirtual 126, 3) := dk_182 0 126 (dk_at dksX7_mast_2 6 rfl rfl)
theorem dX7_mast_55 : decode cX7_mast 55 = .ok (.ifCond .ne 26, 3) := dk_154 0 26 (dk_at dksX7_mast_2 9 rfl rfl)
theorem dX7_mast_58 : decode cX7_mast 58 = .ok (.aload_n 0, 1) := dk_42 (dk_at dksX7_mast_2 12 rfl rfl)
theorem dX7_mast_59 : decode cX7_mast 59 = .ok (.iload 4, 2) := dk_21 4 (dk_at dksX7_mast_2 13 rfl rfl)
theorem dX7_mast_61 : decode cX7_mast 61 = .ok (.iconst 5, 1) := dk_8 (dk_at dksX7_mast_2 15 rfl rfl)
theorem dX7_mast_62 : decode cX7_mast 62 = .ok (.invokevirtual 84, 3) := dk_182 0 84 (dk_at dksX7_mast_2 16 rfl rfl)
theorem dX7_mast_65 : decode cX7_mast 65 = .ok (.bipush 60, 2) := dk_16 60 (dk_at dksX7_mast_2 19 rfl rfl)
theorem dX7_mast_67 : decode cX7_mast 67 = .ok (.if_icmp .lt 14, 3) := dk_161 0 14 (dk_at dksX7_mast_2 21 rfl rfl)
theorem dX7_mast_70 : decode cX7_mast 70 = .ok (.lload_n 2, 1) := dk_32 (dk_at dksX7_mast_3 0 rfl rfl)
theorem dX7_mast_71 : decode cX7_mast 71 = .ok (.aload_n 0, 1) := dk_42 (dk_at dksX7_mast_3 1 rfl rfl)
theorem dX7_mast_72 : decode cX7_mast 72 = .ok (.iload 4, 2) := dk_21 4 (dk_at dksX7_mast_3 2 rfl rfl)
theorem dX7_mast_74 : decode cX7_mast 74 = .ok (.iconst 4, 1) := dk_7 (dk_at dksX7_mast_3 4 rfl rfl)
theorem dX7_mast_75 : decode cX7_mast 75 = .ok (.invokevirtual 84, 3) := dk_182 0 84 (dk_at dksX7_mast_3 5 rfl rfl)
theorem dX7_mast_78 : decode cX7_mast 78 = .ok (.i2l, 1) := dk_133 (dk_at dksX7_mast_3 8 rfl rfl)
theorem dX7_mast_79 : decode cX7_mast 79 = .ok (.ladd, 1) := dk_97 (dk_at dksX7_mast_3 9 rfl rfl)
theorem dX7_mast_80 : decode cX7_mast 80 = .ok (.lstore_n 2, 1) := dk_65 (dk_at dksX7_mast_3 10 rfl rfl)
theorem dX7_mast_81 : decode cX7_mast 81 = .ok (.iinc 4 1, 3) := dk_132 4 1 (dk_at dksX7_mast_3 11 rfl rfl)
theorem dX7_mast_84 : decode cX7_mast 84 = .ok (.goto (-79), 3) := dk_167 255 177 (dk_at dksX7_mast_3 14 rfl rfl)
theorem dX7_mast_87 : decode cX7_mast 87 = .ok (.aload_n 0, 1) := dk_42 (dk_at dksX7_mast_3 17 rfl rfl)
theorem dX7_mast_88 : decode cX7_mast 88 = .ok (.iconst 5, 1) := dk_8 (dk_at dksX7_mast_3 18 rfl rfl)
theorem dX7_mast_89 : decode cX7_mast 89 = .ok (.bipush 100, 2) := dk_16 100 (dk_at dksX7_mast_3 19 rfl rfl)
theorem dX7_mast_91 : decode cX7_mast 91 = .ok (.iload_n 1, 1) := dk_27 (dk_at dksX7_mast_3 21 rfl rfl)
theorem dX7_mast_92 : decode cX7_mast 92 = .ok (.iadd, 1) := dk_96 (dk_at dksX7_mast_3 22 rfl rfl)
theorem dX7_mast_93 : decode cX7_mast 93 = .ok (.aload_n 0, 1) := dk_42 (dk_at dksX7_mast_3 23 rfl rfl)
theorem dX7_mast_94 : decode cX7_mast 94 = .ok (.getfield 13, 3) := dk_180 0 13 (dk_at dksX7_mast_4 0 rfl rfl)
theorem dX7_mast_97 : decode cX7_mast 97 = .ok (.iconst 0, 1) := dk_3 (dk_at dksX7_mast_4 3 rfl rfl)
theorem dX7_mast_98 : decode cX7_mast 98 = .ok (.iaload, 1) := dk_46 (dk_at dksX7_mast_4 4 rfl rfl)
theorem dX7_mast_99 : decode cX7_mast 99 = .ok (.iconst 0, 1) := dk_3 (dk_at dksX7_mast_4 5 rfl rfl)
theorem dX7_mast_100 : decode cX7_mast 100 = .ok (.invokevirtual 129, 3) := dk_182 0 129 (dk_at dksX7_mast_4 6 rfl rfl)
theorem dX7_mast_103 : decode cX7_mast 103 = .ok (.iconst 0, 1) := dk_3 (dk_at dksX7_mast_4 9 rfl rfl)
theorem dX7_mast_104 : decode cX7_mast 104 = .ok (.sipush 10000, 3) := dk_17 39 16 (dk_at dksX7_mast_4 10 rfl rfl)
theorem dX7_mast_107 : decode cX7_mast 107 = .ok (.invokestatic 143, 3) := dk_184 0 143 (dk_at dksX7_mast_4 13 rfl rfl)
theorem dX7_mast_110 : decode cX7_mast 110 = .ok (.i2l, 1) := dk_133 (dk_at dksX7_mast_4 16 rfl rfl)
theorem dX7_mast_111 : decode cX7_mast 111 = .ok (.lload_n 2, 1) := dk_32 (dk_at dksX7_mast_4 17 rfl rfl)
theorem dX7_mast_112 : decode cX7_mast 112 = .ok (.lmul, 1) := dk_105 (dk_at dksX7_mast_4 18 rfl rfl)
theorem dX7_mast_113 : decode cX7_mast 113 = .ok (.ldc2_w 110, 3) := dk_20 0 110 (dk_at dksX7_mast_4 19 rfl rfl)
theorem dX7_mast_116 : decode cX7_mast 116 = .ok (.ldiv, 1) := dk_109 (dk_at dksX7_mast_4 22 rfl rfl)
theorem dX7_mast_117 : decode cX7_mast 117 = .ok (.lstore 4, 2) := dk_55 4 (dk_at dksX7_mast_5 0 rfl rfl)
theorem dX7_mast_119 : decode cX7_mast 119 = .ok (.lload 4, 2) := dk_22 4 (dk_at dksX7_mast_5 2 rfl rfl)
theorem dX7_mast_121 : decode cX7_mast 121 = .ok (.aload_n 0, 1) := dk_42 (dk_at dksX7_mast_5 4 rfl rfl)
theorem dX7_mast_122 : decode cX7_mast 122 = .ok (.getfield 13, 3) := dk_180 0 13 (dk_at dksX7_mast_5 5 rfl rfl)
theorem dX7_mast_125 : decode cX7_mast 125 = .ok (.sipush 928, 3) := dk_17 3 160 (dk_at dksX7_mast_5 8 rfl rfl)
theorem dX7_mast_128 : decode cX7_mast 128 = .ok (.iconst 4, 1) := dk_7 (dk_at dksX7_mast_5 11 rfl rfl)
theorem dX7_mast_129 : decode cX7_mast 129 = .ok (.iload_n 1, 1) := dk_27 (dk_at dksX7_mast_5 12 rfl rfl)
theorem dX7_mast_130 : decode cX7_mast 130 = .ok (.imul, 1) := dk_104 (dk_at dksX7_mast_5 13 rfl rfl)
theorem dX7_mast_131 : decode cX7_mast 131 = .ok (.iadd, 1) := dk_96 (dk_at dksX7_mast_5 14 rfl rfl)
theorem dX7_mast_132 : decode cX7_mast 132 = .ok (.iconst 2, 1) := dk_5 (dk_at dksX7_mast_5 15 rfl rfl)
theorem dX7_mast_133 : decode cX7_mast 133 = .ok (.iadd, 1) := dk_96 (dk_at dksX7_mast_5 16 rfl rfl)
theorem dX7_mast_134 : decode cX7_mast 134 = .ok (.iaload, 1) := dk_46 (dk_at dksX7_mast_5 17 rfl rfl)
theorem dX7_mast_135 : decode cX7_mast 135 = .ok (.i2l, 1) := dk_133 (dk_at dksX7_mast_5 18 rfl rfl)
theorem dX7_mast_136 : decode cX7_mast 136 = .ok (.lcmp, 1) := dk_148 (dk_at dksX7_mast_5 19 rfl rfl)
theorem dX7_mast_137 : decode cX7_mast 137 = .ok (.ifCond .ge 9, 3) := dk_156 0 9 (dk_at dksX7_mast_5 20 rfl rfl)
theorem dX7_mast_140 : decode cX7_mast 140 = .ok (.lload 4, 2) := dk_22 4 (dk_at dksX7_mast_6 0 rfl rfl)
theorem dX7_mast_142 : decode cX7_mast 142 = .ok (.l2i, 1) := dk_136 (dk_at dksX7_mast_6 2 rfl rfl)
theorem dX7_mast_143 : decode cX7_mast 143 = .ok (.goto 17, 3) := dk_167 0 17 (dk_at dksX7_mast_6 3 rfl rfl)
theorem dX7_mast_146 : decode cX7_mast 146 = .ok (.aload_n 0, 1) := dk_42 (dk_at dksX7_mast_6 6 rfl rfl)
theorem dX7_mast_147 : decode cX7_mast 147 = .ok (.getfield 13, 3) := dk_180 0 13 (dk_at dksX7_mast_6 7 rfl rfl)
theorem dX7_mast_150 : decode cX7_mast 150 = .ok (.sipush 928, 3) := dk_17 3 160 (dk_at dksX7_mast_6 10 rfl rfl)
theorem dX7_mast_153 : decode cX7_mast 153 = .ok (.iconst 4, 1) := dk_7 (dk_at dksX7_mast_6 13 rfl rfl)
theorem dX7_mast_154 : decode cX7_mast 154 = .ok (.iload_n 1, 1) := dk_27 (dk_at dksX7_mast_6 14 rfl rfl)
theorem dX7_mast_155 : decode cX7_mast 155 = .ok (.imul, 1) := dk_104 (dk_at dksX7_mast_6 15 rfl rfl)
theorem dX7_mast_156 : decode cX7_mast 156 = .ok (.iadd, 1) := dk_96 (dk_at dksX7_mast_6 16 rfl rfl)
theorem dX7_mast_157 : decode cX7_mast 157 = .ok (.iconst 2, 1) := dk_5 (dk_at dksX7_mast_6 17 rfl rfl)
theorem dX7_mast_158 : decode cX7_mast 158 = .ok (.iadd, 1) := dk_96 (dk_at dksX7_mast_6 18 rfl rfl)
theorem dX7_mast_159 : decode cX7_mast 159 = .ok (.iaload, 1) := dk_46 (dk_at dksX7_mast_6 19 rfl rfl)
theorem dX7_mast_160 : decode cX7_mast 160 = .ok (.ireturn, 1) := dk_172 (dk_at dksX7_mast_6 20 rfl rfl)
abbrev cX7_within : ByteArray := prog_19_method_27_code
def yX7_within : MethodName := ⟨RX7, "within", "(III)I"⟩
def dkwX7_within_0 : List UInt8 := [26, 27, 162, 0, 7, 27, 167, 0, 13, 26, 28, 164, 0, 7, 28, 167, 0, 4, 26, 172]
abbrev dktX7_within_0 : List UInt8 := dkwX7_within_0 ++ []
theorem dksX7_within_0 : cX7_within.data.toList.drop 0 = dktX7_within_0 := by decide +kernel
theorem dX7_within_0 : decode cX7_within 0 = .ok (.iload_n 0, 1) := dk_26 (dk_at dksX7_within_0 0 rfl rfl)
theorem dX7_within_1 : decode cX7_within 1 = .ok (.iload_n 1, 1) := dk_27 (dk_at dksX7_within_0 1 rfl rfl)
theorem dX7_within_2 : decode cX7_within 2 = .ok (.if_icmp .ge 7, 3) := dk_162 0 7 (dk_at dksX7_within_0 2 rfl rfl)
theorem dX7_within_5 : decode cX7_within 5 = .ok (.iload_n 1, 1) := dk_27 (dk_at dksX7_within_0 5 rfl rfl)
theorem dX7_within_6 : decode cX7_within 6 = .ok (.goto 13, 3) := dk_167 0 13 (dk_at dksX7_within_0 6 rfl rfl)
theorem dX7_within_9 : decode cX7_within 9 = .ok (.iload_n 0, 1) := dk_26 (dk_at dksX7_within_0 9 rfl rfl)
theorem dX7_within_10 : decode cX7_within 10 = .ok (.iload_n 2, 1) := dk_28 (dk_at dksX7_within_0 10 rfl rfl)
theorem dX7_within_11 : decode cX7_within 11 = .ok (.if_icmp .le 7, 3) := dk_164 0 7 (dk_at dksX7_within_0 11 rfl rfl)
theorem dX7_within_14 : decode cX7_within 14 = .ok (.iload_n 2, 1) := dk_28 (dk_at dksX7_within_0 14 rfl rfl)
theorem dX7_within_15 : decode cX7_within 15 = .ok (.goto 4, 3) := dk_167 0 4 (dk_at dksX7_within_0 15 rfl rfl)
theorem dX7_within_18 : decode cX7_within 18 = .ok (.iload_n 0, 1) := dk_26 (dk_at dksX7_within_0 18 rfl rfl)
theorem dX7_within_19 : decode cX7_within 19 = .ok (.ireturn, 1) := dk_172 (dk_at dksX7_within_0 19 rfl rfl)
abbrev cX7_parcel : ByteArray := prog_19_method_34_code
def yX7_parcel : MethodName := ⟨RX7, "parcel", "(II)I"⟩
def dkwX7_parcel_1 : List UInt8 := [42, 27, 4, 28, 96, 182, 0, 149, 167, 0, 9, 42, 16, 249, 182, 0, 80, 172]
abbrev dktX7_parcel_1 : List UInt8 := dkwX7_parcel_1 ++ []
def dkwX7_parcel_0 : List UInt8 := [42, 27, 182, 0, 156, 154, 0, 10, 42, 16, 253, 182, 0, 80, 172, 28, 3, 7, 184, 0, 76, 153, 0, 14]
abbrev dktX7_parcel_0 : List UInt8 := dkwX7_parcel_0 ++ dktX7_parcel_1
theorem dksX7_parcel_0 : cX7_parcel.data.toList.drop 0 = dktX7_parcel_0 := by decide +kernel
theorem dksX7_parcel_1 : cX7_parcel.data.toList.drop 24 = dktX7_parcel_1 := dk_seg dksX7_parcel_0 24 rfl rfl
theorem dX7_parcel_0 : decode cX7_parcel 0 = .ok (.aload_n 0, 1) := dk_42 (dk_at dksX7_parcel_0 0 rfl rfl)
theorem dX7_parcel_1 : decode cX7_parcel 1 = .ok (.iload_n 1, 1) := dk_27 (dk_at dksX7_parcel_0 1 rfl rfl)
theorem dX7_parcel_2 : decode cX7_parcel 2 = .ok (.invokevirtual 156, 3) := dk_182 0 156 (dk_at dksX7_parcel_0 2 rfl rfl)
theorem dX7_parcel_5 : decode cX7_parcel 5 = .ok (.ifCond .ne 10, 3) := dk_154 0 10 (dk_at dksX7_parcel_0 5 rfl rfl)
theorem dX7_parcel_8 : decode cX7_parcel 8 = .ok (.aload_n 0, 1) := dk_42 (dk_at dksX7_parcel_0 8 rfl rfl)
theorem dX7_parcel_9 : decode cX7_parcel 9 = .ok (.bipush (-3), 2) := dk_16 253 (dk_at dksX7_parcel_0 9 rfl rfl)
theorem dX7_parcel_11 : decode cX7_parcel 11 = .ok (.invokevirtual 80, 3) := dk_182 0 80 (dk_at dksX7_parcel_0 11 rfl rfl)
theorem dX7_parcel_14 : decode cX7_parcel 14 = .ok (.ireturn, 1) := dk_172 (dk_at dksX7_parcel_0 14 rfl rfl)
theorem dX7_parcel_15 : decode cX7_parcel 15 = .ok (.iload_n 2, 1) := dk_28 (dk_at dksX7_parcel_0 15 rfl rfl)
theorem dX7_parcel_16 : decode cX7_parcel 16 = .ok (.iconst 0, 1) := dk_3 (dk_at dksX7_parcel_0 16 rfl rfl)
theorem dX7_parcel_17 : decode cX7_parcel 17 = .ok (.iconst 4, 1) := dk_7 (dk_at dksX7_parcel_0 17 rfl rfl)
theorem dX7_parcel_18 : decode cX7_parcel 18 = .ok (.invokestatic 76, 3) := dk_184 0 76 (dk_at dksX7_parcel_0 18 rfl rfl)
theorem dX7_parcel_21 : decode cX7_parcel 21 = .ok (.ifCond .eq 14, 3) := dk_153 0 14 (dk_at dksX7_parcel_0 21 rfl rfl)
theorem dX7_parcel_24 : decode cX7_parcel 24 = .ok (.aload_n 0, 1) := dk_42 (dk_at dksX7_parcel_1 0 rfl rfl)
theorem dX7_parcel_25 : decode cX7_parcel 25 = .ok (.iload_n 1, 1) := dk_27 (dk_at dksX7_parcel_1 1 rfl rfl)
theorem dX7_parcel_26 : decode cX7_parcel 26 = .ok (.iconst 1, 1) := dk_4 (dk_at dksX7_parcel_1 2 rfl rfl)
theorem dX7_parcel_27 : decode cX7_parcel 27 = .ok (.iload_n 2, 1) := dk_28 (dk_at dksX7_parcel_1 3 rfl rfl)
theorem dX7_parcel_28 : decode cX7_parcel 28 = .ok (.iadd, 1) := dk_96 (dk_at dksX7_parcel_1 4 rfl rfl)
theorem dX7_parcel_29 : decode cX7_parcel 29 = .ok (.invokevirtual 149, 3) := dk_182 0 149 (dk_at dksX7_parcel_1 5 rfl rfl)
theorem dX7_parcel_32 : decode cX7_parcel 32 = .ok (.goto 9, 3) := dk_167 0 9 (dk_at dksX7_parcel_1 8 rfl rfl)
theorem dX7_parcel_35 : decode cX7_parcel 35 = .ok (.aload_n 0, 1) := dk_42 (dk_at dksX7_parcel_1 11 rfl rfl)
theorem dX7_parcel_36 : decode cX7_parcel 36 = .ok (.bipush (-7), 2) := dk_16 249 (dk_at dksX7_parcel_1 12 rfl rfl)
theorem dX7_parcel_38 : decode cX7_parcel 38 = .ok (.invokevirtual 80, 3) := dk_182 0 80 (dk_at dksX7_parcel_1 14 rfl rfl)
theorem dX7_parcel_41 : decode cX7_parcel 41 = .ok (.ireturn, 1) := dk_172 (dk_at dksX7_parcel_1 17 rfl rfl)
abbrev cX7_isParcel : ByteArray := prog_19_method_31_code
def yX7_isParcel : MethodName := ⟨RX7, "isParcel", "(I)Z"⟩
def dkwX7_isParcel_1 : List UInt8 := [3, 172]
abbrev dktX7_isParcel_1 : List UInt8 := dkwX7_isParcel_1 ++ []
def dkwX7_isParcel_0 : List UInt8 := [27, 3, 16, 59, 184, 0, 76, 153, 0, 17, 42, 27, 3, 182, 0, 149, 4, 160, 0, 7, 4, 167, 0, 4]
abbrev dktX7_isParcel_0 : List UInt8 := dkwX7_isParcel_0 ++ dktX7_isParcel_1
theorem dksX7_isParcel_0 : cX7_isParcel.data.toList.drop 0 = dktX7_isParcel_0 := by decide +kernel
theorem dksX7_isParcel_1 : cX7_isParcel.data.toList.drop 24 = dktX7_isParcel_1 := dk_seg dksX7_isParcel_0 24 rfl rfl
theorem dX7_isParcel_0 : decode cX7_isParcel 0 = .ok (.iload_n 1, 1) := dk_27 (dk_at dksX7_isParcel_0 0 rfl rfl)
theorem dX7_isParcel_1 : decode cX7_isParcel 1 = .ok (.iconst 0, 1) := dk_3 (dk_at dksX7_isParcel_0 1 rfl rfl)
theorem dX7_isParcel_2 : decode cX7_isParcel 2 = .ok (.bipush 59, 2) := dk_16 59 (dk_at dksX7_isParcel_0 2 rfl rfl)
theorem dX7_isParcel_4 : decode cX7_isParcel 4 = .ok (.invokestatic 76, 3) := dk_184 0 76 (dk_at dksX7_isParcel_0 4 rfl rfl)
theorem dX7_isParcel_7 : decode cX7_isParcel 7 = .ok (.ifCond .eq 17, 3) := dk_153 0 17 (dk_at dksX7_isParcel_0 7 rfl rfl)
theorem dX7_isParcel_10 : decode cX7_isParcel 10 = .ok (.aload_n 0, 1) := dk_42 (dk_at dksX7_isParcel_0 10 rfl rfl)
theorem dX7_isParcel_11 : decode cX7_isParcel 11 = .ok (.iload_n 1, 1) := dk_27 (dk_at dksX7_isParcel_0 11 rfl rfl)
theorem dX7_isParcel_12 : decode cX7_isParcel 12 = .ok (.iconst 0, 1) := dk_3 (dk_at dksX7_isParcel_0 12 rfl rfl)
theorem dX7_isParcel_13 : decode cX7_isParcel 13 = .ok (.invokevirtual 149, 3) := dk_182 0 149 (dk_at dksX7_isParcel_0 13 rfl rfl)
theorem dX7_isParcel_16 : decode cX7_isParcel 16 = .ok (.iconst 1, 1) := dk_4 (dk_at dksX7_isParcel_0 16 rfl rfl)
theorem dX7_isParcel_17 : decode cX7_isParcel 17 = .ok (.if_icmp .ne 7, 3) := dk_160 0 7 (dk_at dksX7_isParcel_0 17 rfl rfl)
theorem dX7_isParcel_20 : decode cX7_isParcel 20 = .ok (.iconst 1, 1) := dk_4 (dk_at dksX7_isParcel_0 20 rfl rfl)
theorem dX7_isParcel_21 : decode cX7_isParcel 21 = .ok (.goto 4, 3) := dk_167 0 4 (dk_at dksX7_isParcel_0 21 rfl rfl)
theorem dX7_isParcel_24 : decode cX7_isParcel 24 = .ok (.iconst 0, 1) := dk_3 (dk_at dksX7_isParcel_1 0 rfl rfl)
theorem dX7_isParcel_25 : decode cX7_isParcel 25 = .ok (.ireturn, 1) := dk_172 (dk_at dksX7_isParcel_1 1 rfl rfl)
abbrev cX7_pc : ByteArray := prog_19_method_30_code
def yX7_pc : MethodName := ⟨RX7, "pc", "(II)I"⟩
def dkwX7_pc_0 : List UInt8 := [42, 180, 0, 13, 17, 3, 192, 16, 6, 27, 104, 96, 28, 96, 46, 172]
abbrev dktX7_pc_0 : List UInt8 := dkwX7_pc_0 ++ []
theorem dksX7_pc_0 : cX7_pc.data.toList.drop 0 = dktX7_pc_0 := by decide +kernel
theorem dX7_pc_0 : decode cX7_pc 0 = .ok (.aload_n 0, 1) := dk_42 (dk_at dksX7_pc_0 0 rfl rfl)
theorem dX7_pc_1 : decode cX7_pc 1 = .ok (.getfield 13, 3) := dk_180 0 13 (dk_at dksX7_pc_0 1 rfl rfl)
theorem dX7_pc_4 : decode cX7_pc 4 = .ok (.sipush 960, 3) := dk_17 3 192 (dk_at dksX7_pc_0 4 rfl rfl)
theorem dX7_pc_7 : decode cX7_pc 7 = .ok (.bipush 6, 2) := dk_16 6 (dk_at dksX7_pc_0 7 rfl rfl)
theorem dX7_pc_9 : decode cX7_pc 9 = .ok (.iload_n 1, 1) := dk_27 (dk_at dksX7_pc_0 9 rfl rfl)
theorem dX7_pc_10 : decode cX7_pc 10 = .ok (.imul, 1) := dk_104 (dk_at dksX7_pc_0 10 rfl rfl)
theorem dX7_pc_11 : decode cX7_pc 11 = .ok (.iadd, 1) := dk_96 (dk_at dksX7_pc_0 11 rfl rfl)
theorem dX7_pc_12 : decode cX7_pc 12 = .ok (.iload_n 2, 1) := dk_28 (dk_at dksX7_pc_0 12 rfl rfl)
theorem dX7_pc_13 : decode cX7_pc 13 = .ok (.iadd, 1) := dk_96 (dk_at dksX7_pc_0 13 rfl rfl)
theorem dX7_pc_14 : decode cX7_pc 14 = .ok (.iaload, 1) := dk_46 (dk_at dksX7_pc_0 14 rfl rfl)
theorem dX7_pc_15 : decode cX7_pc 15 = .ok (.ireturn, 1) := dk_172 (dk_at dksX7_pc_0 15 rfl rfl)
abbrev cX7_sell : ByteArray := prog_19_method_35_code
def yX7_sell : MethodName := ⟨RX7, "sell", "(II)I"⟩
def dkwX7_sell_5 : List UInt8 := [133, 97, 80, 42, 180, 0, 13, 17, 3, 192, 16, 6, 27, 104, 96, 3, 79, 21, 4, 172]
abbrev dktX7_sell_5 : List UInt8 := dkwX7_sell_5 ++ []
def dkwX7_sell_4 : List UInt8 := [133, 28, 29, 16, 10, 108, 100, 133, 105, 20, 0, 110, 109, 97, 80, 42, 180, 0, 17, 4, 92, 47, 21, 4]
abbrev dktX7_sell_4 : List UInt8 := dkwX7_sell_4 ++ dktX7_sell_5
def dkwX7_sell_3 : List UInt8 := [16, 249, 182, 0, 80, 172, 42, 27, 5, 182, 0, 149, 54, 4, 42, 180, 0, 17, 16, 7, 92, 47, 21, 4]
abbrev dktX7_sell_3 : List UInt8 := dkwX7_sell_3 ++ dktX7_sell_4
def dkwX7_sell_2 : List UInt8 := [182, 0, 84, 96, 46, 62, 28, 3, 17, 39, 15, 184, 0, 76, 153, 0, 9, 29, 18, 136, 161, 0, 10, 42]
abbrev dktX7_sell_2 : List UInt8 := dkwX7_sell_2 ++ dktX7_sell_3
def dkwX7_sell_1 : List UInt8 := [42, 16, 251, 182, 0, 80, 172, 42, 180, 0, 13, 17, 17, 178, 42, 42, 27, 6, 182, 0, 149, 3]
abbrev dktX7_sell_1 : List UInt8 := dkwX7_sell_1 ++ dktX7_sell_2
def dkwX7_sell_0 : List UInt8 := [42, 27, 182, 0, 156, 154, 0, 10, 42, 16, 253, 182, 0, 80, 172, 42, 27, 4, 182, 0, 149, 153, 0, 10]
abbrev dktX7_sell_0 : List UInt8 := dkwX7_sell_0 ++ dktX7_sell_1
theorem dksX7_sell_0 : cX7_sell.data.toList.drop 0 = dktX7_sell_0 := by decide +kernel
theorem dksX7_sell_1 : cX7_sell.data.toList.drop 24 = dktX7_sell_1 := dk_seg dksX7_sell_0 24 rfl rfl
theorem dksX7_sell_2 : cX7_sell.data.toList.drop 46 = dktX7_sell_2 := dk_seg dksX7_sell_1 22 rfl rfl
theorem dksX7_sell_3 : cX7_sell.data.toList.drop 70 = dktX7_sell_3 := dk_seg dksX7_sell_2 24 rfl rfl
theorem dksX7_sell_4 : cX7_sell.data.toList.drop 94 = dktX7_sell_4 := dk_seg dksX7_sell_3 24 rfl rfl
theorem dksX7_sell_5 : cX7_sell.data.toList.drop 118 = dktX7_sell_5 := dk_seg dksX7_sell_4 24 rfl rfl
theorem dX7_sell_0 : decode cX7_sell 0 = .ok (.aload_n 0, 1) := dk_42 (dk_at dksX7_sell_0 0 rfl rfl)
theorem dX7_sell_1 : decode cX7_sell 1 = .ok (.iload_n 1, 1) := dk_27 (dk_at dksX7_sell_0 1 rfl rfl)
theorem dX7_sell_2 : decode cX7_sell 2 = .ok (.invokevirtual 156, 3) := dk_182 0 156 (dk_at dksX7_sell_0 2 rfl rfl)
theorem dX7_sell_5 : decode cX7_sell 5 = .ok (.ifCond .ne 10, 3) := dk_154 0 10 (dk_at dksX7_sell_0 5 rfl rfl)
theorem dX7_sell_8 : decode cX7_sell 8 = .ok (.aload_n 0, 1) := dk_42 (dk_at dksX7_sell_0 8 rfl rfl)
theorem dX7_sell_9 : decode cX7_sell 9 = .ok (.bipush (-3), 2) := dk_16 253 (dk_at dksX7_sell_0 9 rfl rfl)
theorem dX7_sell_11 : decode cX7_sell 11 = .ok (.invokevirtual 80, 3) := dk_182 0 80 (dk_at dksX7_sell_0 11 rfl rfl)
theorem dX7_sell_14 : decode cX7_sell 14 = .ok (.ireturn, 1) := dk_172 (dk_at dksX7_sell_0 14 rfl rfl)
theorem dX7_sell_15 : decode cX7_sell 15 = .ok (.aload_n 0, 1) := dk_42 (dk_at dksX7_sell_0 15 rfl rfl)
theorem dX7_sell_16 : decode cX7_sell 16 = .ok (.iload_n 1, 1) := dk_27 (dk_at dksX7_sell_0 16 rfl rfl)
theorem dX7_sell_17 : decode cX7_sell 17 = .ok (.iconst 1, 1) := dk_4 (dk_at dksX7_sell_0 17 rfl rfl)
theorem dX7_sell_18 : decode cX7_sell 18 = .ok (.invokevirtual 149, 3) := dk_182 0 149 (dk_at dksX7_sell_0 18 rfl rfl)
theorem dX7_sell_21 : decode cX7_sell 21 = .ok (.ifCond .eq 10, 3) := dk_153 0 10 (dk_at dksX7_sell_0 21 rfl rfl)
theorem dX7_sell_24 : decode cX7_sell 24 = .ok (.aload_n 0, 1) := dk_42 (dk_at dksX7_sell_1 0 rfl rfl)
theorem dX7_sell_25 : decode cX7_sell 25 = .ok (.bipush (-5), 2) := dk_16 251 (dk_at dksX7_sell_1 1 rfl rfl)
theorem dX7_sell_27 : decode cX7_sell 27 = .ok (.invokevirtual 80, 3) := dk_182 0 80 (dk_at dksX7_sell_1 3 rfl rfl)
theorem dX7_sell_30 : decode cX7_sell 30 = .ok (.ireturn, 1) := dk_172 (dk_at dksX7_sell_1 6 rfl rfl)
theorem dX7_sell_31 : decode cX7_sell 31 = .ok (.aload_n 0, 1) := dk_42 (dk_at dksX7_sell_1 7 rfl rfl)
theorem dX7_sell_32 : decode cX7_sell 32 = .ok (.getfield 13, 3) := dk_180 0 13 (dk_at dksX7_sell_1 8 rfl rfl)
theorem dX7_sell_35 : decode cX7_sell 35 = .ok (.sipush 4530, 3) := dk_17 17 178 (dk_at dksX7_sell_1 11 rfl rfl)
theorem dX7_sell_38 : decode cX7_sell 38 = .ok (.aload_n 0, 1) := dk_42 (dk_at dksX7_sell_1 14 rfl rfl)
theorem dX7_sell_39 : decode cX7_sell 39 = .ok (.aload_n 0, 1) := dk_42 (dk_at dksX7_sell_1 15 rfl rfl)
theorem dX7_sell_40 : decode cX7_sell 40 = .ok (.iload_n 1, 1) := dk_27 (dk_at dksX7_sell_1 16 rfl rfl)
theorem dX7_sell_41 : decode cX7_sell 41 = .ok (.iconst 3, 1) := dk_6 (dk_at dksX7_sell_1 17 rfl rfl)
theorem dX7_sell_42 : decode cX7_sell 42 = .ok (.invokevirtual 149, 3) := dk_182 0 149 (dk_at dksX7_sell_1 18 rfl rfl)
theorem dX7_sell_45 : decode cX7_sell 45 = .ok (.iconst 0, 1) := dk_3 (dk_at dksX7_sell_1 21 rfl rfl)
theorem dX7_sell_46 : decode cX7_sell 46 = .ok (.invokevirtual 84, 3) := dk_182 0 84 (dk_at dksX7_sell_2 0 rfl rfl)
theorem dX7_sell_49 : decode cX7_sell 49 = .ok (.iadd, 1) := dk_96 (dk_at dksX7_sell_2 3 rfl rfl)
theorem dX7_sell_50 : decode cX7_sell 50 = .ok (.iaload, 1) := dk_46 (dk_at dksX7_sell_2 4 rfl rfl)
theorem dX7_sell_51 : decode cX7_sell 51 = .ok (.istore_n 3, 1) := dk_62 (dk_at dksX7_sell_2 5 rfl rfl)
theorem dX7_sell_52 : decode cX7_sell 52 = .ok (.iload_n 2, 1) := dk_28 (dk_at dksX7_sell_2 6 rfl rfl)
theorem dX7_sell_53 : decode cX7_sell 53 = .ok (.iconst 0, 1) := dk_3 (dk_at dksX7_sell_2 7 rfl rfl)
theorem dX7_sell_54 : decode cX7_sell 54 = .ok (.sipush 9999, 3) := dk_17 39 15 (dk_at dksX7_sell_2 8 rfl rfl)
theorem dX7_sell_57 : decode cX7_sell 57 = .ok (.invokestatic 76, 3) := dk_184 0 76 (dk_at dksX7_sell_2 11 rfl rfl)
theorem dX7_sell_60 : decode cX7_sell 60 = .ok (.ifCond .eq 9, 3) := dk_153 0 9 (dk_at dksX7_sell_2 14 rfl rfl)
theorem dX7_sell_63 : decode cX7_sell 63 = .ok (.iload_n 3, 1) := dk_29 (dk_at dksX7_sell_2 17 rfl rfl)
theorem dX7_sell_64 : decode cX7_sell 64 = .ok (.ldc 136, 2) := dk_18 136 (dk_at dksX7_sell_2 18 rfl rfl)
theorem dX7_sell_66 : decode cX7_sell 66 = .ok (.if_icmp .lt 10, 3) := dk_161 0 10 (dk_at dksX7_sell_2 20 rfl rfl)
theorem dX7_sell_69 : decode cX7_sell 69 = .ok (.aload_n 0, 1) := dk_42 (dk_at dksX7_sell_2 23 rfl rfl)
theorem dX7_sell_70 : decode cX7_sell 70 = .ok (.bipush (-7), 2) := dk_16 249 (dk_at dksX7_sell_3 0 rfl rfl)
theorem dX7_sell_72 : decode cX7_sell 72 = .ok (.invokevirtual 80, 3) := dk_182 0 80 (dk_at dksX7_sell_3 2 rfl rfl)
theorem dX7_sell_75 : decode cX7_sell 75 = .ok (.ireturn, 1) := dk_172 (dk_at dksX7_sell_3 5 rfl rfl)
theorem dX7_sell_76 : decode cX7_sell 76 = .ok (.aload_n 0, 1) := dk_42 (dk_at dksX7_sell_3 6 rfl rfl)
theorem dX7_sell_77 : decode cX7_sell 77 = .ok (.iload_n 1, 1) := dk_27 (dk_at dksX7_sell_3 7 rfl rfl)
theorem dX7_sell_78 : decode cX7_sell 78 = .ok (.iconst 2, 1) := dk_5 (dk_at dksX7_sell_3 8 rfl rfl)
theorem dX7_sell_79 : decode cX7_sell 79 = .ok (.invokevirtual 149, 3) := dk_182 0 149 (dk_at dksX7_sell_3 9 rfl rfl)
theorem dX7_sell_82 : decode cX7_sell 82 = .ok (.istore 4, 2) := dk_54 4 (dk_at dksX7_sell_3 12 rfl rfl)
theorem dX7_sell_84 : decode cX7_sell 84 = .ok (.aload_n 0, 1) := dk_42 (dk_at dksX7_sell_3 14 rfl rfl)
theorem dX7_sell_85 : decode cX7_sell 85 = .ok (.getfield 17, 3) := dk_180 0 17 (dk_at dksX7_sell_3 15 rfl rfl)
theorem dX7_sell_88 : decode cX7_sell 88 = .ok (.bipush 7, 2) := dk_16 7 (dk_at dksX7_sell_3 18 rfl rfl)
theorem dX7_sell_90 : decode cX7_sell 90 = .ok (.dup2, 1) := dk_92 (dk_at dksX7_sell_3 20 rfl rfl)
theorem dX7_sell_91 : decode cX7_sell 91 = .ok (.laload, 1) := dk_47 (dk_at dksX7_sell_3 21 rfl rfl)
theorem dX7_sell_92 : decode cX7_sell 92 = .ok (.iload 4, 2) := dk_21 4 (dk_at dksX7_sell_3 22 rfl rfl)
theorem dX7_sell_94 : decode cX7_sell 94 = .ok (.i2l, 1) := dk_133 (dk_at dksX7_sell_4 0 rfl rfl)
theorem dX7_sell_95 : decode cX7_sell 95 = .ok (.iload_n 2, 1) := dk_28 (dk_at dksX7_sell_4 1 rfl rfl)
theorem dX7_sell_96 : decode cX7_sell 96 = .ok (.iload_n 3, 1) := dk_29 (dk_at dksX7_sell_4 2 rfl rfl)
theorem dX7_sell_97 : decode cX7_sell 97 = .ok (.bipush 10, 2) := dk_16 10 (dk_at dksX7_sell_4 3 rfl rfl)
theorem dX7_sell_99 : decode cX7_sell 99 = .ok (.idiv, 1) := dk_108 (dk_at dksX7_sell_4 5 rfl rfl)
theorem dX7_sell_100 : decode cX7_sell 100 = .ok (.isub, 1) := dk_100 (dk_at dksX7_sell_4 6 rfl rfl)
theorem dX7_sell_101 : decode cX7_sell 101 = .ok (.i2l, 1) := dk_133 (dk_at dksX7_sell_4 7 rfl rfl)
theorem dX7_sell_102 : decode cX7_sell 102 = .ok (.lmul, 1) := dk_105 (dk_at dksX7_sell_4 8 rfl rfl)
theorem dX7_sell_103 : decode cX7_sell 103 = .ok (.ldc2_w 110, 3) := dk_20 0 110 (dk_at dksX7_sell_4 9 rfl rfl)
theorem dX7_sell_106 : decode cX7_sell 106 = .ok (.ldiv, 1) := dk_109 (dk_at dksX7_sell_4 12 rfl rfl)
theorem dX7_sell_107 : decode cX7_sell 107 = .ok (.ladd, 1) := dk_97 (dk_at dksX7_sell_4 13 rfl rfl)
theorem dX7_sell_108 : decode cX7_sell 108 = .ok (.lastore, 1) := dk_80 (dk_at dksX7_sell_4 14 rfl rfl)
theorem dX7_sell_109 : decode cX7_sell 109 = .ok (.aload_n 0, 1) := dk_42 (dk_at dksX7_sell_4 15 rfl rfl)
theorem dX7_sell_110 : decode cX7_sell 110 = .ok (.getfield 17, 3) := dk_180 0 17 (dk_at dksX7_sell_4 16 rfl rfl)
theorem dX7_sell_113 : decode cX7_sell 113 = .ok (.iconst 1, 1) := dk_4 (dk_at dksX7_sell_4 19 rfl rfl)
theorem dX7_sell_114 : decode cX7_sell 114 = .ok (.dup2, 1) := dk_92 (dk_at dksX7_sell_4 20 rfl rfl)
theorem dX7_sell_115 : decode cX7_sell 115 = .ok (.laload, 1) := dk_47 (dk_at dksX7_sell_4 21 rfl rfl)
theorem dX7_sell_116 : decode cX7_sell 116 = .ok (.iload 4, 2) := dk_21 4 (dk_at dksX7_sell_4 22 rfl rfl)
theorem dX7_sell_118 : decode cX7_sell 118 = .ok (.i2l, 1) := dk_133 (dk_at dksX7_sell_5 0 rfl rfl)
theorem dX7_sell_119 : decode cX7_sell 119 = .ok (.ladd, 1) := dk_97 (dk_at dksX7_sell_5 1 rfl rfl)
theorem dX7_sell_120 : decode cX7_sell 120 = .ok (.lastore, 1) := dk_80 (dk_at dksX7_sell_5 2 rfl rfl)
theorem dX7_sell_121 : decode cX7_sell 121 = .ok (.aload_n 0, 1) := dk_42 (dk_at dksX7_sell_5 3 rfl rfl)
theorem dX7_sell_122 : decode cX7_sell 122 = .ok (.getfield 13, 3) := dk_180 0 13 (dk_at dksX7_sell_5 4 rfl rfl)
theorem dX7_sell_125 : decode cX7_sell 125 = .ok (.sipush 960, 3) := dk_17 3 192 (dk_at dksX7_sell_5 7 rfl rfl)
theorem dX7_sell_128 : decode cX7_sell 128 = .ok (.bipush 6, 2) := dk_16 6 (dk_at dksX7_sell_5 10 rfl rfl)
theorem dX7_sell_130 : decode cX7_sell 130 = .ok (.iload_n 1, 1) := dk_27 (dk_at dksX7_sell_5 12 rfl rfl)
theorem dX7_sell_131 : decode cX7_sell 131 = .ok (.imul, 1) := dk_104 (dk_at dksX7_sell_5 13 rfl rfl)
theorem dX7_sell_132 : decode cX7_sell 132 = .ok (.iadd, 1) := dk_96 (dk_at dksX7_sell_5 14 rfl rfl)
theorem dX7_sell_133 : decode cX7_sell 133 = .ok (.iconst 0, 1) := dk_3 (dk_at dksX7_sell_5 15 rfl rfl)
theorem dX7_sell_134 : decode cX7_sell 134 = .ok (.iastore, 1) := dk_79 (dk_at dksX7_sell_5 16 rfl rfl)
theorem dX7_sell_135 : decode cX7_sell 135 = .ok (.iload 4, 2) := dk_21 4 (dk_at dksX7_sell_5 17 rfl rfl)
theorem dX7_sell_137 : decode cX7_sell 137 = .ok (.ireturn, 1) := dk_172 (dk_at dksX7_sell_5 19 rfl rfl)
abbrev cX7_fetch : ByteArray := prog_19_method_36_code
def yX7_fetch : MethodName := ⟨RX7, "fetch", "(I)I"⟩
def dkwX7_fetch_2 : List UInt8 := [97, 80, 42, 180, 0, 13, 17, 3, 192, 16, 6, 27, 104, 96, 3, 79, 42, 27, 5, 182, 0, 149, 172]
abbrev dktX7_fetch_2 : List UInt8 := dkwX7_fetch_2 ++ []
def dkwX7_fetch_1 : List UInt8 := [159, 0, 10, 42, 16, 251, 182, 0, 80, 172, 42, 180, 0, 17, 5, 92, 47, 42, 27, 5, 182, 0, 149, 133]
abbrev dktX7_fetch_1 : List UInt8 := dkwX7_fetch_1 ++ dktX7_fetch_2
def dkwX7_fetch_0 : List UInt8 := [42, 27, 182, 0, 156, 154, 0, 10, 42, 16, 253, 182, 0, 80, 172, 42, 27, 4, 182, 0, 149, 4]
abbrev dktX7_fetch_0 : List UInt8 := dkwX7_fetch_0 ++ dktX7_fetch_1
theorem dksX7_fetch_0 : cX7_fetch.data.toList.drop 0 = dktX7_fetch_0 := by decide +kernel
theorem dksX7_fetch_1 : cX7_fetch.data.toList.drop 22 = dktX7_fetch_1 := dk_seg dksX7_fetch_0 22 rfl rfl
theorem dksX7_fetch_2 : cX7_fetch.data.toList.drop 46 = dktX7_fetch_2 := dk_seg dksX7_fetch_1 24 rfl rfl
theorem dX7_fetch_0 : decode cX7_fetch 0 = .ok (.aload_n 0, 1) := dk_42 (dk_at dksX7_fetch_0 0 rfl rfl)
theorem dX7_fetch_1 : decode cX7_fetch 1 = .ok (.iload_n 1, 1) := dk_27 (dk_at dksX7_fetch_0 1 rfl rfl)
theorem dX7_fetch_2 : decode cX7_fetch 2 = .ok (.invokevirtual 156, 3) := dk_182 0 156 (dk_at dksX7_fetch_0 2 rfl rfl)
theorem dX7_fetch_5 : decode cX7_fetch 5 = .ok (.ifCond .ne 10, 3) := dk_154 0 10 (dk_at dksX7_fetch_0 5 rfl rfl)
theorem dX7_fetch_8 : decode cX7_fetch 8 = .ok (.aload_n 0, 1) := dk_42 (dk_at dksX7_fetch_0 8 rfl rfl)
theorem dX7_fetch_9 : decode cX7_fetch 9 = .ok (.bipush (-3), 2) := dk_16 253 (dk_at dksX7_fetch_0 9 rfl rfl)
theorem dX7_fetch_11 : decode cX7_fetch 11 = .ok (.invokevirtual 80, 3) := dk_182 0 80 (dk_at dksX7_fetch_0 11 rfl rfl)
theorem dX7_fetch_14 : decode cX7_fetch 14 = .ok (.ireturn, 1) := dk_172 (dk_at dksX7_fetch_0 14 rfl rfl)
theorem dX7_fetch_15 : decode cX7_fetch 15 = .ok (.aload_n 0, 1) := dk_42 (dk_at dksX7_fetch_0 15 rfl rfl)
theorem dX7_fetch_16 : decode cX7_fetch 16 = .ok (.iload_n 1, 1) := dk_27 (dk_at dksX7_fetch_0 16 rfl rfl)
theorem dX7_fetch_17 : decode cX7_fetch 17 = .ok (.iconst 1, 1) := dk_4 (dk_at dksX7_fetch_0 17 rfl rfl)
theorem dX7_fetch_18 : decode cX7_fetch 18 = .ok (.invokevirtual 149, 3) := dk_182 0 149 (dk_at dksX7_fetch_0 18 rfl rfl)
theorem dX7_fetch_21 : decode cX7_fetch 21 = .ok (.iconst 1, 1) := dk_4 (dk_at dksX7_fetch_0 21 rfl rfl)
theorem dX7_fetch_22 : decode cX7_fetch 22 = .ok (.if_icmp .eq 10, 3) := dk_159 0 10 (dk_at dksX7_fetch_1 0 rfl rfl)
theorem dX7_fetch_25 : decode cX7_fetch 25 = .ok (.aload_n 0, 1) := dk_42 (dk_at dksX7_fetch_1 3 rfl rfl)
theorem dX7_fetch_26 : decode cX7_fetch 26 = .ok (.bipush (-5), 2) := dk_16 251 (dk_at dksX7_fetch_1 4 rfl rfl)
theorem dX7_fetch_28 : decode cX7_fetch 28 = .ok (.invokevirtual 80, 3) := dk_182 0 80 (dk_at dksX7_fetch_1 6 rfl rfl)
theorem dX7_fetch_31 : decode cX7_fetch 31 = .ok (.ireturn, 1) := dk_172 (dk_at dksX7_fetch_1 9 rfl rfl)
theorem dX7_fetch_32 : decode cX7_fetch 32 = .ok (.aload_n 0, 1) := dk_42 (dk_at dksX7_fetch_1 10 rfl rfl)
theorem dX7_fetch_33 : decode cX7_fetch 33 = .ok (.getfield 17, 3) := dk_180 0 17 (dk_at dksX7_fetch_1 11 rfl rfl)
theorem dX7_fetch_36 : decode cX7_fetch 36 = .ok (.iconst 2, 1) := dk_5 (dk_at dksX7_fetch_1 14 rfl rfl)
theorem dX7_fetch_37 : decode cX7_fetch 37 = .ok (.dup2, 1) := dk_92 (dk_at dksX7_fetch_1 15 rfl rfl)
theorem dX7_fetch_38 : decode cX7_fetch 38 = .ok (.laload, 1) := dk_47 (dk_at dksX7_fetch_1 16 rfl rfl)
theorem dX7_fetch_39 : decode cX7_fetch 39 = .ok (.aload_n 0, 1) := dk_42 (dk_at dksX7_fetch_1 17 rfl rfl)
theorem dX7_fetch_40 : decode cX7_fetch 40 = .ok (.iload_n 1, 1) := dk_27 (dk_at dksX7_fetch_1 18 rfl rfl)
theorem dX7_fetch_41 : decode cX7_fetch 41 = .ok (.iconst 2, 1) := dk_5 (dk_at dksX7_fetch_1 19 rfl rfl)
theorem dX7_fetch_42 : decode cX7_fetch 42 = .ok (.invokevirtual 149, 3) := dk_182 0 149 (dk_at dksX7_fetch_1 20 rfl rfl)
theorem dX7_fetch_45 : decode cX7_fetch 45 = .ok (.i2l, 1) := dk_133 (dk_at dksX7_fetch_1 23 rfl rfl)
theorem dX7_fetch_46 : decode cX7_fetch 46 = .ok (.ladd, 1) := dk_97 (dk_at dksX7_fetch_2 0 rfl rfl)
theorem dX7_fetch_47 : decode cX7_fetch 47 = .ok (.lastore, 1) := dk_80 (dk_at dksX7_fetch_2 1 rfl rfl)
theorem dX7_fetch_48 : decode cX7_fetch 48 = .ok (.aload_n 0, 1) := dk_42 (dk_at dksX7_fetch_2 2 rfl rfl)
theorem dX7_fetch_49 : decode cX7_fetch 49 = .ok (.getfield 13, 3) := dk_180 0 13 (dk_at dksX7_fetch_2 3 rfl rfl)
theorem dX7_fetch_52 : decode cX7_fetch 52 = .ok (.sipush 960, 3) := dk_17 3 192 (dk_at dksX7_fetch_2 6 rfl rfl)
theorem dX7_fetch_55 : decode cX7_fetch 55 = .ok (.bipush 6, 2) := dk_16 6 (dk_at dksX7_fetch_2 9 rfl rfl)
theorem dX7_fetch_57 : decode cX7_fetch 57 = .ok (.iload_n 1, 1) := dk_27 (dk_at dksX7_fetch_2 11 rfl rfl)
theorem dX7_fetch_58 : decode cX7_fetch 58 = .ok (.imul, 1) := dk_104 (dk_at dksX7_fetch_2 12 rfl rfl)
theorem dX7_fetch_59 : decode cX7_fetch 59 = .ok (.iadd, 1) := dk_96 (dk_at dksX7_fetch_2 13 rfl rfl)
theorem dX7_fetch_60 : decode cX7_fetch 60 = .ok (.iconst 0, 1) := dk_3 (dk_at dksX7_fetch_2 14 rfl rfl)
theorem dX7_fetch_61 : decode cX7_fetch 61 = .ok (.iastore, 1) := dk_79 (dk_at dksX7_fetch_2 15 rfl rfl)
theorem dX7_fetch_62 : decode cX7_fetch 62 = .ok (.aload_n 0, 1) := dk_42 (dk_at dksX7_fetch_2 16 rfl rfl)
theorem dX7_fetch_63 : decode cX7_fetch 63 = .ok (.iload_n 1, 1) := dk_27 (dk_at dksX7_fetch_2 17 rfl rfl)
theorem dX7_fetch_64 : decode cX7_fetch 64 = .ok (.iconst 2, 1) := dk_5 (dk_at dksX7_fetch_2 18 rfl rfl)
theorem dX7_fetch_65 : decode cX7_fetch 65 = .ok (.invokevirtual 149, 3) := dk_182 0 149 (dk_at dksX7_fetch_2 19 rfl rfl)
theorem dX7_fetch_68 : decode cX7_fetch 68 = .ok (.ireturn, 1) := dk_172 (dk_at dksX7_fetch_2 22 rfl rfl)
abbrev cX7_loss : ByteArray := prog_19_method_37_code
def yX7_loss : MethodName := ⟨RX7, "loss", "(I)I"⟩
def dkwX7_loss_3 : List UInt8 := [28, 27, 2, 182, 0, 162, 172]
abbrev dktX7_loss_3 : List UInt8 := dkwX7_loss_3 ++ []
def dkwX7_loss_2 : List UInt8 := [182, 0, 80, 172, 42, 182, 0, 152, 16, 60, 160, 0, 12, 42, 16, 248, 182, 0, 80, 167, 0, 11, 42, 5]
abbrev dktX7_loss_2 : List UInt8 := dkwX7_loss_2 ++ dktX7_loss_3
def dkwX7_loss_1 : List UInt8 := [162, 0, 10, 42, 16, 254, 182, 0, 80, 172, 42, 27, 182, 0, 159, 61, 28, 154, 0, 10, 42, 16, 249]
abbrev dktX7_loss_1 : List UInt8 := dkwX7_loss_1 ++ dktX7_loss_2
def dkwX7_loss_0 : List UInt8 := [42, 27, 182, 0, 118, 154, 0, 10, 42, 16, 253, 182, 0, 80, 172, 42, 27, 16, 11, 182, 0, 84, 5]
abbrev dktX7_loss_0 : List UInt8 := dkwX7_loss_0 ++ dktX7_loss_1
theorem dksX7_loss_0 : cX7_loss.data.toList.drop 0 = dktX7_loss_0 := by decide +kernel
theorem dksX7_loss_1 : cX7_loss.data.toList.drop 23 = dktX7_loss_1 := dk_seg dksX7_loss_0 23 rfl rfl
theorem dksX7_loss_2 : cX7_loss.data.toList.drop 46 = dktX7_loss_2 := dk_seg dksX7_loss_1 23 rfl rfl
theorem dksX7_loss_3 : cX7_loss.data.toList.drop 70 = dktX7_loss_3 := dk_seg dksX7_loss_2 24 rfl rfl
theorem dX7_loss_0 : decode cX7_loss 0 = .ok (.aload_n 0, 1) := dk_42 (dk_at dksX7_loss_0 0 rfl rfl)
theorem dX7_loss_1 : decode cX7_loss 1 = .ok (.iload_n 1, 1) := dk_27 (dk_at dksX7_loss_0 1 rfl rfl)
theorem dX7_loss_2 : decode cX7_loss 2 = .ok (.invokevirtual 118, 3) := dk_182 0 118 (dk_at dksX7_loss_0 2 rfl rfl)
theorem dX7_loss_5 : decode cX7_loss 5 = .ok (.ifCond .ne 10, 3) := dk_154 0 10 (dk_at dksX7_loss_0 5 rfl rfl)
theorem dX7_loss_8 : decode cX7_loss 8 = .ok (.aload_n 0, 1) := dk_42 (dk_at dksX7_loss_0 8 rfl rfl)
theorem dX7_loss_9 : decode cX7_loss 9 = .ok (.bipush (-3), 2) := dk_16 253 (dk_at dksX7_loss_0 9 rfl rfl)
theorem dX7_loss_11 : decode cX7_loss 11 = .ok (.invokevirtual 80, 3) := dk_182 0 80 (dk_at dksX7_loss_0 11 rfl rfl)
theorem dX7_loss_14 : decode cX7_loss 14 = .ok (.ireturn, 1) := dk_172 (dk_at dksX7_loss_0 14 rfl rfl)
theorem dX7_loss_15 : decode cX7_loss 15 = .ok (.aload_n 0, 1) := dk_42 (dk_at dksX7_loss_0 15 rfl rfl)
theorem dX7_loss_16 : decode cX7_loss 16 = .ok (.iload_n 1, 1) := dk_27 (dk_at dksX7_loss_0 16 rfl rfl)
theorem dX7_loss_17 : decode cX7_loss 17 = .ok (.bipush 11, 2) := dk_16 11 (dk_at dksX7_loss_0 17 rfl rfl)
theorem dX7_loss_19 : decode cX7_loss 19 = .ok (.invokevirtual 84, 3) := dk_182 0 84 (dk_at dksX7_loss_0 19 rfl rfl)
theorem dX7_loss_22 : decode cX7_loss 22 = .ok (.iconst 2, 1) := dk_5 (dk_at dksX7_loss_0 22 rfl rfl)
theorem dX7_loss_23 : decode cX7_loss 23 = .ok (.if_icmp .ge 10, 3) := dk_162 0 10 (dk_at dksX7_loss_1 0 rfl rfl)
theorem dX7_loss_26 : decode cX7_loss 26 = .ok (.aload_n 0, 1) := dk_42 (dk_at dksX7_loss_1 3 rfl rfl)
theorem dX7_loss_27 : decode cX7_loss 27 = .ok (.bipush (-2), 2) := dk_16 254 (dk_at dksX7_loss_1 4 rfl rfl)
theorem dX7_loss_29 : decode cX7_loss 29 = .ok (.invokevirtual 80, 3) := dk_182 0 80 (dk_at dksX7_loss_1 6 rfl rfl)
theorem dX7_loss_32 : decode cX7_loss 32 = .ok (.ireturn, 1) := dk_172 (dk_at dksX7_loss_1 9 rfl rfl)
theorem dX7_loss_33 : decode cX7_loss 33 = .ok (.aload_n 0, 1) := dk_42 (dk_at dksX7_loss_1 10 rfl rfl)
theorem dX7_loss_34 : decode cX7_loss 34 = .ok (.iload_n 1, 1) := dk_27 (dk_at dksX7_loss_1 11 rfl rfl)
theorem dX7_loss_35 : decode cX7_loss 35 = .ok (.invokevirtual 159, 3) := dk_182 0 159 (dk_at dksX7_loss_1 12 rfl rfl)
theorem dX7_loss_38 : decode cX7_loss 38 = .ok (.istore_n 2, 1) := dk_61 (dk_at dksX7_loss_1 15 rfl rfl)
theorem dX7_loss_39 : decode cX7_loss 39 = .ok (.iload_n 2, 1) := dk_28 (dk_at dksX7_loss_1 16 rfl rfl)
theorem dX7_loss_40 : decode cX7_loss 40 = .ok (.ifCond .ne 10, 3) := dk_154 0 10 (dk_at dksX7_loss_1 17 rfl rfl)
theorem dX7_loss_43 : decode cX7_loss 43 = .ok (.aload_n 0, 1) := dk_42 (dk_at dksX7_loss_1 20 rfl rfl)
theorem dX7_loss_44 : decode cX7_loss 44 = .ok (.bipush (-7), 2) := dk_16 249 (dk_at dksX7_loss_1 21 rfl rfl)
theorem dX7_loss_46 : decode cX7_loss 46 = .ok (.invokevirtual 80, 3) := dk_182 0 80 (dk_at dksX7_loss_2 0 rfl rfl)
theorem dX7_loss_49 : decode cX7_loss 49 = .ok (.ireturn, 1) := dk_172 (dk_at dksX7_loss_2 3 rfl rfl)
theorem dX7_loss_50 : decode cX7_loss 50 = .ok (.aload_n 0, 1) := dk_42 (dk_at dksX7_loss_2 4 rfl rfl)
theorem dX7_loss_51 : decode cX7_loss 51 = .ok (.invokevirtual 152, 3) := dk_182 0 152 (dk_at dksX7_loss_2 5 rfl rfl)
theorem dX7_loss_54 : decode cX7_loss 54 = .ok (.bipush 60, 2) := dk_16 60 (dk_at dksX7_loss_2 8 rfl rfl)
theorem dX7_loss_56 : decode cX7_loss 56 = .ok (.if_icmp .ne 12, 3) := dk_160 0 12 (dk_at dksX7_loss_2 10 rfl rfl)
theorem dX7_loss_59 : decode cX7_loss 59 = .ok (.aload_n 0, 1) := dk_42 (dk_at dksX7_loss_2 13 rfl rfl)
theorem dX7_loss_60 : decode cX7_loss 60 = .ok (.bipush (-8), 2) := dk_16 248 (dk_at dksX7_loss_2 14 rfl rfl)
theorem dX7_loss_62 : decode cX7_loss 62 = .ok (.invokevirtual 80, 3) := dk_182 0 80 (dk_at dksX7_loss_2 16 rfl rfl)
theorem dX7_loss_65 : decode cX7_loss 65 = .ok (.goto 11, 3) := dk_167 0 11 (dk_at dksX7_loss_2 19 rfl rfl)
theorem dX7_loss_68 : decode cX7_loss 68 = .ok (.aload_n 0, 1) := dk_42 (dk_at dksX7_loss_2 22 rfl rfl)
theorem dX7_loss_69 : decode cX7_loss 69 = .ok (.iconst 2, 1) := dk_5 (dk_at dksX7_loss_2 23 rfl rfl)
theorem dX7_loss_70 : decode cX7_loss 70 = .ok (.iload_n 2, 1) := dk_28 (dk_at dksX7_loss_3 0 rfl rfl)
theorem dX7_loss_71 : decode cX7_loss 71 = .ok (.iload_n 1, 1) := dk_27 (dk_at dksX7_loss_3 1 rfl rfl)
theorem dX7_loss_72 : decode cX7_loss 72 = .ok (.iconst (-1), 1) := dk_2 (dk_at dksX7_loss_3 2 rfl rfl)
theorem dX7_loss_73 : decode cX7_loss 73 = .ok (.invokevirtual 162, 3) := dk_182 0 162 (dk_at dksX7_loss_3 3 rfl rfl)
theorem dX7_loss_76 : decode cX7_loss 76 = .ok (.ireturn, 1) := dk_172 (dk_at dksX7_loss_3 6 rfl rfl)
abbrev cX7_lackOf : ByteArray := prog_19_method_94_code
def yX7_lackOf : MethodName := ⟨RX7, "lackOf", "(I)I"⟩
def dkwX7_lackOf_2 : List UInt8 := [167, 0, 4, 28, 172]
abbrev dktX7_lackOf_2 : List UInt8 := dkwX7_lackOf_2 ++ []
def dkwX7_lackOf_1 : List UInt8 := [104, 96, 8, 42, 27, 16, 11, 182, 0, 84, 4, 100, 104, 96, 7, 96, 46, 100, 61, 28, 156, 0, 7, 3]
abbrev dktX7_lackOf_1 : List UInt8 := dkwX7_lackOf_1 ++ dktX7_lackOf_2
def dkwX7_lackOf_0 : List UInt8 := [42, 27, 42, 27, 16, 11, 182, 0, 84, 5, 100, 182, 1, 141, 42, 180, 0, 13, 17, 13, 242, 16, 40, 27]
abbrev dktX7_lackOf_0 : List UInt8 := dkwX7_lackOf_0 ++ dktX7_lackOf_1
theorem dksX7_lackOf_0 : cX7_lackOf.data.toList.drop 0 = dktX7_lackOf_0 := by decide +kernel
theorem dksX7_lackOf_1 : cX7_lackOf.data.toList.drop 24 = dktX7_lackOf_1 := dk_seg dksX7_lackOf_0 24 rfl rfl
theorem dksX7_lackOf_2 : cX7_lackOf.data.toList.drop 48 = dktX7_lackOf_2 := dk_seg dksX7_lackOf_1 24 rfl rfl
theorem dX7_lackOf_0 : decode cX7_lackOf 0 = .ok (.aload_n 0, 1) := dk_42 (dk_at dksX7_lackOf_0 0 rfl rfl)
theorem dX7_lackOf_1 : decode cX7_lackOf 1 = .ok (.iload_n 1, 1) := dk_27 (dk_at dksX7_lackOf_0 1 rfl rfl)
theorem dX7_lackOf_2 : decode cX7_lackOf 2 = .ok (.aload_n 0, 1) := dk_42 (dk_at dksX7_lackOf_0 2 rfl rfl)
theorem dX7_lackOf_3 : decode cX7_lackOf 3 = .ok (.iload_n 1, 1) := dk_27 (dk_at dksX7_lackOf_0 3 rfl rfl)
theorem dX7_lackOf_4 : decode cX7_lackOf 4 = .ok (.bipush 11, 2) := dk_16 11 (dk_at dksX7_lackOf_0 4 rfl rfl)
theorem dX7_lackOf_6 : decode cX7_lackOf 6 = .ok (.invokevirtual 84, 3) := dk_182 0 84 (dk_at dksX7_lackOf_0 6 rfl rfl)
theorem dX7_lackOf_9 : decode cX7_lackOf 9 = .ok (.iconst 2, 1) := dk_5 (dk_at dksX7_lackOf_0 9 rfl rfl)
theorem dX7_lackOf_10 : decode cX7_lackOf 10 = .ok (.isub, 1) := dk_100 (dk_at dksX7_lackOf_0 10 rfl rfl)
theorem dX7_lackOf_11 : decode cX7_lackOf 11 = .ok (.invokevirtual 397, 3) := dk_182 1 141 (dk_at dksX7_lackOf_0 11 rfl rfl)
theorem dX7_lackOf_14 : decode cX7_lackOf 14 = .ok (.aload_n 0, 1) := dk_42 (dk_at dksX7_lackOf_0 14 rfl rfl)
theorem dX7_lackOf_15 : decode cX7_lackOf 15 = .ok (.getfield 13, 3) := dk_180 0 13 (dk_at dksX7_lackOf_0 15 rfl rfl)
theorem dX7_lackOf_18 : decode cX7_lackOf 18 = .ok (.sipush 3570, 3) := dk_17 13 242 (dk_at dksX7_lackOf_0 18 rfl rfl)
theorem dX7_lackOf_21 : decode cX7_lackOf 21 = .ok (.bipush 40, 2) := dk_16 40 (dk_at dksX7_lackOf_0 21 rfl rfl)
theorem dX7_lackOf_23 : decode cX7_lackOf 23 = .ok (.iload_n 1, 1) := dk_27 (dk_at dksX7_lackOf_0 23 rfl rfl)
theorem dX7_lackOf_24 : decode cX7_lackOf 24 = .ok (.imul, 1) := dk_104 (dk_at dksX7_lackOf_1 0 rfl rfl)
theorem dX7_lackOf_25 : decode cX7_lackOf 25 = .ok (.iadd, 1) := dk_96 (dk_at dksX7_lackOf_1 1 rfl rfl)
theorem dX7_lackOf_26 : decode cX7_lackOf 26 = .ok (.iconst 5, 1) := dk_8 (dk_at dksX7_lackOf_1 2 rfl rfl)
theorem dX7_lackOf_27 : decode cX7_lackOf 27 = .ok (.aload_n 0, 1) := dk_42 (dk_at dksX7_lackOf_1 3 rfl rfl)
theorem dX7_lackOf_28 : decode cX7_lackOf 28 = .ok (.iload_n 1, 1) := dk_27 (dk_at dksX7_lackOf_1 4 rfl rfl)
theorem dX7_lackOf_29 : decode cX7_lackOf 29 = .ok (.bipush 11, 2) := dk_16 11 (dk_at dksX7_lackOf_1 5 rfl rfl)
theorem dX7_lackOf_31 : decode cX7_lackOf 31 = .ok (.invokevirtual 84, 3) := dk_182 0 84 (dk_at dksX7_lackOf_1 7 rfl rfl)
theorem dX7_lackOf_34 : decode cX7_lackOf 34 = .ok (.iconst 1, 1) := dk_4 (dk_at dksX7_lackOf_1 10 rfl rfl)
theorem dX7_lackOf_35 : decode cX7_lackOf 35 = .ok (.isub, 1) := dk_100 (dk_at dksX7_lackOf_1 11 rfl rfl)
theorem dX7_lackOf_36 : decode cX7_lackOf 36 = .ok (.imul, 1) := dk_104 (dk_at dksX7_lackOf_1 12 rfl rfl)
theorem dX7_lackOf_37 : decode cX7_lackOf 37 = .ok (.iadd, 1) := dk_96 (dk_at dksX7_lackOf_1 13 rfl rfl)
theorem dX7_lackOf_38 : decode cX7_lackOf 38 = .ok (.iconst 4, 1) := dk_7 (dk_at dksX7_lackOf_1 14 rfl rfl)
theorem dX7_lackOf_39 : decode cX7_lackOf 39 = .ok (.iadd, 1) := dk_96 (dk_at dksX7_lackOf_1 15 rfl rfl)
theorem dX7_lackOf_40 : decode cX7_lackOf 40 = .ok (.iaload, 1) := dk_46 (dk_at dksX7_lackOf_1 16 rfl rfl)
theorem dX7_lackOf_41 : decode cX7_lackOf 41 = .ok (.isub, 1) := dk_100 (dk_at dksX7_lackOf_1 17 rfl rfl)
theorem dX7_lackOf_42 : decode cX7_lackOf 42 = .ok (.istore_n 2, 1) := dk_61 (dk_at dksX7_lackOf_1 18 rfl rfl)
theorem dX7_lackOf_43 : decode cX7_lackOf 43 = .ok (.iload_n 2, 1) := dk_28 (dk_at dksX7_lackOf_1 19 rfl rfl)
theorem dX7_lackOf_44 : decode cX7_lackOf 44 = .ok (.ifCond .ge 7, 3) := dk_156 0 7 (dk_at dksX7_lackOf_1 20 rfl rfl)
theorem dX7_lackOf_47 : decode cX7_lackOf 47 = .ok (.iconst 0, 1) := dk_3 (dk_at dksX7_lackOf_1 23 rfl rfl)
theorem dX7_lackOf_48 : decode cX7_lackOf 48 = .ok (.goto 4, 3) := dk_167 0 4 (dk_at dksX7_lackOf_2 0 rfl rfl)
theorem dX7_lackOf_51 : decode cX7_lackOf 51 = .ok (.iload_n 2, 1) := dk_28 (dk_at dksX7_lackOf_2 3 rfl rfl)
theorem dX7_lackOf_52 : decode cX7_lackOf 52 = .ok (.ireturn, 1) := dk_172 (dk_at dksX7_lackOf_2 4 rfl rfl)
abbrev cX7_grown : ByteArray := prog_19_method_93_code
def yX7_grown : MethodName := ⟨RX7, "grown", "(II)I"⟩
def dkwX7_grown_5 : List UInt8 := [136, 172]
abbrev dktX7_grown_5 : List UInt8 := dkwX7_grown_5 ++ []
def dkwX7_grown_4 : List UInt8 := [182, 0, 84, 42, 27, 4, 182, 0, 84, 42, 27, 8, 182, 0, 84, 184, 0, 106, 133, 105, 21, 4, 133, 109]
abbrev dktX7_grown_4 : List UInt8 := dkwX7_grown_4 ++ dktX7_grown_5
def dkwX7_grown_3 : List UInt8 := [180, 0, 13, 29, 46, 161, 0, 5, 3, 172, 42, 180, 0, 13, 29, 6, 96, 46, 133, 42, 27, 5]
abbrev dktX7_grown_3 : List UInt8 := dkwX7_grown_3 ++ dktX7_grown_4
def dkwX7_grown_2 : List UInt8 := [16, 9, 182, 0, 84, 42, 180, 0, 13, 29, 46, 162, 0, 19, 42, 27, 16, 10, 182, 0, 84, 42]
abbrev dktX7_grown_2 : List UInt8 := dkwX7_grown_2 ++ dktX7_grown_3
def dkwX7_grown_1 : List UInt8 := [182, 0, 84, 42, 180, 0, 13, 29, 4, 96, 46, 184, 0, 106, 54, 4, 21, 4, 153, 0, 35, 42, 27]
abbrev dktX7_grown_1 : List UInt8 := dkwX7_grown_1 ++ dktX7_grown_2
def dkwX7_grown_0 : List UInt8 := [17, 13, 242, 16, 40, 27, 104, 96, 8, 28, 104, 96, 62, 42, 27, 5, 182, 0, 84, 42, 27, 4]
abbrev dktX7_grown_0 : List UInt8 := dkwX7_grown_0 ++ dktX7_grown_1
theorem dksX7_grown_0 : cX7_grown.data.toList.drop 0 = dktX7_grown_0 := by decide +kernel
theorem dksX7_grown_1 : cX7_grown.data.toList.drop 22 = dktX7_grown_1 := dk_seg dksX7_grown_0 22 rfl rfl
theorem dksX7_grown_2 : cX7_grown.data.toList.drop 45 = dktX7_grown_2 := dk_seg dksX7_grown_1 23 rfl rfl
theorem dksX7_grown_3 : cX7_grown.data.toList.drop 67 = dktX7_grown_3 := dk_seg dksX7_grown_2 22 rfl rfl
theorem dksX7_grown_4 : cX7_grown.data.toList.drop 89 = dktX7_grown_4 := dk_seg dksX7_grown_3 22 rfl rfl
theorem dksX7_grown_5 : cX7_grown.data.toList.drop 113 = dktX7_grown_5 := dk_seg dksX7_grown_4 24 rfl rfl
theorem dX7_grown_0 : decode cX7_grown 0 = .ok (.sipush 3570, 3) := dk_17 13 242 (dk_at dksX7_grown_0 0 rfl rfl)
theorem dX7_grown_3 : decode cX7_grown 3 = .ok (.bipush 40, 2) := dk_16 40 (dk_at dksX7_grown_0 3 rfl rfl)
theorem dX7_grown_5 : decode cX7_grown 5 = .ok (.iload_n 1, 1) := dk_27 (dk_at dksX7_grown_0 5 rfl rfl)
theorem dX7_grown_6 : decode cX7_grown 6 = .ok (.imul, 1) := dk_104 (dk_at dksX7_grown_0 6 rfl rfl)
theorem dX7_grown_7 : decode cX7_grown 7 = .ok (.iadd, 1) := dk_96 (dk_at dksX7_grown_0 7 rfl rfl)
theorem dX7_grown_8 : decode cX7_grown 8 = .ok (.iconst 5, 1) := dk_8 (dk_at dksX7_grown_0 8 rfl rfl)
theorem dX7_grown_9 : decode cX7_grown 9 = .ok (.iload_n 2, 1) := dk_28 (dk_at dksX7_grown_0 9 rfl rfl)
theorem dX7_grown_10 : decode cX7_grown 10 = .ok (.imul, 1) := dk_104 (dk_at dksX7_grown_0 10 rfl rfl)
theorem dX7_grown_11 : decode cX7_grown 11 = .ok (.iadd, 1) := dk_96 (dk_at dksX7_grown_0 11 rfl rfl)
theorem dX7_grown_12 : decode cX7_grown 12 = .ok (.istore_n 3, 1) := dk_62 (dk_at dksX7_grown_0 12 rfl rfl)
theorem dX7_grown_13 : decode cX7_grown 13 = .ok (.aload_n 0, 1) := dk_42 (dk_at dksX7_grown_0 13 rfl rfl)
theorem dX7_grown_14 : decode cX7_grown 14 = .ok (.iload_n 1, 1) := dk_27 (dk_at dksX7_grown_0 14 rfl rfl)
theorem dX7_grown_15 : decode cX7_grown 15 = .ok (.iconst 2, 1) := dk_5 (dk_at dksX7_grown_0 15 rfl rfl)
theorem dX7_grown_16 : decode cX7_grown 16 = .ok (.invokevirtual 84, 3) := dk_182 0 84 (dk_at dksX7_grown_0 16 rfl rfl)
theorem dX7_grown_19 : decode cX7_grown 19 = .ok (.aload_n 0, 1) := dk_42 (dk_at dksX7_grown_0 19 rfl rfl)
theorem dX7_grown_20 : decode cX7_grown 20 = .ok (.iload_n 1, 1) := dk_27 (dk_at dksX7_grown_0 20 rfl rfl)
theorem dX7_grown_21 : decode cX7_grown 21 = .ok (.iconst 1, 1) := dk_4 (dk_at dksX7_grown_0 21 rfl rfl)
theorem dX7_grown_22 : decode cX7_grown 22 = .ok (.invokevirtual 84, 3) := dk_182 0 84 (dk_at dksX7_grown_1 0 rfl rfl)
theorem dX7_grown_25 : decode cX7_grown 25 = .ok (.aload_n 0, 1) := dk_42 (dk_at dksX7_grown_1 3 rfl rfl)
theorem dX7_grown_26 : decode cX7_grown 26 = .ok (.getfield 13, 3) := dk_180 0 13 (dk_at dksX7_grown_1 4 rfl rfl)
theorem dX7_grown_29 : decode cX7_grown 29 = .ok (.iload_n 3, 1) := dk_29 (dk_at dksX7_grown_1 7 rfl rfl)
theorem dX7_grown_30 : decode cX7_grown 30 = .ok (.iconst 1, 1) := dk_4 (dk_at dksX7_grown_1 8 rfl rfl)
theorem dX7_grown_31 : decode cX7_grown 31 = .ok (.iadd, 1) := dk_96 (dk_at dksX7_grown_1 9 rfl rfl)
theorem dX7_grown_32 : decode cX7_grown 32 = .ok (.iaload, 1) := dk_46 (dk_at dksX7_grown_1 10 rfl rfl)
theorem dX7_grown_33 : decode cX7_grown 33 = .ok (.invokestatic 106, 3) := dk_184 0 106 (dk_at dksX7_grown_1 11 rfl rfl)
theorem dX7_grown_36 : decode cX7_grown 36 = .ok (.istore 4, 2) := dk_54 4 (dk_at dksX7_grown_1 14 rfl rfl)
theorem dX7_grown_38 : decode cX7_grown 38 = .ok (.iload 4, 2) := dk_21 4 (dk_at dksX7_grown_1 16 rfl rfl)
theorem dX7_grown_40 : decode cX7_grown 40 = .ok (.ifCond .eq 35, 3) := dk_153 0 35 (dk_at dksX7_grown_1 18 rfl rfl)
theorem dX7_grown_43 : decode cX7_grown 43 = .ok (.aload_n 0, 1) := dk_42 (dk_at dksX7_grown_1 21 rfl rfl)
theorem dX7_grown_44 : decode cX7_grown 44 = .ok (.iload_n 1, 1) := dk_27 (dk_at dksX7_grown_1 22 rfl rfl)
theorem dX7_grown_45 : decode cX7_grown 45 = .ok (.bipush 9, 2) := dk_16 9 (dk_at dksX7_grown_2 0 rfl rfl)
theorem dX7_grown_47 : decode cX7_grown 47 = .ok (.invokevirtual 84, 3) := dk_182 0 84 (dk_at dksX7_grown_2 2 rfl rfl)
theorem dX7_grown_50 : decode cX7_grown 50 = .ok (.aload_n 0, 1) := dk_42 (dk_at dksX7_grown_2 5 rfl rfl)
theorem dX7_grown_51 : decode cX7_grown 51 = .ok (.getfield 13, 3) := dk_180 0 13 (dk_at dksX7_grown_2 6 rfl rfl)
theorem dX7_grown_54 : decode cX7_grown 54 = .ok (.iload_n 3, 1) := dk_29 (dk_at dksX7_grown_2 9 rfl rfl)
theorem dX7_grown_55 : decode cX7_grown 55 = .ok (.iaload, 1) := dk_46 (dk_at dksX7_grown_2 10 rfl rfl)
theorem dX7_grown_56 : decode cX7_grown 56 = .ok (.if_icmp .ge 19, 3) := dk_162 0 19 (dk_at dksX7_grown_2 11 rfl rfl)
theorem dX7_grown_59 : decode cX7_grown 59 = .ok (.aload_n 0, 1) := dk_42 (dk_at dksX7_grown_2 14 rfl rfl)
theorem dX7_grown_60 : decode cX7_grown 60 = .ok (.iload_n 1, 1) := dk_27 (dk_at dksX7_grown_2 15 rfl rfl)
theorem dX7_grown_61 : decode cX7_grown 61 = .ok (.bipush 10, 2) := dk_16 10 (dk_at dksX7_grown_2 16 rfl rfl)
theorem dX7_grown_63 : decode cX7_grown 63 = .ok (.invokevirtual 84, 3) := dk_182 0 84 (dk_at dksX7_grown_2 18 rfl rfl)
theorem dX7_grown_66 : decode cX7_grown 66 = .ok (.aload_n 0, 1) := dk_42 (dk_at dksX7_grown_2 21 rfl rfl)
theorem dX7_grown_67 : decode cX7_grown 67 = .ok (.getfield 13, 3) := dk_180 0 13 (dk_at dksX7_grown_3 0 rfl rfl)
theorem dX7_grown_70 : decode cX7_grown 70 = .ok (.iload_n 3, 1) := dk_29 (dk_at dksX7_grown_3 3 rfl rfl)
theorem dX7_grown_71 : decode cX7_grown 71 = .ok (.iaload, 1) := dk_46 (dk_at dksX7_grown_3 4 rfl rfl)
theorem dX7_grown_72 : decode cX7_grown 72 = .ok (.if_icmp .lt 5, 3) := dk_161 0 5 (dk_at dksX7_grown_3 5 rfl rfl)
theorem dX7_grown_75 : decode cX7_grown 75 = .ok (.iconst 0, 1) := dk_3 (dk_at dksX7_grown_3 8 rfl rfl)
theorem dX7_grown_76 : decode cX7_grown 76 = .ok (.ireturn, 1) := dk_172 (dk_at dksX7_grown_3 9 rfl rfl)
theorem dX7_grown_77 : decode cX7_grown 77 = .ok (.aload_n 0, 1) := dk_42 (dk_at dksX7_grown_3 10 rfl rfl)
theorem dX7_grown_78 : decode cX7_grown 78 = .ok (.getfield 13, 3) := dk_180 0 13 (dk_at dksX7_grown_3 11 rfl rfl)
theorem dX7_grown_81 : decode cX7_grown 81 = .ok (.iload_n 3, 1) := dk_29 (dk_at dksX7_grown_3 14 rfl rfl)
theorem dX7_grown_82 : decode cX7_grown 82 = .ok (.iconst 3, 1) := dk_6 (dk_at dksX7_grown_3 15 rfl rfl)
theorem dX7_grown_83 : decode cX7_grown 83 = .ok (.iadd, 1) := dk_96 (dk_at dksX7_grown_3 16 rfl rfl)
theorem dX7_grown_84 : decode cX7_grown 84 = .ok (.iaload, 1) := dk_46 (dk_at dksX7_grown_3 17 rfl rfl)
theorem dX7_grown_85 : decode cX7_grown 85 = .ok (.i2l, 1) := dk_133 (dk_at dksX7_grown_3 18 rfl rfl)
theorem dX7_grown_86 : decode cX7_grown 86 = .ok (.aload_n 0, 1) := dk_42 (dk_at dksX7_grown_3 19 rfl rfl)
theorem dX7_grown_87 : decode cX7_grown 87 = .ok (.iload_n 1, 1) := dk_27 (dk_at dksX7_grown_3 20 rfl rfl)
theorem dX7_grown_88 : decode cX7_grown 88 = .ok (.iconst 2, 1) := dk_5 (dk_at dksX7_grown_3 21 rfl rfl)
theorem dX7_grown_89 : decode cX7_grown 89 = .ok (.invokevirtual 84, 3) := dk_182 0 84 (dk_at dksX7_grown_4 0 rfl rfl)
theorem dX7_grown_92 : decode cX7_grown 92 = .ok (.aload_n 0, 1) := dk_42 (dk_at dksX7_grown_4 3 rfl rfl)
theorem dX7_grown_93 : decode cX7_grown 93 = .ok (.iload_n 1, 1) := dk_27 (dk_at dksX7_grown_4 4 rfl rfl)
theorem dX7_grown_94 : decode cX7_grown 94 = .ok (.iconst 1, 1) := dk_4 (dk_at dksX7_grown_4 5 rfl rfl)
theorem dX7_grown_95 : decode cX7_grown 95 = .ok (.invokevirtual 84, 3) := dk_182 0 84 (dk_at dksX7_grown_4 6 rfl rfl)
theorem dX7_grown_98 : decode cX7_grown 98 = .ok (.aload_n 0, 1) := dk_42 (dk_at dksX7_grown_4 9 rfl rfl)
theorem dX7_grown_99 : decode cX7_grown 99 = .ok (.iload_n 1, 1) := dk_27 (dk_at dksX7_grown_4 10 rfl rfl)
theorem dX7_grown_100 : decode cX7_grown 100 = .ok (.iconst 5, 1) := dk_8 (dk_at dksX7_grown_4 11 rfl rfl)
theorem dX7_grown_101 : decode cX7_grown 101 = .ok (.invokevirtual 84, 3) := dk_182 0 84 (dk_at dksX7_grown_4 12 rfl rfl)
theorem dX7_grown_104 : decode cX7_grown 104 = .ok (.invokestatic 106, 3) := dk_184 0 106 (dk_at dksX7_grown_4 15 rfl rfl)
theorem dX7_grown_107 : decode cX7_grown 107 = .ok (.i2l, 1) := dk_133 (dk_at dksX7_grown_4 18 rfl rfl)
theorem dX7_grown_108 : decode cX7_grown 108 = .ok (.lmul, 1) := dk_105 (dk_at dksX7_grown_4 19 rfl rfl)
theorem dX7_grown_109 : decode cX7_grown 109 = .ok (.iload 4, 2) := dk_21 4 (dk_at dksX7_grown_4 20 rfl rfl)
theorem dX7_grown_111 : decode cX7_grown 111 = .ok (.i2l, 1) := dk_133 (dk_at dksX7_grown_4 22 rfl rfl)
theorem dX7_grown_112 : decode cX7_grown 112 = .ok (.ldiv, 1) := dk_109 (dk_at dksX7_grown_4 23 rfl rfl)
theorem dX7_grown_113 : decode cX7_grown 113 = .ok (.l2i, 1) := dk_136 (dk_at dksX7_grown_5 0 rfl rfl)
theorem dX7_grown_114 : decode cX7_grown 114 = .ok (.ireturn, 1) := dk_172 (dk_at dksX7_grown_5 1 rfl rfl)
abbrev cX7_free : ByteArray := prog_19_method_32_code
def yX7_free : MethodName := ⟨RX7, "free", "()I"⟩
def dkwX7_free_1 : List UInt8 := [27, 172]
abbrev dktX7_free_1 : List UInt8 := dkwX7_free_1 ++ []
def dkwX7_free_0 : List UInt8 := [3, 60, 27, 16, 60, 162, 0, 19, 42, 27, 3, 182, 0, 149, 4, 160, 0, 9, 132, 1, 1, 167, 255, 237]
abbrev dktX7_free_0 : List UInt8 := dkwX7_free_0 ++ dktX7_free_1
theorem dksX7_free_0 : cX7_free.data.toList.drop 0 = dktX7_free_0 := by decide +kernel
theorem dksX7_free_1 : cX7_free.data.toList.drop 24 = dktX7_free_1 := dk_seg dksX7_free_0 24 rfl rfl
theorem dX7_free_0 : decode cX7_free 0 = .ok (.iconst 0, 1) := dk_3 (dk_at dksX7_free_0 0 rfl rfl)
theorem dX7_free_1 : decode cX7_free 1 = .ok (.istore_n 1, 1) := dk_60 (dk_at dksX7_free_0 1 rfl rfl)
theorem dX7_free_2 : decode cX7_free 2 = .ok (.iload_n 1, 1) := dk_27 (dk_at dksX7_free_0 2 rfl rfl)
theorem dX7_free_3 : decode cX7_free 3 = .ok (.bipush 60, 2) := dk_16 60 (dk_at dksX7_free_0 3 rfl rfl)
theorem dX7_free_5 : decode cX7_free 5 = .ok (.if_icmp .ge 19, 3) := dk_162 0 19 (dk_at dksX7_free_0 5 rfl rfl)
theorem dX7_free_8 : decode cX7_free 8 = .ok (.aload_n 0, 1) := dk_42 (dk_at dksX7_free_0 8 rfl rfl)
theorem dX7_free_9 : decode cX7_free 9 = .ok (.iload_n 1, 1) := dk_27 (dk_at dksX7_free_0 9 rfl rfl)
theorem dX7_free_10 : decode cX7_free 10 = .ok (.iconst 0, 1) := dk_3 (dk_at dksX7_free_0 10 rfl rfl)
theorem dX7_free_11 : decode cX7_free 11 = .ok (.invokevirtual 149, 3) := dk_182 0 149 (dk_at dksX7_free_0 11 rfl rfl)
theorem dX7_free_14 : decode cX7_free 14 = .ok (.iconst 1, 1) := dk_4 (dk_at dksX7_free_0 14 rfl rfl)
theorem dX7_free_15 : decode cX7_free 15 = .ok (.if_icmp .ne 9, 3) := dk_160 0 9 (dk_at dksX7_free_0 15 rfl rfl)
theorem dX7_free_18 : decode cX7_free 18 = .ok (.iinc 1 1, 3) := dk_132 1 1 (dk_at dksX7_free_0 18 rfl rfl)
theorem dX7_free_21 : decode cX7_free 21 = .ok (.goto (-19), 3) := dk_167 255 237 (dk_at dksX7_free_0 21 rfl rfl)
theorem dX7_free_24 : decode cX7_free 24 = .ok (.iload_n 1, 1) := dk_27 (dk_at dksX7_free_1 0 rfl rfl)
theorem dX7_free_25 : decode cX7_free 25 = .ok (.ireturn, 1) := dk_172 (dk_at dksX7_free_1 1 rfl rfl)
abbrev cX7_makes : ByteArray := prog_19_method_33_code
def yX7_makes : MethodName := ⟨RX7, "makes", "(IIII)I"⟩
def dkwX7_makes_3 : List UInt8 := [42, 180, 0, 13, 21, 6, 8, 96, 21, 4, 79, 21, 5, 172]
abbrev dktX7_makes_3 : List UInt8 := dkwX7_makes_3 ++ []
def dkwX7_makes_2 : List UInt8 := [180, 0, 13, 21, 6, 6, 96, 29, 79, 42, 180, 0, 13, 21, 6, 7, 96, 42, 180, 0, 13, 3, 46, 79]
abbrev dktX7_makes_2 : List UInt8 := dkwX7_makes_2 ++ dktX7_makes_3
def dkwX7_makes_1 : List UInt8 := [79, 42, 180, 0, 13, 21, 6, 4, 96, 27, 79, 42, 180, 0, 13, 21, 6, 5, 96, 28, 79, 42]
abbrev dktX7_makes_1 : List UInt8 := dkwX7_makes_1 ++ dktX7_makes_2
def dkwX7_makes_0 : List UInt8 := [42, 182, 0, 152, 54, 5, 17, 3, 192, 16, 6, 21, 5, 104, 96, 54, 6, 42, 180, 0, 13, 21, 6, 4]
abbrev dktX7_makes_0 : List UInt8 := dkwX7_makes_0 ++ dktX7_makes_1
theorem dksX7_makes_0 : cX7_makes.data.toList.drop 0 = dktX7_makes_0 := by decide +kernel
theorem dksX7_makes_1 : cX7_makes.data.toList.drop 24 = dktX7_makes_1 := dk_seg dksX7_makes_0 24 rfl rfl
theorem dksX7_makes_2 : cX7_makes.data.toList.drop 46 = dktX7_makes_2 := dk_seg dksX7_makes_1 22 rfl rfl
theorem dksX7_makes_3 : cX7_makes.data.toList.drop 70 = dktX7_makes_3 := dk_seg dksX7_makes_2 24 rfl rfl
theorem dX7_makes_0 : decode cX7_makes 0 = .ok (.aload_n 0, 1) := dk_42 (dk_at dksX7_makes_0 0 rfl rfl)
theorem dX7_makes_1 : decode cX7_makes 1 = .ok (.invokevirtual 152, 3) := dk_182 0 152 (dk_at dksX7_makes_0 1 rfl rfl)
theorem dX7_makes_4 : decode cX7_makes 4 = .ok (.istore 5, 2) := dk_54 5 (dk_at dksX7_makes_0 4 rfl rfl)
theorem dX7_makes_6 : decode cX7_makes 6 = .ok (.sipush 960, 3) := dk_17 3 192 (dk_at dksX7_makes_0 6 rfl rfl)
theorem dX7_makes_9 : decode cX7_makes 9 = .ok (.bipush 6, 2) := dk_16 6 (dk_at dksX7_makes_0 9 rfl rfl)
theorem dX7_makes_11 : decode cX7_makes 11 = .ok (.iload 5, 2) := dk_21 5 (dk_at dksX7_makes_0 11 rfl rfl)
theorem dX7_makes_13 : decode cX7_makes 13 = .ok (.imul, 1) := dk_104 (dk_at dksX7_makes_0 13 rfl rfl)
theorem dX7_makes_14 : decode cX7_makes 14 = .ok (.iadd, 1) := dk_96 (dk_at dksX7_makes_0 14 rfl rfl)
theorem dX7_makes_15 : decode cX7_makes 15 = .ok (.istore 6, 2) := dk_54 6 (dk_at dksX7_makes_0 15 rfl rfl)
theorem dX7_makes_17 : decode cX7_makes 17 = .ok (.aload_n 0, 1) := dk_42 (dk_at dksX7_makes_0 17 rfl rfl)
theorem dX7_makes_18 : decode cX7_makes 18 = .ok (.getfield 13, 3) := dk_180 0 13 (dk_at dksX7_makes_0 18 rfl rfl)
theorem dX7_makes_21 : decode cX7_makes 21 = .ok (.iload 6, 2) := dk_21 6 (dk_at dksX7_makes_0 21 rfl rfl)
theorem dX7_makes_23 : decode cX7_makes 23 = .ok (.iconst 1, 1) := dk_4 (dk_at dksX7_makes_0 23 rfl rfl)
theorem dX7_makes_24 : decode cX7_makes 24 = .ok (.iastore, 1) := dk_79 (dk_at dksX7_makes_1 0 rfl rfl)
theorem dX7_makes_25 : decode cX7_makes 25 = .ok (.aload_n 0, 1) := dk_42 (dk_at dksX7_makes_1 1 rfl rfl)
theorem dX7_makes_26 : decode cX7_makes 26 = .ok (.getfield 13, 3) := dk_180 0 13 (dk_at dksX7_makes_1 2 rfl rfl)
theorem dX7_makes_29 : decode cX7_makes 29 = .ok (.iload 6, 2) := dk_21 6 (dk_at dksX7_makes_1 5 rfl rfl)
theorem dX7_makes_31 : decode cX7_makes 31 = .ok (.iconst 1, 1) := dk_4 (dk_at dksX7_makes_1 7 rfl rfl)
theorem dX7_makes_32 : decode cX7_makes 32 = .ok (.iadd, 1) := dk_96 (dk_at dksX7_makes_1 8 rfl rfl)
theorem dX7_makes_33 : decode cX7_makes 33 = .ok (.iload_n 1, 1) := dk_27 (dk_at dksX7_makes_1 9 rfl rfl)
theorem dX7_makes_34 : decode cX7_makes 34 = .ok (.iastore, 1) := dk_79 (dk_at dksX7_makes_1 10 rfl rfl)
theorem dX7_makes_35 : decode cX7_makes 35 = .ok (.aload_n 0, 1) := dk_42 (dk_at dksX7_makes_1 11 rfl rfl)
theorem dX7_makes_36 : decode cX7_makes 36 = .ok (.getfield 13, 3) := dk_180 0 13 (dk_at dksX7_makes_1 12 rfl rfl)
theorem dX7_makes_39 : decode cX7_makes 39 = .ok (.iload 6, 2) := dk_21 6 (dk_at dksX7_makes_1 15 rfl rfl)
theorem dX7_makes_41 : decode cX7_makes 41 = .ok (.iconst 2, 1) := dk_5 (dk_at dksX7_makes_1 17 rfl rfl)
theorem dX7_makes_42 : decode cX7_makes 42 = .ok (.iadd, 1) := dk_96 (dk_at dksX7_makes_1 18 rfl rfl)
theorem dX7_makes_43 : decode cX7_makes 43 = .ok (.iload_n 2, 1) := dk_28 (dk_at dksX7_makes_1 19 rfl rfl)
theorem dX7_makes_44 : decode cX7_makes 44 = .ok (.iastore, 1) := dk_79 (dk_at dksX7_makes_1 20 rfl rfl)
theorem dX7_makes_45 : decode cX7_makes 45 = .ok (.aload_n 0, 1) := dk_42 (dk_at dksX7_makes_1 21 rfl rfl)
theorem dX7_makes_46 : decode cX7_makes 46 = .ok (.getfield 13, 3) := dk_180 0 13 (dk_at dksX7_makes_2 0 rfl rfl)
theorem dX7_makes_49 : decode cX7_makes 49 = .ok (.iload 6, 2) := dk_21 6 (dk_at dksX7_makes_2 3 rfl rfl)
theorem dX7_makes_51 : decode cX7_makes 51 = .ok (.iconst 3, 1) := dk_6 (dk_at dksX7_makes_2 5 rfl rfl)
theorem dX7_makes_52 : decode cX7_makes 52 = .ok (.iadd, 1) := dk_96 (dk_at dksX7_makes_2 6 rfl rfl)
theorem dX7_makes_53 : decode cX7_makes 53 = .ok (.iload_n 3, 1) := dk_29 (dk_at dksX7_makes_2 7 rfl rfl)
theorem dX7_makes_54 : decode cX7_makes 54 = .ok (.iastore, 1) := dk_79 (dk_at dksX7_makes_2 8 rfl rfl)
theorem dX7_makes_55 : decode cX7_makes 55 = .ok (.aload_n 0, 1) := dk_42 (dk_at dksX7_makes_2 9 rfl rfl)
theorem dX7_makes_56 : decode cX7_makes 56 = .ok (.getfield 13, 3) := dk_180 0 13 (dk_at dksX7_makes_2 10 rfl rfl)
theorem dX7_makes_59 : decode cX7_makes 59 = .ok (.iload 6, 2) := dk_21 6 (dk_at dksX7_makes_2 13 rfl rfl)
theorem dX7_makes_61 : decode cX7_makes 61 = .ok (.iconst 4, 1) := dk_7 (dk_at dksX7_makes_2 15 rfl rfl)
theorem dX7_makes_62 : decode cX7_makes 62 = .ok (.iadd, 1) := dk_96 (dk_at dksX7_makes_2 16 rfl rfl)
theorem dX7_makes_63 : decode cX7_makes 63 = .ok (.aload_n 0, 1) := dk_42 (dk_at dksX7_makes_2 17 rfl rfl)
theorem dX7_makes_64 : decode cX7_makes 64 = .ok (.getfield 13, 3) := dk_180 0 13 (dk_at dksX7_makes_2 18 rfl rfl)
theorem dX7_makes_67 : decode cX7_makes 67 = .ok (.iconst 0, 1) := dk_3 (dk_at dksX7_makes_2 21 rfl rfl)
theorem dX7_makes_68 : decode cX7_makes 68 = .ok (.iaload, 1) := dk_46 (dk_at dksX7_makes_2 22 rfl rfl)
theorem dX7_makes_69 : decode cX7_makes 69 = .ok (.iastore, 1) := dk_79 (dk_at dksX7_makes_2 23 rfl rfl)
theorem dX7_makes_70 : decode cX7_makes 70 = .ok (.aload_n 0, 1) := dk_42 (dk_at dksX7_makes_3 0 rfl rfl)
theorem dX7_makes_71 : decode cX7_makes 71 = .ok (.getfield 13, 3) := dk_180 0 13 (dk_at dksX7_makes_3 1 rfl rfl)
theorem dX7_makes_74 : decode cX7_makes 74 = .ok (.iload 6, 2) := dk_21 6 (dk_at dksX7_makes_3 4 rfl rfl)
theorem dX7_makes_76 : decode cX7_makes 76 = .ok (.iconst 5, 1) := dk_8 (dk_at dksX7_makes_3 6 rfl rfl)
theorem dX7_makes_77 : decode cX7_makes 77 = .ok (.iadd, 1) := dk_96 (dk_at dksX7_makes_3 7 rfl rfl)
theorem dX7_makes_78 : decode cX7_makes 78 = .ok (.iload 4, 2) := dk_21 4 (dk_at dksX7_makes_3 8 rfl rfl)
theorem dX7_makes_80 : decode cX7_makes 80 = .ok (.iastore, 1) := dk_79 (dk_at dksX7_makes_3 10 rfl rfl)
theorem dX7_makes_81 : decode cX7_makes 81 = .ok (.iload 5, 2) := dk_21 5 (dk_at dksX7_makes_3 11 rfl rfl)
theorem dX7_makes_83 : decode cX7_makes 83 = .ok (.ireturn, 1) := dk_172 (dk_at dksX7_makes_3 13 rfl rfl)
abbrev cX7_settle : ByteArray := prog_19_method_38_code
def yX7_settle : MethodName := ⟨RX7, "settle", "(IZ)I"⟩
def dkwX7_settle_4 : List UInt8 := [17, 3, 192, 16, 6, 27, 104, 96, 3, 79, 29, 172]
abbrev dktX7_settle_4 : List UInt8 := dkwX7_settle_4 ++ []
def dkwX7_settle_3 : List UInt8 := [3, 182, 0, 129, 3, 17, 39, 16, 184, 0, 143, 133, 105, 20, 0, 110, 109, 97, 80, 42, 180, 0, 13]
abbrev dktX7_settle_3 : List UInt8 := dkwX7_settle_3 ++ dktX7_settle_4
def dkwX7_settle_2 : List UInt8 := [180, 0, 17, 16, 7, 92, 47, 29, 133, 42, 16, 6, 42, 27, 6, 182, 0, 149, 42, 180, 0, 13, 3, 46]
abbrev dktX7_settle_2 : List UInt8 := dkwX7_settle_2 ++ dktX7_settle_3
def dkwX7_settle_1 : List UInt8 := [159, 0, 10, 42, 16, 251, 182, 0, 80, 172, 42, 27, 5, 182, 0, 149, 62, 28, 153, 0, 47, 42]
abbrev dktX7_settle_1 : List UInt8 := dkwX7_settle_1 ++ dktX7_settle_2
def dkwX7_settle_0 : List UInt8 := [42, 27, 182, 0, 156, 154, 0, 10, 42, 16, 253, 182, 0, 80, 172, 42, 27, 4, 182, 0, 149, 5]
abbrev dktX7_settle_0 : List UInt8 := dkwX7_settle_0 ++ dktX7_settle_1
theorem dksX7_settle_0 : cX7_settle.data.toList.drop 0 = dktX7_settle_0 := by decide +kernel
theorem dksX7_settle_1 : cX7_settle.data.toList.drop 22 = dktX7_settle_1 := dk_seg dksX7_settle_0 22 rfl rfl
theorem dksX7_settle_2 : cX7_settle.data.toList.drop 44 = dktX7_settle_2 := dk_seg dksX7_settle_1 22 rfl rfl
theorem dksX7_settle_3 : cX7_settle.data.toList.drop 68 = dktX7_settle_3 := dk_seg dksX7_settle_2 24 rfl rfl
theorem dksX7_settle_4 : cX7_settle.data.toList.drop 91 = dktX7_settle_4 := dk_seg dksX7_settle_3 23 rfl rfl
theorem dX7_settle_0 : decode cX7_settle 0 = .ok (.aload_n 0, 1) := dk_42 (dk_at dksX7_settle_0 0 rfl rfl)
theorem dX7_settle_1 : decode cX7_settle 1 = .ok (.iload_n 1, 1) := dk_27 (dk_at dksX7_settle_0 1 rfl rfl)
theorem dX7_settle_2 : decode cX7_settle 2 = .ok (.invokevirtual 156, 3) := dk_182 0 156 (dk_at dksX7_settle_0 2 rfl rfl)
theorem dX7_settle_5 : decode cX7_settle 5 = .ok (.ifCond .ne 10, 3) := dk_154 0 10 (dk_at dksX7_settle_0 5 rfl rfl)
theorem dX7_settle_8 : decode cX7_settle 8 = .ok (.aload_n 0, 1) := dk_42 (dk_at dksX7_settle_0 8 rfl rfl)
theorem dX7_settle_9 : decode cX7_settle 9 = .ok (.bipush (-3), 2) := dk_16 253 (dk_at dksX7_settle_0 9 rfl rfl)
theorem dX7_settle_11 : decode cX7_settle 11 = .ok (.invokevirtual 80, 3) := dk_182 0 80 (dk_at dksX7_settle_0 11 rfl rfl)
theorem dX7_settle_14 : decode cX7_settle 14 = .ok (.ireturn, 1) := dk_172 (dk_at dksX7_settle_0 14 rfl rfl)
theorem dX7_settle_15 : decode cX7_settle 15 = .ok (.aload_n 0, 1) := dk_42 (dk_at dksX7_settle_0 15 rfl rfl)
theorem dX7_settle_16 : decode cX7_settle 16 = .ok (.iload_n 1, 1) := dk_27 (dk_at dksX7_settle_0 16 rfl rfl)
theorem dX7_settle_17 : decode cX7_settle 17 = .ok (.iconst 1, 1) := dk_4 (dk_at dksX7_settle_0 17 rfl rfl)
theorem dX7_settle_18 : decode cX7_settle 18 = .ok (.invokevirtual 149, 3) := dk_182 0 149 (dk_at dksX7_settle_0 18 rfl rfl)
theorem dX7_settle_21 : decode cX7_settle 21 = .ok (.iconst 2, 1) := dk_5 (dk_at dksX7_settle_0 21 rfl rfl)
theorem dX7_settle_22 : decode cX7_settle 22 = .ok (.if_icmp .eq 10, 3) := dk_159 0 10 (dk_at dksX7_settle_1 0 rfl rfl)
theorem dX7_settle_25 : decode cX7_settle 25 = .ok (.aload_n 0, 1) := dk_42 (dk_at dksX7_settle_1 3 rfl rfl)
theorem dX7_settle_26 : decode cX7_settle 26 = .ok (.bipush (-5), 2) := dk_16 251 (dk_at dksX7_settle_1 4 rfl rfl)
theorem dX7_settle_28 : decode cX7_settle 28 = .ok (.invokevirtual 80, 3) := dk_182 0 80 (dk_at dksX7_settle_1 6 rfl rfl)
theorem dX7_settle_31 : decode cX7_settle 31 = .ok (.ireturn, 1) := dk_172 (dk_at dksX7_settle_1 9 rfl rfl)
theorem dX7_settle_32 : decode cX7_settle 32 = .ok (.aload_n 0, 1) := dk_42 (dk_at dksX7_settle_1 10 rfl rfl)
theorem dX7_settle_33 : decode cX7_settle 33 = .ok (.iload_n 1, 1) := dk_27 (dk_at dksX7_settle_1 11 rfl rfl)
theorem dX7_settle_34 : decode cX7_settle 34 = .ok (.iconst 2, 1) := dk_5 (dk_at dksX7_settle_1 12 rfl rfl)
theorem dX7_settle_35 : decode cX7_settle 35 = .ok (.invokevirtual 149, 3) := dk_182 0 149 (dk_at dksX7_settle_1 13 rfl rfl)
theorem dX7_settle_38 : decode cX7_settle 38 = .ok (.istore_n 3, 1) := dk_62 (dk_at dksX7_settle_1 16 rfl rfl)
theorem dX7_settle_39 : decode cX7_settle 39 = .ok (.iload_n 2, 1) := dk_28 (dk_at dksX7_settle_1 17 rfl rfl)
theorem dX7_settle_40 : decode cX7_settle 40 = .ok (.ifCond .eq 47, 3) := dk_153 0 47 (dk_at dksX7_settle_1 18 rfl rfl)
theorem dX7_settle_43 : decode cX7_settle 43 = .ok (.aload_n 0, 1) := dk_42 (dk_at dksX7_settle_1 21 rfl rfl)
theorem dX7_settle_44 : decode cX7_settle 44 = .ok (.getfield 17, 3) := dk_180 0 17 (dk_at dksX7_settle_2 0 rfl rfl)
theorem dX7_settle_47 : decode cX7_settle 47 = .ok (.bipush 7, 2) := dk_16 7 (dk_at dksX7_settle_2 3 rfl rfl)
theorem dX7_settle_49 : decode cX7_settle 49 = .ok (.dup2, 1) := dk_92 (dk_at dksX7_settle_2 5 rfl rfl)
theorem dX7_settle_50 : decode cX7_settle 50 = .ok (.laload, 1) := dk_47 (dk_at dksX7_settle_2 6 rfl rfl)
theorem dX7_settle_51 : decode cX7_settle 51 = .ok (.iload_n 3, 1) := dk_29 (dk_at dksX7_settle_2 7 rfl rfl)
theorem dX7_settle_52 : decode cX7_settle 52 = .ok (.i2l, 1) := dk_133 (dk_at dksX7_settle_2 8 rfl rfl)
theorem dX7_settle_53 : decode cX7_settle 53 = .ok (.aload_n 0, 1) := dk_42 (dk_at dksX7_settle_2 9 rfl rfl)
theorem dX7_settle_54 : decode cX7_settle 54 = .ok (.bipush 6, 2) := dk_16 6 (dk_at dksX7_settle_2 10 rfl rfl)
theorem dX7_settle_56 : decode cX7_settle 56 = .ok (.aload_n 0, 1) := dk_42 (dk_at dksX7_settle_2 12 rfl rfl)
theorem dX7_settle_57 : decode cX7_settle 57 = .ok (.iload_n 1, 1) := dk_27 (dk_at dksX7_settle_2 13 rfl rfl)
theorem dX7_settle_58 : decode cX7_settle 58 = .ok (.iconst 3, 1) := dk_6 (dk_at dksX7_settle_2 14 rfl rfl)
theorem dX7_settle_59 : decode cX7_settle 59 = .ok (.invokevirtual 149, 3) := dk_182 0 149 (dk_at dksX7_settle_2 15 rfl rfl)
theorem dX7_settle_62 : decode cX7_settle 62 = .ok (.aload_n 0, 1) := dk_42 (dk_at dksX7_settle_2 18 rfl rfl)
theorem dX7_settle_63 : decode cX7_settle 63 = .ok (.getfield 13, 3) := dk_180 0 13 (dk_at dksX7_settle_2 19 rfl rfl)
theorem dX7_settle_66 : decode cX7_settle 66 = .ok (.iconst 0, 1) := dk_3 (dk_at dksX7_settle_2 22 rfl rfl)
theorem dX7_settle_67 : decode cX7_settle 67 = .ok (.iaload, 1) := dk_46 (dk_at dksX7_settle_2 23 rfl rfl)
theorem dX7_settle_68 : decode cX7_settle 68 = .ok (.iconst 0, 1) := dk_3 (dk_at dksX7_settle_3 0 rfl rfl)
theorem dX7_settle_69 : decode cX7_settle 69 = .ok (.invokevirtual 129, 3) := dk_182 0 129 (dk_at dksX7_settle_3 1 rfl rfl)
theorem dX7_settle_72 : decode cX7_settle 72 = .ok (.iconst 0, 1) := dk_3 (dk_at dksX7_settle_3 4 rfl rfl)
theorem dX7_settle_73 : decode cX7_settle 73 = .ok (.sipush 10000, 3) := dk_17 39 16 (dk_at dksX7_settle_3 5 rfl rfl)
theorem dX7_settle_76 : decode cX7_settle 76 = .ok (.invokestatic 143, 3) := dk_184 0 143 (dk_at dksX7_settle_3 8 rfl rfl)
theorem dX7_settle_79 : decode cX7_settle 79 = .ok (.i2l, 1) := dk_133 (dk_at dksX7_settle_3 11 rfl rfl)
theorem dX7_settle_80 : decode cX7_settle 80 = .ok (.lmul, 1) := dk_105 (dk_at dksX7_settle_3 12 rfl rfl)
theorem dX7_settle_81 : decode cX7_settle 81 = .ok (.ldc2_w 110, 3) := dk_20 0 110 (dk_at dksX7_settle_3 13 rfl rfl)
theorem dX7_settle_84 : decode cX7_settle 84 = .ok (.ldiv, 1) := dk_109 (dk_at dksX7_settle_3 16 rfl rfl)
theorem dX7_settle_85 : decode cX7_settle 85 = .ok (.ladd, 1) := dk_97 (dk_at dksX7_settle_3 17 rfl rfl)
theorem dX7_settle_86 : decode cX7_settle 86 = .ok (.lastore, 1) := dk_80 (dk_at dksX7_settle_3 18 rfl rfl)
theorem dX7_settle_87 : decode cX7_settle 87 = .ok (.aload_n 0, 1) := dk_42 (dk_at dksX7_settle_3 19 rfl rfl)
theorem dX7_settle_88 : decode cX7_settle 88 = .ok (.getfield 13, 3) := dk_180 0 13 (dk_at dksX7_settle_3 20 rfl rfl)
theorem dX7_settle_91 : decode cX7_settle 91 = .ok (.sipush 960, 3) := dk_17 3 192 (dk_at dksX7_settle_4 0 rfl rfl)
theorem dX7_settle_94 : decode cX7_settle 94 = .ok (.bipush 6, 2) := dk_16 6 (dk_at dksX7_settle_4 3 rfl rfl)
theorem dX7_settle_96 : decode cX7_settle 96 = .ok (.iload_n 1, 1) := dk_27 (dk_at dksX7_settle_4 5 rfl rfl)
theorem dX7_settle_97 : decode cX7_settle 97 = .ok (.imul, 1) := dk_104 (dk_at dksX7_settle_4 6 rfl rfl)
theorem dX7_settle_98 : decode cX7_settle 98 = .ok (.iadd, 1) := dk_96 (dk_at dksX7_settle_4 7 rfl rfl)
theorem dX7_settle_99 : decode cX7_settle 99 = .ok (.iconst 0, 1) := dk_3 (dk_at dksX7_settle_4 8 rfl rfl)
theorem dX7_settle_100 : decode cX7_settle 100 = .ok (.iastore, 1) := dk_79 (dk_at dksX7_settle_4 9 rfl rfl)
theorem dX7_settle_101 : decode cX7_settle 101 = .ok (.iload_n 3, 1) := dk_29 (dk_at dksX7_settle_4 10 rfl rfl)
theorem dX7_settle_102 : decode cX7_settle 102 = .ok (.ireturn, 1) := dk_172 (dk_at dksX7_settle_4 11 rfl rfl)
abbrev cX7_book : ByteArray := prog_19_method_39_code
def yX7_book : MethodName := ⟨RX7, "book", "(I)J"⟩
def dkwX7_book_1 : List UInt8 := [182, 0, 165, 133, 173]
abbrev dktX7_book_1 : List UInt8 := dkwX7_book_1 ++ []
def dkwX7_book_0 : List UInt8 := [27, 3, 16, 7, 184, 0, 76, 153, 0, 12, 42, 180, 0, 17, 27, 47, 167, 0, 10, 42, 16, 253]
abbrev dktX7_book_0 : List UInt8 := dkwX7_book_0 ++ dktX7_book_1
theorem dksX7_book_0 : cX7_book.data.toList.drop 0 = dktX7_book_0 := by decide +kernel
theorem dksX7_book_1 : cX7_book.data.toList.drop 22 = dktX7_book_1 := dk_seg dksX7_book_0 22 rfl rfl
theorem dX7_book_0 : decode cX7_book 0 = .ok (.iload_n 1, 1) := dk_27 (dk_at dksX7_book_0 0 rfl rfl)
theorem dX7_book_1 : decode cX7_book 1 = .ok (.iconst 0, 1) := dk_3 (dk_at dksX7_book_0 1 rfl rfl)
theorem dX7_book_2 : decode cX7_book 2 = .ok (.bipush 7, 2) := dk_16 7 (dk_at dksX7_book_0 2 rfl rfl)
theorem dX7_book_4 : decode cX7_book 4 = .ok (.invokestatic 76, 3) := dk_184 0 76 (dk_at dksX7_book_0 4 rfl rfl)
theorem dX7_book_7 : decode cX7_book 7 = .ok (.ifCond .eq 12, 3) := dk_153 0 12 (dk_at dksX7_book_0 7 rfl rfl)
theorem dX7_book_10 : decode cX7_book 10 = .ok (.aload_n 0, 1) := dk_42 (dk_at dksX7_book_0 10 rfl rfl)
theorem dX7_book_11 : decode cX7_book 11 = .ok (.getfield 17, 3) := dk_180 0 17 (dk_at dksX7_book_0 11 rfl rfl)
theorem dX7_book_14 : decode cX7_book 14 = .ok (.iload_n 1, 1) := dk_27 (dk_at dksX7_book_0 14 rfl rfl)
theorem dX7_book_15 : decode cX7_book 15 = .ok (.laload, 1) := dk_47 (dk_at dksX7_book_0 15 rfl rfl)
theorem dX7_book_16 : decode cX7_book 16 = .ok (.goto 10, 3) := dk_167 0 10 (dk_at dksX7_book_0 16 rfl rfl)
theorem dX7_book_19 : decode cX7_book 19 = .ok (.aload_n 0, 1) := dk_42 (dk_at dksX7_book_0 19 rfl rfl)
theorem dX7_book_20 : decode cX7_book 20 = .ok (.bipush (-3), 2) := dk_16 253 (dk_at dksX7_book_0 20 rfl rfl)
theorem dX7_book_22 : decode cX7_book 22 = .ok (.invokevirtual 165, 3) := dk_182 0 165 (dk_at dksX7_book_1 0 rfl rfl)
theorem dX7_book_25 : decode cX7_book 25 = .ok (.i2l, 1) := dk_133 (dk_at dksX7_book_1 3 rfl rfl)
theorem dX7_book_26 : decode cX7_book 26 = .ok (.lreturn, 1) := dk_173 (dk_at dksX7_book_1 4 rfl rfl)
abbrev cX7_hush : ByteArray := prog_19_method_5_code
def yX7_hush : MethodName := ⟨RX7, "hush", "(I)I"⟩
def dkwX7_hush_0 : List UInt8 := [42, 180, 0, 21, 27, 116, 92, 46, 4, 96, 79, 3, 172]
abbrev dktX7_hush_0 : List UInt8 := dkwX7_hush_0 ++ []
theorem dksX7_hush_0 : cX7_hush.data.toList.drop 0 = dktX7_hush_0 := by decide +kernel
theorem dX7_hush_0 : decode cX7_hush 0 = .ok (.aload_n 0, 1) := dk_42 (dk_at dksX7_hush_0 0 rfl rfl)
theorem dX7_hush_1 : decode cX7_hush 1 = .ok (.getfield 21, 3) := dk_180 0 21 (dk_at dksX7_hush_0 1 rfl rfl)
theorem dX7_hush_4 : decode cX7_hush 4 = .ok (.iload_n 1, 1) := dk_27 (dk_at dksX7_hush_0 4 rfl rfl)
theorem dX7_hush_5 : decode cX7_hush 5 = .ok (.ineg, 1) := dk_116 (dk_at dksX7_hush_0 5 rfl rfl)
theorem dX7_hush_6 : decode cX7_hush 6 = .ok (.dup2, 1) := dk_92 (dk_at dksX7_hush_0 6 rfl rfl)
theorem dX7_hush_7 : decode cX7_hush 7 = .ok (.iaload, 1) := dk_46 (dk_at dksX7_hush_0 7 rfl rfl)
theorem dX7_hush_8 : decode cX7_hush 8 = .ok (.iconst 1, 1) := dk_4 (dk_at dksX7_hush_0 8 rfl rfl)
theorem dX7_hush_9 : decode cX7_hush 9 = .ok (.iadd, 1) := dk_96 (dk_at dksX7_hush_0 9 rfl rfl)
theorem dX7_hush_10 : decode cX7_hush 10 = .ok (.iastore, 1) := dk_79 (dk_at dksX7_hush_0 10 rfl rfl)
theorem dX7_hush_11 : decode cX7_hush 11 = .ok (.iconst 0, 1) := dk_3 (dk_at dksX7_hush_0 11 rfl rfl)
theorem dX7_hush_12 : decode cX7_hush 12 = .ok (.ireturn, 1) := dk_172 (dk_at dksX7_hush_0 12 rfl rfl)
abbrev cX7_feed : ByteArray := prog_19_method_57_code
def yX7_feed : MethodName := ⟨RX7, "feed", "(II)I"⟩
def dkwX7_feed_3 : List UInt8 := [180, 1, 70, 4, 96, 181, 1, 70, 132, 3, 255, 167, 255, 220, 42, 180, 1, 70, 172]
abbrev dktX7_feed_3 : List UInt8 := dkwX7_feed_3 ++ []
def dkwX7_feed_2 : List UInt8 := [155, 0, 38, 42, 180, 0, 24, 42, 180, 1, 70, 27, 16, 8, 29, 104, 122, 17, 0, 255, 126, 79, 42, 89]
abbrev dktX7_feed_2 : List UInt8 := dkwX7_feed_2 ++ dktX7_feed_3
def dkwX7_feed_1 : List UInt8 := [180, 1, 70, 28, 96, 16, 120, 164, 0, 10, 42, 16, 248, 182, 0, 80, 172, 28, 4, 100, 62, 29]
abbrev dktX7_feed_1 : List UInt8 := dkwX7_feed_1 ++ dktX7_feed_2
def dkwX7_feed_0 : List UInt8 := [28, 156, 0, 10, 42, 16, 252, 182, 0, 80, 172, 28, 7, 164, 0, 10, 42, 16, 249, 182, 0, 80, 172, 42]
abbrev dktX7_feed_0 : List UInt8 := dkwX7_feed_0 ++ dktX7_feed_1
theorem dksX7_feed_0 : cX7_feed.data.toList.drop 0 = dktX7_feed_0 := by decide +kernel
theorem dksX7_feed_1 : cX7_feed.data.toList.drop 24 = dktX7_feed_1 := dk_seg dksX7_feed_0 24 rfl rfl
theorem dksX7_feed_2 : cX7_feed.data.toList.drop 46 = dktX7_feed_2 := dk_seg dksX7_feed_1 22 rfl rfl
theorem dksX7_feed_3 : cX7_feed.data.toList.drop 70 = dktX7_feed_3 := dk_seg dksX7_feed_2 24 rfl rfl
theorem dX7_feed_0 : decode cX7_feed 0 = .ok (.iload_n 2, 1) := dk_28 (dk_at dksX7_feed_0 0 rfl rfl)
theorem dX7_feed_1 : decode cX7_feed 1 = .ok (.ifCond .ge 10, 3) := dk_156 0 10 (dk_at dksX7_feed_0 1 rfl rfl)
theorem dX7_feed_4 : decode cX7_feed 4 = .ok (.aload_n 0, 1) := dk_42 (dk_at dksX7_feed_0 4 rfl rfl)
theorem dX7_feed_5 : decode cX7_feed 5 = .ok (.bipush (-4), 2) := dk_16 252 (dk_at dksX7_feed_0 5 rfl rfl)
theorem dX7_feed_7 : decode cX7_feed 7 = .ok (.invokevirtual 80, 3) := dk_182 0 80 (dk_at dksX7_feed_0 7 rfl rfl)
theorem dX7_feed_10 : decode cX7_feed 10 = .ok (.ireturn, 1) := dk_172 (dk_at dksX7_feed_0 10 rfl rfl)
theorem dX7_feed_11 : decode cX7_feed 11 = .ok (.iload_n 2, 1) := dk_28 (dk_at dksX7_feed_0 11 rfl rfl)
theorem dX7_feed_12 : decode cX7_feed 12 = .ok (.iconst 4, 1) := dk_7 (dk_at dksX7_feed_0 12 rfl rfl)
theorem dX7_feed_13 : decode cX7_feed 13 = .ok (.if_icmp .le 10, 3) := dk_164 0 10 (dk_at dksX7_feed_0 13 rfl rfl)
theorem dX7_feed_16 : decode cX7_feed 16 = .ok (.aload_n 0, 1) := dk_42 (dk_at dksX7_feed_0 16 rfl rfl)
theorem dX7_feed_17 : decode cX7_feed 17 = .ok (.bipush (-7), 2) := dk_16 249 (dk_at dksX7_feed_0 17 rfl rfl)
theorem dX7_feed_19 : decode cX7_feed 19 = .ok (.invokevirtual 80, 3) := dk_182 0 80 (dk_at dksX7_feed_0 19 rfl rfl)
theorem dX7_feed_22 : decode cX7_feed 22 = .ok (.ireturn, 1) := dk_172 (dk_at dksX7_feed_0 22 rfl rfl)
theorem dX7_feed_23 : decode cX7_feed 23 = .ok (.aload_n 0, 1) := dk_42 (dk_at dksX7_feed_0 23 rfl rfl)
theorem dX7_feed_24 : decode cX7_feed 24 = .ok (.getfield 326, 3) := dk_180 1 70 (dk_at dksX7_feed_1 0 rfl rfl)
theorem dX7_feed_27 : decode cX7_feed 27 = .ok (.iload_n 2, 1) := dk_28 (dk_at dksX7_feed_1 3 rfl rfl)
theorem dX7_feed_28 : decode cX7_feed 28 = .ok (.iadd, 1) := dk_96 (dk_at dksX7_feed_1 4 rfl rfl)
theorem dX7_feed_29 : decode cX7_feed 29 = .ok (.bipush 120, 2) := dk_16 120 (dk_at dksX7_feed_1 5 rfl rfl)
theorem dX7_feed_31 : decode cX7_feed 31 = .ok (.if_icmp .le 10, 3) := dk_164 0 10 (dk_at dksX7_feed_1 7 rfl rfl)
theorem dX7_feed_34 : decode cX7_feed 34 = .ok (.aload_n 0, 1) := dk_42 (dk_at dksX7_feed_1 10 rfl rfl)
theorem dX7_feed_35 : decode cX7_feed 35 = .ok (.bipush (-8), 2) := dk_16 248 (dk_at dksX7_feed_1 11 rfl rfl)
theorem dX7_feed_37 : decode cX7_feed 37 = .ok (.invokevirtual 80, 3) := dk_182 0 80 (dk_at dksX7_feed_1 13 rfl rfl)
theorem dX7_feed_40 : decode cX7_feed 40 = .ok (.ireturn, 1) := dk_172 (dk_at dksX7_feed_1 16 rfl rfl)
theorem dX7_feed_41 : decode cX7_feed 41 = .ok (.iload_n 2, 1) := dk_28 (dk_at dksX7_feed_1 17 rfl rfl)
theorem dX7_feed_42 : decode cX7_feed 42 = .ok (.iconst 1, 1) := dk_4 (dk_at dksX7_feed_1 18 rfl rfl)
theorem dX7_feed_43 : decode cX7_feed 43 = .ok (.isub, 1) := dk_100 (dk_at dksX7_feed_1 19 rfl rfl)
theorem dX7_feed_44 : decode cX7_feed 44 = .ok (.istore_n 3, 1) := dk_62 (dk_at dksX7_feed_1 20 rfl rfl)
theorem dX7_feed_45 : decode cX7_feed 45 = .ok (.iload_n 3, 1) := dk_29 (dk_at dksX7_feed_1 21 rfl rfl)
theorem dX7_feed_46 : decode cX7_feed 46 = .ok (.ifCond .lt 38, 3) := dk_155 0 38 (dk_at dksX7_feed_2 0 rfl rfl)
theorem dX7_feed_49 : decode cX7_feed 49 = .ok (.aload_n 0, 1) := dk_42 (dk_at dksX7_feed_2 3 rfl rfl)
theorem dX7_feed_50 : decode cX7_feed 50 = .ok (.getfield 24, 3) := dk_180 0 24 (dk_at dksX7_feed_2 4 rfl rfl)
theorem dX7_feed_53 : decode cX7_feed 53 = .ok (.aload_n 0, 1) := dk_42 (dk_at dksX7_feed_2 7 rfl rfl)
theorem dX7_feed_54 : decode cX7_feed 54 = .ok (.getfield 326, 3) := dk_180 1 70 (dk_at dksX7_feed_2 8 rfl rfl)
theorem dX7_feed_57 : decode cX7_feed 57 = .ok (.iload_n 1, 1) := dk_27 (dk_at dksX7_feed_2 11 rfl rfl)
theorem dX7_feed_58 : decode cX7_feed 58 = .ok (.bipush 8, 2) := dk_16 8 (dk_at dksX7_feed_2 12 rfl rfl)
theorem dX7_feed_60 : decode cX7_feed 60 = .ok (.iload_n 3, 1) := dk_29 (dk_at dksX7_feed_2 14 rfl rfl)
theorem dX7_feed_61 : decode cX7_feed 61 = .ok (.imul, 1) := dk_104 (dk_at dksX7_feed_2 15 rfl rfl)
theorem dX7_feed_62 : decode cX7_feed 62 = .ok (.ishr, 1) := dk_122 (dk_at dksX7_feed_2 16 rfl rfl)
theorem dX7_feed_63 : decode cX7_feed 63 = .ok (.sipush 255, 3) := dk_17 0 255 (dk_at dksX7_feed_2 17 rfl rfl)
theorem dX7_feed_66 : decode cX7_feed 66 = .ok (.iand, 1) := dk_126 (dk_at dksX7_feed_2 20 rfl rfl)
theorem dX7_feed_67 : decode cX7_feed 67 = .ok (.iastore, 1) := dk_79 (dk_at dksX7_feed_2 21 rfl rfl)
theorem dX7_feed_68 : decode cX7_feed 68 = .ok (.aload_n 0, 1) := dk_42 (dk_at dksX7_feed_2 22 rfl rfl)
theorem dX7_feed_69 : decode cX7_feed 69 = .ok (.dup, 1) := dk_89 (dk_at dksX7_feed_2 23 rfl rfl)
theorem dX7_feed_70 : decode cX7_feed 70 = .ok (.getfield 326, 3) := dk_180 1 70 (dk_at dksX7_feed_3 0 rfl rfl)
theorem dX7_feed_73 : decode cX7_feed 73 = .ok (.iconst 1, 1) := dk_4 (dk_at dksX7_feed_3 3 rfl rfl)
theorem dX7_feed_74 : decode cX7_feed 74 = .ok (.iadd, 1) := dk_96 (dk_at dksX7_feed_3 4 rfl rfl)
theorem dX7_feed_75 : decode cX7_feed 75 = .ok (.putfield 326, 3) := dk_181 1 70 (dk_at dksX7_feed_3 5 rfl rfl)
theorem dX7_feed_78 : decode cX7_feed 78 = .ok (.iinc 3 (-1), 3) := dk_132 3 255 (dk_at dksX7_feed_3 8 rfl rfl)
theorem dX7_feed_81 : decode cX7_feed 81 = .ok (.goto (-36), 3) := dk_167 255 220 (dk_at dksX7_feed_3 11 rfl rfl)
theorem dX7_feed_84 : decode cX7_feed 84 = .ok (.aload_n 0, 1) := dk_42 (dk_at dksX7_feed_3 14 rfl rfl)
theorem dX7_feed_85 : decode cX7_feed 85 = .ok (.getfield 326, 3) := dk_180 1 70 (dk_at dksX7_feed_3 15 rfl rfl)
theorem dX7_feed_88 : decode cX7_feed 88 = .ok (.ireturn, 1) := dk_172 (dk_at dksX7_feed_3 18 rfl rfl)
abbrev cX7_wipe : ByteArray := prog_19_method_58_code
def yX7_wipe : MethodName := ⟨RX7, "wipe", "()I"⟩
def dkwX7_wipe_0 : List UInt8 := [42, 180, 1, 70, 60, 42, 3, 181, 1, 70, 27, 172]
abbrev dktX7_wipe_0 : List UInt8 := dkwX7_wipe_0 ++ []
theorem dksX7_wipe_0 : cX7_wipe.data.toList.drop 0 = dktX7_wipe_0 := by decide +kernel
theorem dX7_wipe_0 : decode cX7_wipe 0 = .ok (.aload_n 0, 1) := dk_42 (dk_at dksX7_wipe_0 0 rfl rfl)
theorem dX7_wipe_1 : decode cX7_wipe 1 = .ok (.getfield 326, 3) := dk_180 1 70 (dk_at dksX7_wipe_0 1 rfl rfl)
theorem dX7_wipe_4 : decode cX7_wipe 4 = .ok (.istore_n 1, 1) := dk_60 (dk_at dksX7_wipe_0 4 rfl rfl)
theorem dX7_wipe_5 : decode cX7_wipe 5 = .ok (.aload_n 0, 1) := dk_42 (dk_at dksX7_wipe_0 5 rfl rfl)
theorem dX7_wipe_6 : decode cX7_wipe 6 = .ok (.iconst 0, 1) := dk_3 (dk_at dksX7_wipe_0 6 rfl rfl)
theorem dX7_wipe_7 : decode cX7_wipe 7 = .ok (.putfield 326, 3) := dk_181 1 70 (dk_at dksX7_wipe_0 7 rfl rfl)
theorem dX7_wipe_10 : decode cX7_wipe 10 = .ok (.iload_n 1, 1) := dk_27 (dk_at dksX7_wipe_0 10 rfl rfl)
theorem dX7_wipe_11 : decode cX7_wipe 11 = .ok (.ireturn, 1) := dk_172 (dk_at dksX7_wipe_0 11 rfl rfl)
abbrev cX7_line : ByteArray := prog_19_method_59_code
def yX7_line : MethodName := ⟨RX7, "line", "()I"⟩
def dkwX7_line_12 : List UInt8 := [180, 0, 13, 7, 46, 4, 100, 172]
abbrev dktX7_line_12 : List UInt8 := dkwX7_line_12 ++ []
def dkwX7_line_11 : List UInt8 := [132, 3, 1, 167, 255, 229, 42, 3, 181, 1, 70, 42, 180, 0, 13, 7, 92, 46, 4, 96, 79, 42]
abbrev dktX7_line_11 : List UInt8 := dkwX7_line_11 ++ dktX7_line_12
def dkwX7_line_10 : List UInt8 := [42, 180, 1, 70, 162, 0, 25, 42, 180, 0, 13, 28, 8, 96, 29, 96, 42, 180, 0, 24, 29, 46, 79]
abbrev dktX7_line_10 : List UInt8 := dkwX7_line_10 ++ dktX7_line_11
def dkwX7_line_9 : List UInt8 := [42, 180, 0, 13, 28, 6, 96, 27, 79, 42, 180, 0, 13, 28, 7, 96, 42, 180, 1, 70, 79, 3, 62, 29]
abbrev dktX7_line_9 : List UInt8 := dkwX7_line_9 ++ dktX7_line_10
def dkwX7_line_8 : List UInt8 := [79, 42, 180, 0, 13, 28, 4, 96, 42, 180, 0, 13, 3, 46, 79, 42, 180, 0, 13, 28, 5, 96, 2, 79]
abbrev dktX7_line_8 : List UInt8 := dkwX7_line_8 ++ dktX7_line_9
def dkwX7_line_7 : List UInt8 := [79, 17, 5, 40, 16, 125, 42, 180, 0, 13, 7, 46, 104, 96, 61, 42, 180, 0, 13, 28, 42, 180, 1, 52]
abbrev dktX7_line_7 : List UInt8 := dkwX7_line_7 ++ dktX7_line_8
def dkwX7_line_6 : List UInt8 := [2, 159, 0, 10, 42, 16, 249, 182, 0, 80, 172, 42, 180, 0, 13, 28, 5, 96, 42, 180, 0, 13, 3, 46]
abbrev dktX7_line_6 : List UInt8 := dkwX7_line_6 ++ dktX7_line_7
def dkwX7_line_5 : List UInt8 := [7, 46, 162, 0, 26, 42, 180, 0, 13, 28, 46, 16, 8, 159, 0, 15, 42, 180, 0, 13, 28, 5, 96, 46]
abbrev dktX7_line_5 : List UInt8 := dkwX7_line_5 ++ dktX7_line_6
def dkwX7_line_4 : List UInt8 := [167, 0, 4, 2, 60, 27, 2, 159, 0, 66, 17, 5, 40, 16, 125, 27, 104, 96, 61, 27, 42, 180, 0, 13]
abbrev dktX7_line_4 : List UInt8 := dkwX7_line_4 ++ dktX7_line_5
def dkwX7_line_3 : List UInt8 := [153, 0, 11, 16, 246, 42, 180, 0, 201, 100, 172, 42, 180, 1, 52, 16, 8, 160, 0, 10, 42, 180, 1, 58]
abbrev dktX7_line_3 : List UInt8 := dkwX7_line_3 ++ dktX7_line_4
def dkwX7_line_2 : List UInt8 := [79, 132, 1, 1, 167, 255, 233, 42, 16, 100, 42, 180, 0, 13, 3, 46, 182, 1, 63, 42, 180, 0, 197]
abbrev dktX7_line_2 : List UInt8 := dkwX7_line_2 ++ dktX7_line_3
def dkwX7_line_1 : List UInt8 := [181, 0, 168, 3, 60, 27, 42, 180, 1, 70, 162, 0, 21, 42, 180, 0, 27, 27, 42, 180, 0, 24, 27, 46]
abbrev dktX7_line_1 : List UInt8 := dkwX7_line_1 ++ dktX7_line_2
def dkwX7_line_0 : List UInt8 := [42, 180, 0, 13, 7, 46, 16, 16, 160, 0, 10, 42, 16, 248, 182, 0, 80, 172, 42, 42, 180, 1, 70]
abbrev dktX7_line_0 : List UInt8 := dkwX7_line_0 ++ dktX7_line_1
theorem dksX7_line_0 : cX7_line.data.toList.drop 0 = dktX7_line_0 := by decide +kernel
theorem dksX7_line_1 : cX7_line.data.toList.drop 23 = dktX7_line_1 := dk_seg dksX7_line_0 23 rfl rfl
theorem dksX7_line_2 : cX7_line.data.toList.drop 47 = dktX7_line_2 := dk_seg dksX7_line_1 24 rfl rfl
theorem dksX7_line_3 : cX7_line.data.toList.drop 70 = dktX7_line_3 := dk_seg dksX7_line_2 23 rfl rfl
theorem dksX7_line_4 : cX7_line.data.toList.drop 94 = dktX7_line_4 := dk_seg dksX7_line_3 24 rfl rfl
theorem dksX7_line_5 : cX7_line.data.toList.drop 118 = dktX7_line_5 := dk_seg dksX7_line_4 24 rfl rfl
theorem dksX7_line_6 : cX7_line.data.toList.drop 142 = dktX7_line_6 := dk_seg dksX7_line_5 24 rfl rfl
theorem dksX7_line_7 : cX7_line.data.toList.drop 166 = dktX7_line_7 := dk_seg dksX7_line_6 24 rfl rfl
theorem dksX7_line_8 : cX7_line.data.toList.drop 190 = dktX7_line_8 := dk_seg dksX7_line_7 24 rfl rfl
theorem dksX7_line_9 : cX7_line.data.toList.drop 214 = dktX7_line_9 := dk_seg dksX7_line_8 24 rfl rfl
theorem dksX7_line_10 : cX7_line.data.toList.drop 238 = dktX7_line_10 := dk_seg dksX7_line_9 24 rfl rfl
theorem dksX7_line_11 : cX7_line.data.toList.drop 261 = dktX7_line_11 := dk_seg dksX7_line_10 23 rfl rfl
theorem dksX7_line_12 : cX7_line.data.toList.drop 283 = dktX7_line_12 := dk_seg dksX7_line_11 22 rfl rfl
theorem dX7_line_0 : decode cX7_line 0 = .ok (.aload_n 0, 1) := dk_42 (dk_at dksX7_line_0 0 rfl rfl)
theorem dX7_line_1 : decode cX7_line 1 = .ok (.getfield 13, 3) := dk_180 0 13 (dk_at dksX7_line_0 1 rfl rfl)
theorem dX7_line_4 : decode cX7_line 4 = .ok (.iconst 4, 1) := dk_7 (dk_at dksX7_line_0 4 rfl rfl)
theorem dX7_line_5 : decode cX7_line 5 = .ok (.iaload, 1) := dk_46 (dk_at dksX7_line_0 5 rfl rfl)
theorem dX7_line_6 : decode cX7_line 6 = .ok (.bipush 16, 2) := dk_16 16 (dk_at dksX7_line_0 6 rfl rfl)
theorem dX7_line_8 : decode cX7_line 8 = .ok (.if_icmp .ne 10, 3) := dk_160 0 10 (dk_at dksX7_line_0 8 rfl rfl)
theorem dX7_line_11 : decode cX7_line 11 = .ok (.aload_n 0, 1) := dk_42 (dk_at dksX7_line_0 11 rfl rfl)
theorem dX7_line_12 : decode cX7_line 12 = .ok (.bipush (-8), 2) := dk_16 248 (dk_at dksX7_line_0 12 rfl rfl)
theorem dX7_line_14 : decode cX7_line 14 = .ok (.invokevirtual 80, 3) := dk_182 0 80 (dk_at dksX7_line_0 14 rfl rfl)
theorem dX7_line_17 : decode cX7_line 17 = .ok (.ireturn, 1) := dk_172 (dk_at dksX7_line_0 17 rfl rfl)
theorem dX7_line_18 : decode cX7_line 18 = .ok (.aload_n 0, 1) := dk_42 (dk_at dksX7_line_0 18 rfl rfl)
theorem dX7_line_19 : decode cX7_line 19 = .ok (.aload_n 0, 1) := dk_42 (dk_at dksX7_line_0 19 rfl rfl)
theorem dX7_line_20 : decode cX7_line 20 = .ok (.getfield 326, 3) := dk_180 1 70 (dk_at dksX7_line_0 20 rfl rfl)
theorem dX7_line_23 : decode cX7_line 23 = .ok (.putfield 168, 3) := dk_181 0 168 (dk_at dksX7_line_1 0 rfl rfl)
theorem dX7_line_26 : decode cX7_line 26 = .ok (.iconst 0, 1) := dk_3 (dk_at dksX7_line_1 3 rfl rfl)
theorem dX7_line_27 : decode cX7_line 27 = .ok (.istore_n 1, 1) := dk_60 (dk_at dksX7_line_1 4 rfl rfl)
theorem dX7_line_28 : decode cX7_line 28 = .ok (.iload_n 1, 1) := dk_27 (dk_at dksX7_line_1 5 rfl rfl)
theorem dX7_line_29 : decode cX7_line 29 = .ok (.aload_n 0, 1) := dk_42 (dk_at dksX7_line_1 6 rfl rfl)
theorem dX7_line_30 : decode cX7_line 30 = .ok (.getfield 326, 3) := dk_180 1 70 (dk_at dksX7_line_1 7 rfl rfl)
theorem dX7_line_33 : decode cX7_line 33 = .ok (.if_icmp .ge 21, 3) := dk_162 0 21 (dk_at dksX7_line_1 10 rfl rfl)
theorem dX7_line_36 : decode cX7_line 36 = .ok (.aload_n 0, 1) := dk_42 (dk_at dksX7_line_1 13 rfl rfl)
theorem dX7_line_37 : decode cX7_line 37 = .ok (.getfield 27, 3) := dk_180 0 27 (dk_at dksX7_line_1 14 rfl rfl)
theorem dX7_line_40 : decode cX7_line 40 = .ok (.iload_n 1, 1) := dk_27 (dk_at dksX7_line_1 17 rfl rfl)
theorem dX7_line_41 : decode cX7_line 41 = .ok (.aload_n 0, 1) := dk_42 (dk_at dksX7_line_1 18 rfl rfl)
theorem dX7_line_42 : decode cX7_line 42 = .ok (.getfield 24, 3) := dk_180 0 24 (dk_at dksX7_line_1 19 rfl rfl)
theorem dX7_line_45 : decode cX7_line 45 = .ok (.iload_n 1, 1) := dk_27 (dk_at dksX7_line_1 22 rfl rfl)
theorem dX7_line_46 : decode cX7_line 46 = .ok (.iaload, 1) := dk_46 (dk_at dksX7_line_1 23 rfl rfl)
theorem dX7_line_47 : decode cX7_line 47 = .ok (.iastore, 1) := dk_79 (dk_at dksX7_line_2 0 rfl rfl)
theorem dX7_line_48 : decode cX7_line 48 = .ok (.iinc 1 1, 3) := dk_132 1 1 (dk_at dksX7_line_2 1 rfl rfl)
theorem dX7_line_51 : decode cX7_line 51 = .ok (.goto (-23), 3) := dk_167 255 233 (dk_at dksX7_line_2 4 rfl rfl)
theorem dX7_line_54 : decode cX7_line 54 = .ok (.aload_n 0, 1) := dk_42 (dk_at dksX7_line_2 7 rfl rfl)
theorem dX7_line_55 : decode cX7_line 55 = .ok (.bipush 100, 2) := dk_16 100 (dk_at dksX7_line_2 8 rfl rfl)
theorem dX7_line_57 : decode cX7_line 57 = .ok (.aload_n 0, 1) := dk_42 (dk_at dksX7_line_2 10 rfl rfl)
theorem dX7_line_58 : decode cX7_line 58 = .ok (.getfield 13, 3) := dk_180 0 13 (dk_at dksX7_line_2 11 rfl rfl)
theorem dX7_line_61 : decode cX7_line 61 = .ok (.iconst 0, 1) := dk_3 (dk_at dksX7_line_2 14 rfl rfl)
theorem dX7_line_62 : decode cX7_line 62 = .ok (.iaload, 1) := dk_46 (dk_at dksX7_line_2 15 rfl rfl)
theorem dX7_line_63 : decode cX7_line 63 = .ok (.invokevirtual 319, 3) := dk_182 1 63 (dk_at dksX7_line_2 16 rfl rfl)
theorem dX7_line_66 : decode cX7_line 66 = .ok (.aload_n 0, 1) := dk_42 (dk_at dksX7_line_2 19 rfl rfl)
theorem dX7_line_67 : decode cX7_line 67 = .ok (.getfield 197, 3) := dk_180 0 197 (dk_at dksX7_line_2 20 rfl rfl)
theorem dX7_line_70 : decode cX7_line 70 = .ok (.ifCond .eq 11, 3) := dk_153 0 11 (dk_at dksX7_line_3 0 rfl rfl)
theorem dX7_line_73 : decode cX7_line 73 = .ok (.bipush (-10), 2) := dk_16 246 (dk_at dksX7_line_3 3 rfl rfl)
theorem dX7_line_75 : decode cX7_line 75 = .ok (.aload_n 0, 1) := dk_42 (dk_at dksX7_line_3 5 rfl rfl)
theorem dX7_line_76 : decode cX7_line 76 = .ok (.getfield 201, 3) := dk_180 0 201 (dk_at dksX7_line_3 6 rfl rfl)
theorem dX7_line_79 : decode cX7_line 79 = .ok (.isub, 1) := dk_100 (dk_at dksX7_line_3 9 rfl rfl)
theorem dX7_line_80 : decode cX7_line 80 = .ok (.ireturn, 1) := dk_172 (dk_at dksX7_line_3 10 rfl rfl)
theorem dX7_line_81 : decode cX7_line 81 = .ok (.aload_n 0, 1) := dk_42 (dk_at dksX7_line_3 11 rfl rfl)
theorem dX7_line_82 : decode cX7_line 82 = .ok (.getfield 308, 3) := dk_180 1 52 (dk_at dksX7_line_3 12 rfl rfl)
theorem dX7_line_85 : decode cX7_line 85 = .ok (.bipush 8, 2) := dk_16 8 (dk_at dksX7_line_3 15 rfl rfl)
theorem dX7_line_87 : decode cX7_line 87 = .ok (.if_icmp .ne 10, 3) := dk_160 0 10 (dk_at dksX7_line_3 17 rfl rfl)
theorem dX7_line_90 : decode cX7_line 90 = .ok (.aload_n 0, 1) := dk_42 (dk_at dksX7_line_3 20 rfl rfl)
theorem dX7_line_91 : decode cX7_line 91 = .ok (.getfield 314, 3) := dk_180 1 58 (dk_at dksX7_line_3 21 rfl rfl)
theorem dX7_line_94 : decode cX7_line 94 = .ok (.goto 4, 3) := dk_167 0 4 (dk_at dksX7_line_4 0 rfl rfl)
theorem dX7_line_97 : decode cX7_line 97 = .ok (.iconst (-1), 1) := dk_2 (dk_at dksX7_line_4 3 rfl rfl)
theorem dX7_line_98 : decode cX7_line 98 = .ok (.istore_n 1, 1) := dk_60 (dk_at dksX7_line_4 4 rfl rfl)
theorem dX7_line_99 : decode cX7_line 99 = .ok (.iload_n 1, 1) := dk_27 (dk_at dksX7_line_4 5 rfl rfl)
theorem dX7_line_100 : decode cX7_line 100 = .ok (.iconst (-1), 1) := dk_2 (dk_at dksX7_line_4 6 rfl rfl)
theorem dX7_line_101 : decode cX7_line 101 = .ok (.if_icmp .eq 66, 3) := dk_159 0 66 (dk_at dksX7_line_4 7 rfl rfl)
theorem dX7_line_104 : decode cX7_line 104 = .ok (.sipush 1320, 3) := dk_17 5 40 (dk_at dksX7_line_4 10 rfl rfl)
theorem dX7_line_107 : decode cX7_line 107 = .ok (.bipush 125, 2) := dk_16 125 (dk_at dksX7_line_4 13 rfl rfl)
theorem dX7_line_109 : decode cX7_line 109 = .ok (.iload_n 1, 1) := dk_27 (dk_at dksX7_line_4 15 rfl rfl)
theorem dX7_line_110 : decode cX7_line 110 = .ok (.imul, 1) := dk_104 (dk_at dksX7_line_4 16 rfl rfl)
theorem dX7_line_111 : decode cX7_line 111 = .ok (.iadd, 1) := dk_96 (dk_at dksX7_line_4 17 rfl rfl)
theorem dX7_line_112 : decode cX7_line 112 = .ok (.istore_n 2, 1) := dk_61 (dk_at dksX7_line_4 18 rfl rfl)
theorem dX7_line_113 : decode cX7_line 113 = .ok (.iload_n 1, 1) := dk_27 (dk_at dksX7_line_4 19 rfl rfl)
theorem dX7_line_114 : decode cX7_line 114 = .ok (.aload_n 0, 1) := dk_42 (dk_at dksX7_line_4 20 rfl rfl)
theorem dX7_line_115 : decode cX7_line 115 = .ok (.getfield 13, 3) := dk_180 0 13 (dk_at dksX7_line_4 21 rfl rfl)
theorem dX7_line_118 : decode cX7_line 118 = .ok (.iconst 4, 1) := dk_7 (dk_at dksX7_line_5 0 rfl rfl)
theorem dX7_line_119 : decode cX7_line 119 = .ok (.iaload, 1) := dk_46 (dk_at dksX7_line_5 1 rfl rfl)
theorem dX7_line_120 : decode cX7_line 120 = .ok (.if_icmp .ge 26, 3) := dk_162 0 26 (dk_at dksX7_line_5 2 rfl rfl)
theorem dX7_line_123 : decode cX7_line 123 = .ok (.aload_n 0, 1) := dk_42 (dk_at dksX7_line_5 5 rfl rfl)
theorem dX7_line_124 : decode cX7_line 124 = .ok (.getfield 13, 3) := dk_180 0 13 (dk_at dksX7_line_5 6 rfl rfl)
theorem dX7_line_127 : decode cX7_line 127 = .ok (.iload_n 2, 1) := dk_28 (dk_at dksX7_line_5 9 rfl rfl)
theorem dX7_line_128 : decode cX7_line 128 = .ok (.iaload, 1) := dk_46 (dk_at dksX7_line_5 10 rfl rfl)
theorem dX7_line_129 : decode cX7_line 129 = .ok (.bipush 8, 2) := dk_16 8 (dk_at dksX7_line_5 11 rfl rfl)
theorem dX7_line_131 : decode cX7_line 131 = .ok (.if_icmp .eq 15, 3) := dk_159 0 15 (dk_at dksX7_line_5 13 rfl rfl)
theorem dX7_line_134 : decode cX7_line 134 = .ok (.aload_n 0, 1) := dk_42 (dk_at dksX7_line_5 16 rfl rfl)
theorem dX7_line_135 : decode cX7_line 135 = .ok (.getfield 13, 3) := dk_180 0 13 (dk_at dksX7_line_5 17 rfl rfl)
theorem dX7_line_138 : decode cX7_line 138 = .ok (.iload_n 2, 1) := dk_28 (dk_at dksX7_line_5 20 rfl rfl)
theorem dX7_line_139 : decode cX7_line 139 = .ok (.iconst 2, 1) := dk_5 (dk_at dksX7_line_5 21 rfl rfl)
theorem dX7_line_140 : decode cX7_line 140 = .ok (.iadd, 1) := dk_96 (dk_at dksX7_line_5 22 rfl rfl)
theorem dX7_line_141 : decode cX7_line 141 = .ok (.iaload, 1) := dk_46 (dk_at dksX7_line_5 23 rfl rfl)
theorem dX7_line_142 : decode cX7_line 142 = .ok (.iconst (-1), 1) := dk_2 (dk_at dksX7_line_6 0 rfl rfl)
theorem dX7_line_143 : decode cX7_line 143 = .ok (.if_icmp .eq 10, 3) := dk_159 0 10 (dk_at dksX7_line_6 1 rfl rfl)
theorem dX7_line_146 : decode cX7_line 146 = .ok (.aload_n 0, 1) := dk_42 (dk_at dksX7_line_6 4 rfl rfl)
theorem dX7_line_147 : decode cX7_line 147 = .ok (.bipush (-7), 2) := dk_16 249 (dk_at dksX7_line_6 5 rfl rfl)
theorem dX7_line_149 : decode cX7_line 149 = .ok (.invokevirtual 80, 3) := dk_182 0 80 (dk_at dksX7_line_6 7 rfl rfl)
theorem dX7_line_152 : decode cX7_line 152 = .ok (.ireturn, 1) := dk_172 (dk_at dksX7_line_6 10 rfl rfl)
theorem dX7_line_153 : decode cX7_line 153 = .ok (.aload_n 0, 1) := dk_42 (dk_at dksX7_line_6 11 rfl rfl)
theorem dX7_line_154 : decode cX7_line 154 = .ok (.getfield 13, 3) := dk_180 0 13 (dk_at dksX7_line_6 12 rfl rfl)
theorem dX7_line_157 : decode cX7_line 157 = .ok (.iload_n 2, 1) := dk_28 (dk_at dksX7_line_6 15 rfl rfl)
theorem dX7_line_158 : decode cX7_line 158 = .ok (.iconst 2, 1) := dk_5 (dk_at dksX7_line_6 16 rfl rfl)
theorem dX7_line_159 : decode cX7_line 159 = .ok (.iadd, 1) := dk_96 (dk_at dksX7_line_6 17 rfl rfl)
theorem dX7_line_160 : decode cX7_line 160 = .ok (.aload_n 0, 1) := dk_42 (dk_at dksX7_line_6 18 rfl rfl)
theorem dX7_line_161 : decode cX7_line 161 = .ok (.getfield 13, 3) := dk_180 0 13 (dk_at dksX7_line_6 19 rfl rfl)
theorem dX7_line_164 : decode cX7_line 164 = .ok (.iconst 0, 1) := dk_3 (dk_at dksX7_line_6 22 rfl rfl)
theorem dX7_line_165 : decode cX7_line 165 = .ok (.iaload, 1) := dk_46 (dk_at dksX7_line_6 23 rfl rfl)
theorem dX7_line_166 : decode cX7_line 166 = .ok (.iastore, 1) := dk_79 (dk_at dksX7_line_7 0 rfl rfl)
theorem dX7_line_167 : decode cX7_line 167 = .ok (.sipush 1320, 3) := dk_17 5 40 (dk_at dksX7_line_7 1 rfl rfl)
theorem dX7_line_170 : decode cX7_line 170 = .ok (.bipush 125, 2) := dk_16 125 (dk_at dksX7_line_7 4 rfl rfl)
theorem dX7_line_172 : decode cX7_line 172 = .ok (.aload_n 0, 1) := dk_42 (dk_at dksX7_line_7 6 rfl rfl)
theorem dX7_line_173 : decode cX7_line 173 = .ok (.getfield 13, 3) := dk_180 0 13 (dk_at dksX7_line_7 7 rfl rfl)
theorem dX7_line_176 : decode cX7_line 176 = .ok (.iconst 4, 1) := dk_7 (dk_at dksX7_line_7 10 rfl rfl)
theorem dX7_line_177 : decode cX7_line 177 = .ok (.iaload, 1) := dk_46 (dk_at dksX7_line_7 11 rfl rfl)
theorem dX7_line_178 : decode cX7_line 178 = .ok (.imul, 1) := dk_104 (dk_at dksX7_line_7 12 rfl rfl)
theorem dX7_line_179 : decode cX7_line 179 = .ok (.iadd, 1) := dk_96 (dk_at dksX7_line_7 13 rfl rfl)
theorem dX7_line_180 : decode cX7_line 180 = .ok (.istore_n 2, 1) := dk_61 (dk_at dksX7_line_7 14 rfl rfl)
theorem dX7_line_181 : decode cX7_line 181 = .ok (.aload_n 0, 1) := dk_42 (dk_at dksX7_line_7 15 rfl rfl)
theorem dX7_line_182 : decode cX7_line 182 = .ok (.getfield 13, 3) := dk_180 0 13 (dk_at dksX7_line_7 16 rfl rfl)
theorem dX7_line_185 : decode cX7_line 185 = .ok (.iload_n 2, 1) := dk_28 (dk_at dksX7_line_7 19 rfl rfl)
theorem dX7_line_186 : decode cX7_line 186 = .ok (.aload_n 0, 1) := dk_42 (dk_at dksX7_line_7 20 rfl rfl)
theorem dX7_line_187 : decode cX7_line 187 = .ok (.getfield 308, 3) := dk_180 1 52 (dk_at dksX7_line_7 21 rfl rfl)
theorem dX7_line_190 : decode cX7_line 190 = .ok (.iastore, 1) := dk_79 (dk_at dksX7_line_8 0 rfl rfl)
theorem dX7_line_191 : decode cX7_line 191 = .ok (.aload_n 0, 1) := dk_42 (dk_at dksX7_line_8 1 rfl rfl)
theorem dX7_line_192 : decode cX7_line 192 = .ok (.getfield 13, 3) := dk_180 0 13 (dk_at dksX7_line_8 2 rfl rfl)
theorem dX7_line_195 : decode cX7_line 195 = .ok (.iload_n 2, 1) := dk_28 (dk_at dksX7_line_8 5 rfl rfl)
theorem dX7_line_196 : decode cX7_line 196 = .ok (.iconst 1, 1) := dk_4 (dk_at dksX7_line_8 6 rfl rfl)
theorem dX7_line_197 : decode cX7_line 197 = .ok (.iadd, 1) := dk_96 (dk_at dksX7_line_8 7 rfl rfl)
theorem dX7_line_198 : decode cX7_line 198 = .ok (.aload_n 0, 1) := dk_42 (dk_at dksX7_line_8 8 rfl rfl)
theorem dX7_line_199 : decode cX7_line 199 = .ok (.getfield 13, 3) := dk_180 0 13 (dk_at dksX7_line_8 9 rfl rfl)
theorem dX7_line_202 : decode cX7_line 202 = .ok (.iconst 0, 1) := dk_3 (dk_at dksX7_line_8 12 rfl rfl)
theorem dX7_line_203 : decode cX7_line 203 = .ok (.iaload, 1) := dk_46 (dk_at dksX7_line_8 13 rfl rfl)
theorem dX7_line_204 : decode cX7_line 204 = .ok (.iastore, 1) := dk_79 (dk_at dksX7_line_8 14 rfl rfl)
theorem dX7_line_205 : decode cX7_line 205 = .ok (.aload_n 0, 1) := dk_42 (dk_at dksX7_line_8 15 rfl rfl)
theorem dX7_line_206 : decode cX7_line 206 = .ok (.getfield 13, 3) := dk_180 0 13 (dk_at dksX7_line_8 16 rfl rfl)
theorem dX7_line_209 : decode cX7_line 209 = .ok (.iload_n 2, 1) := dk_28 (dk_at dksX7_line_8 19 rfl rfl)
theorem dX7_line_210 : decode cX7_line 210 = .ok (.iconst 2, 1) := dk_5 (dk_at dksX7_line_8 20 rfl rfl)
theorem dX7_line_211 : decode cX7_line 211 = .ok (.iadd, 1) := dk_96 (dk_at dksX7_line_8 21 rfl rfl)
theorem dX7_line_212 : decode cX7_line 212 = .ok (.iconst (-1), 1) := dk_2 (dk_at dksX7_line_8 22 rfl rfl)
theorem dX7_line_213 : decode cX7_line 213 = .ok (.iastore, 1) := dk_79 (dk_at dksX7_line_8 23 rfl rfl)
theorem dX7_line_214 : decode cX7_line 214 = .ok (.aload_n 0, 1) := dk_42 (dk_at dksX7_line_9 0 rfl rfl)
theorem dX7_line_215 : decode cX7_line 215 = .ok (.getfield 13, 3) := dk_180 0 13 (dk_at dksX7_line_9 1 rfl rfl)
theorem dX7_line_218 : decode cX7_line 218 = .ok (.iload_n 2, 1) := dk_28 (dk_at dksX7_line_9 4 rfl rfl)
theorem dX7_line_219 : decode cX7_line 219 = .ok (.iconst 3, 1) := dk_6 (dk_at dksX7_line_9 5 rfl rfl)
theorem dX7_line_220 : decode cX7_line 220 = .ok (.iadd, 1) := dk_96 (dk_at dksX7_line_9 6 rfl rfl)
theorem dX7_line_221 : decode cX7_line 221 = .ok (.iload_n 1, 1) := dk_27 (dk_at dksX7_line_9 7 rfl rfl)
theorem dX7_line_222 : decode cX7_line 222 = .ok (.iastore, 1) := dk_79 (dk_at dksX7_line_9 8 rfl rfl)
theorem dX7_line_223 : decode cX7_line 223 = .ok (.aload_n 0, 1) := dk_42 (dk_at dksX7_line_9 9 rfl rfl)
theorem dX7_line_224 : decode cX7_line 224 = .ok (.getfield 13, 3) := dk_180 0 13 (dk_at dksX7_line_9 10 rfl rfl)
theorem dX7_line_227 : decode cX7_line 227 = .ok (.iload_n 2, 1) := dk_28 (dk_at dksX7_line_9 13 rfl rfl)
theorem dX7_line_228 : decode cX7_line 228 = .ok (.iconst 4, 1) := dk_7 (dk_at dksX7_line_9 14 rfl rfl)
theorem dX7_line_229 : decode cX7_line 229 = .ok (.iadd, 1) := dk_96 (dk_at dksX7_line_9 15 rfl rfl)
theorem dX7_line_230 : decode cX7_line 230 = .ok (.aload_n 0, 1) := dk_42 (dk_at dksX7_line_9 16 rfl rfl)
theorem dX7_line_231 : decode cX7_line 231 = .ok (.getfield 326, 3) := dk_180 1 70 (dk_at dksX7_line_9 17 rfl rfl)
theorem dX7_line_234 : decode cX7_line 234 = .ok (.iastore, 1) := dk_79 (dk_at dksX7_line_9 20 rfl rfl)
theorem dX7_line_235 : decode cX7_line 235 = .ok (.iconst 0, 1) := dk_3 (dk_at dksX7_line_9 21 rfl rfl)
theorem dX7_line_236 : decode cX7_line 236 = .ok (.istore_n 3, 1) := dk_62 (dk_at dksX7_line_9 22 rfl rfl)
theorem dX7_line_237 : decode cX7_line 237 = .ok (.iload_n 3, 1) := dk_29 (dk_at dksX7_line_9 23 rfl rfl)
theorem dX7_line_238 : decode cX7_line 238 = .ok (.aload_n 0, 1) := dk_42 (dk_at dksX7_line_10 0 rfl rfl)
theorem dX7_line_239 : decode cX7_line 239 = .ok (.getfield 326, 3) := dk_180 1 70 (dk_at dksX7_line_10 1 rfl rfl)
theorem dX7_line_242 : decode cX7_line 242 = .ok (.if_icmp .ge 25, 3) := dk_162 0 25 (dk_at dksX7_line_10 4 rfl rfl)
theorem dX7_line_245 : decode cX7_line 245 = .ok (.aload_n 0, 1) := dk_42 (dk_at dksX7_line_10 7 rfl rfl)
theorem dX7_line_246 : decode cX7_line 246 = .ok (.getfield 13, 3) := dk_180 0 13 (dk_at dksX7_line_10 8 rfl rfl)
theorem dX7_line_249 : decode cX7_line 249 = .ok (.iload_n 2, 1) := dk_28 (dk_at dksX7_line_10 11 rfl rfl)
theorem dX7_line_250 : decode cX7_line 250 = .ok (.iconst 5, 1) := dk_8 (dk_at dksX7_line_10 12 rfl rfl)
theorem dX7_line_251 : decode cX7_line 251 = .ok (.iadd, 1) := dk_96 (dk_at dksX7_line_10 13 rfl rfl)
theorem dX7_line_252 : decode cX7_line 252 = .ok (.iload_n 3, 1) := dk_29 (dk_at dksX7_line_10 14 rfl rfl)
theorem dX7_line_253 : decode cX7_line 253 = .ok (.iadd, 1) := dk_96 (dk_at dksX7_line_10 15 rfl rfl)
theorem dX7_line_254 : decode cX7_line 254 = .ok (.aload_n 0, 1) := dk_42 (dk_at dksX7_line_10 16 rfl rfl)
theorem dX7_line_255 : decode cX7_line 255 = .ok (.getfield 24, 3) := dk_180 0 24 (dk_at dksX7_line_10 17 rfl rfl)
theorem dX7_line_258 : decode cX7_line 258 = .ok (.iload_n 3, 1) := dk_29 (dk_at dksX7_line_10 20 rfl rfl)
theorem dX7_line_259 : decode cX7_line 259 = .ok (.iaload, 1) := dk_46 (dk_at dksX7_line_10 21 rfl rfl)
theorem dX7_line_260 : decode cX7_line 260 = .ok (.iastore, 1) := dk_79 (dk_at dksX7_line_10 22 rfl rfl)
theorem dX7_line_261 : decode cX7_line 261 = .ok (.iinc 3 1, 3) := dk_132 3 1 (dk_at dksX7_line_11 0 rfl rfl)
theorem dX7_line_264 : decode cX7_line 264 = .ok (.goto (-27), 3) := dk_167 255 229 (dk_at dksX7_line_11 3 rfl rfl)
theorem dX7_line_267 : decode cX7_line 267 = .ok (.aload_n 0, 1) := dk_42 (dk_at dksX7_line_11 6 rfl rfl)
theorem dX7_line_268 : decode cX7_line 268 = .ok (.iconst 0, 1) := dk_3 (dk_at dksX7_line_11 7 rfl rfl)
theorem dX7_line_269 : decode cX7_line 269 = .ok (.putfield 326, 3) := dk_181 1 70 (dk_at dksX7_line_11 8 rfl rfl)
theorem dX7_line_272 : decode cX7_line 272 = .ok (.aload_n 0, 1) := dk_42 (dk_at dksX7_line_11 11 rfl rfl)
theorem dX7_line_273 : decode cX7_line 273 = .ok (.getfield 13, 3) := dk_180 0 13 (dk_at dksX7_line_11 12 rfl rfl)
theorem dX7_line_276 : decode cX7_line 276 = .ok (.iconst 4, 1) := dk_7 (dk_at dksX7_line_11 15 rfl rfl)
theorem dX7_line_277 : decode cX7_line 277 = .ok (.dup2, 1) := dk_92 (dk_at dksX7_line_11 16 rfl rfl)
theorem dX7_line_278 : decode cX7_line 278 = .ok (.iaload, 1) := dk_46 (dk_at dksX7_line_11 17 rfl rfl)
theorem dX7_line_279 : decode cX7_line 279 = .ok (.iconst 1, 1) := dk_4 (dk_at dksX7_line_11 18 rfl rfl)
theorem dX7_line_280 : decode cX7_line 280 = .ok (.iadd, 1) := dk_96 (dk_at dksX7_line_11 19 rfl rfl)
theorem dX7_line_281 : decode cX7_line 281 = .ok (.iastore, 1) := dk_79 (dk_at dksX7_line_11 20 rfl rfl)
theorem dX7_line_282 : decode cX7_line 282 = .ok (.aload_n 0, 1) := dk_42 (dk_at dksX7_line_11 21 rfl rfl)
theorem dX7_line_283 : decode cX7_line 283 = .ok (.getfield 13, 3) := dk_180 0 13 (dk_at dksX7_line_12 0 rfl rfl)
theorem dX7_line_286 : decode cX7_line 286 = .ok (.iconst 4, 1) := dk_7 (dk_at dksX7_line_12 3 rfl rfl)
theorem dX7_line_287 : decode cX7_line 287 = .ok (.iaload, 1) := dk_46 (dk_at dksX7_line_12 4 rfl rfl)
theorem dX7_line_288 : decode cX7_line 288 = .ok (.iconst 1, 1) := dk_4 (dk_at dksX7_line_12 5 rfl rfl)
theorem dX7_line_289 : decode cX7_line 289 = .ok (.isub, 1) := dk_100 (dk_at dksX7_line_12 6 rfl rfl)
theorem dX7_line_290 : decode cX7_line 290 = .ok (.ireturn, 1) := dk_172 (dk_at dksX7_line_12 7 rfl rfl)
abbrev cX7_lineOf : ByteArray := prog_19_method_60_code
def yX7_lineOf : MethodName := ⟨RX7, "lineOf", "(II)I"⟩
def dkwX7_lineOf_2 : List UInt8 := [167, 0, 9, 42, 16, 249, 182, 0, 80, 172]
abbrev dktX7_lineOf_2 : List UInt8 := dkwX7_lineOf_2 ++ []
def dkwX7_lineOf_1 : List UInt8 := [3, 6, 184, 0, 76, 153, 0, 21, 42, 180, 0, 13, 17, 5, 40, 16, 125, 27, 104, 96, 28, 96, 46]
abbrev dktX7_lineOf_1 : List UInt8 := dkwX7_lineOf_1 ++ dktX7_lineOf_2
def dkwX7_lineOf_0 : List UInt8 := [27, 3, 42, 180, 0, 13, 7, 46, 4, 100, 184, 0, 76, 154, 0, 10, 42, 16, 253, 182, 0, 80, 172, 28]
abbrev dktX7_lineOf_0 : List UInt8 := dkwX7_lineOf_0 ++ dktX7_lineOf_1
theorem dksX7_lineOf_0 : cX7_lineOf.data.toList.drop 0 = dktX7_lineOf_0 := by decide +kernel
theorem dksX7_lineOf_1 : cX7_lineOf.data.toList.drop 24 = dktX7_lineOf_1 := dk_seg dksX7_lineOf_0 24 rfl rfl
theorem dksX7_lineOf_2 : cX7_lineOf.data.toList.drop 47 = dktX7_lineOf_2 := dk_seg dksX7_lineOf_1 23 rfl rfl
theorem dX7_lineOf_0 : decode cX7_lineOf 0 = .ok (.iload_n 1, 1) := dk_27 (dk_at dksX7_lineOf_0 0 rfl rfl)
theorem dX7_lineOf_1 : decode cX7_lineOf 1 = .ok (.iconst 0, 1) := dk_3 (dk_at dksX7_lineOf_0 1 rfl rfl)
theorem dX7_lineOf_2 : decode cX7_lineOf 2 = .ok (.aload_n 0, 1) := dk_42 (dk_at dksX7_lineOf_0 2 rfl rfl)
theorem dX7_lineOf_3 : decode cX7_lineOf 3 = .ok (.getfield 13, 3) := dk_180 0 13 (dk_at dksX7_lineOf_0 3 rfl rfl)
theorem dX7_lineOf_6 : decode cX7_lineOf 6 = .ok (.iconst 4, 1) := dk_7 (dk_at dksX7_lineOf_0 6 rfl rfl)
theorem dX7_lineOf_7 : decode cX7_lineOf 7 = .ok (.iaload, 1) := dk_46 (dk_at dksX7_lineOf_0 7 rfl rfl)
theorem dX7_lineOf_8 : decode cX7_lineOf 8 = .ok (.iconst 1, 1) := dk_4 (dk_at dksX7_lineOf_0 8 rfl rfl)
theorem dX7_lineOf_9 : decode cX7_lineOf 9 = .ok (.isub, 1) := dk_100 (dk_at dksX7_lineOf_0 9 rfl rfl)
theorem dX7_lineOf_10 : decode cX7_lineOf 10 = .ok (.invokestatic 76, 3) := dk_184 0 76 (dk_at dksX7_lineOf_0 10 rfl rfl)
theorem dX7_lineOf_13 : decode cX7_lineOf 13 = .ok (.ifCond .ne 10, 3) := dk_154 0 10 (dk_at dksX7_lineOf_0 13 rfl rfl)
theorem dX7_lineOf_16 : decode cX7_lineOf 16 = .ok (.aload_n 0, 1) := dk_42 (dk_at dksX7_lineOf_0 16 rfl rfl)
theorem dX7_lineOf_17 : decode cX7_lineOf 17 = .ok (.bipush (-3), 2) := dk_16 253 (dk_at dksX7_lineOf_0 17 rfl rfl)
theorem dX7_lineOf_19 : decode cX7_lineOf 19 = .ok (.invokevirtual 80, 3) := dk_182 0 80 (dk_at dksX7_lineOf_0 19 rfl rfl)
theorem dX7_lineOf_22 : decode cX7_lineOf 22 = .ok (.ireturn, 1) := dk_172 (dk_at dksX7_lineOf_0 22 rfl rfl)
theorem dX7_lineOf_23 : decode cX7_lineOf 23 = .ok (.iload_n 2, 1) := dk_28 (dk_at dksX7_lineOf_0 23 rfl rfl)
theorem dX7_lineOf_24 : decode cX7_lineOf 24 = .ok (.iconst 0, 1) := dk_3 (dk_at dksX7_lineOf_1 0 rfl rfl)
theorem dX7_lineOf_25 : decode cX7_lineOf 25 = .ok (.iconst 3, 1) := dk_6 (dk_at dksX7_lineOf_1 1 rfl rfl)
theorem dX7_lineOf_26 : decode cX7_lineOf 26 = .ok (.invokestatic 76, 3) := dk_184 0 76 (dk_at dksX7_lineOf_1 2 rfl rfl)
theorem dX7_lineOf_29 : decode cX7_lineOf 29 = .ok (.ifCond .eq 21, 3) := dk_153 0 21 (dk_at dksX7_lineOf_1 5 rfl rfl)
theorem dX7_lineOf_32 : decode cX7_lineOf 32 = .ok (.aload_n 0, 1) := dk_42 (dk_at dksX7_lineOf_1 8 rfl rfl)
theorem dX7_lineOf_33 : decode cX7_lineOf 33 = .ok (.getfield 13, 3) := dk_180 0 13 (dk_at dksX7_lineOf_1 9 rfl rfl)
theorem dX7_lineOf_36 : decode cX7_lineOf 36 = .ok (.sipush 1320, 3) := dk_17 5 40 (dk_at dksX7_lineOf_1 12 rfl rfl)
theorem dX7_lineOf_39 : decode cX7_lineOf 39 = .ok (.bipush 125, 2) := dk_16 125 (dk_at dksX7_lineOf_1 15 rfl rfl)
theorem dX7_lineOf_41 : decode cX7_lineOf 41 = .ok (.iload_n 1, 1) := dk_27 (dk_at dksX7_lineOf_1 17 rfl rfl)
theorem dX7_lineOf_42 : decode cX7_lineOf 42 = .ok (.imul, 1) := dk_104 (dk_at dksX7_lineOf_1 18 rfl rfl)
theorem dX7_lineOf_43 : decode cX7_lineOf 43 = .ok (.iadd, 1) := dk_96 (dk_at dksX7_lineOf_1 19 rfl rfl)
theorem dX7_lineOf_44 : decode cX7_lineOf 44 = .ok (.iload_n 2, 1) := dk_28 (dk_at dksX7_lineOf_1 20 rfl rfl)
theorem dX7_lineOf_45 : decode cX7_lineOf 45 = .ok (.iadd, 1) := dk_96 (dk_at dksX7_lineOf_1 21 rfl rfl)
theorem dX7_lineOf_46 : decode cX7_lineOf 46 = .ok (.iaload, 1) := dk_46 (dk_at dksX7_lineOf_1 22 rfl rfl)
theorem dX7_lineOf_47 : decode cX7_lineOf 47 = .ok (.goto 9, 3) := dk_167 0 9 (dk_at dksX7_lineOf_2 0 rfl rfl)
theorem dX7_lineOf_50 : decode cX7_lineOf 50 = .ok (.aload_n 0, 1) := dk_42 (dk_at dksX7_lineOf_2 3 rfl rfl)
theorem dX7_lineOf_51 : decode cX7_lineOf 51 = .ok (.bipush (-7), 2) := dk_16 249 (dk_at dksX7_lineOf_2 4 rfl rfl)
theorem dX7_lineOf_53 : decode cX7_lineOf 53 = .ok (.invokevirtual 80, 3) := dk_182 0 80 (dk_at dksX7_lineOf_2 6 rfl rfl)
theorem dX7_lineOf_56 : decode cX7_lineOf 56 = .ok (.ireturn, 1) := dk_172 (dk_at dksX7_lineOf_2 9 rfl rfl)
abbrev cX7_says : ByteArray := prog_19_method_63_code
def yX7_says : MethodName := ⟨RX7, "says", "(III)I"⟩
def dkwX7_says_1 : List UInt8 := [27, 28, 29, 27, 184, 1, 76, 182, 0, 129, 172]
abbrev dktX7_says_1 : List UInt8 := dkwX7_says_1 ++ []
def dkwX7_says_0 : List UInt8 := [42, 27, 28, 29, 182, 1, 73, 54, 4, 21, 4, 156, 0, 12, 42, 21, 4, 182, 0, 165, 167, 0, 14, 42]
abbrev dktX7_says_0 : List UInt8 := dkwX7_says_0 ++ dktX7_says_1
theorem dksX7_says_0 : cX7_says.data.toList.drop 0 = dktX7_says_0 := by decide +kernel
theorem dksX7_says_1 : cX7_says.data.toList.drop 24 = dktX7_says_1 := dk_seg dksX7_says_0 24 rfl rfl
theorem dX7_says_0 : decode cX7_says 0 = .ok (.aload_n 0, 1) := dk_42 (dk_at dksX7_says_0 0 rfl rfl)
theorem dX7_says_1 : decode cX7_says 1 = .ok (.iload_n 1, 1) := dk_27 (dk_at dksX7_says_0 1 rfl rfl)
theorem dX7_says_2 : decode cX7_says 2 = .ok (.iload_n 2, 1) := dk_28 (dk_at dksX7_says_0 2 rfl rfl)
theorem dX7_says_3 : decode cX7_says 3 = .ok (.iload_n 3, 1) := dk_29 (dk_at dksX7_says_0 3 rfl rfl)
theorem dX7_says_4 : decode cX7_says 4 = .ok (.invokevirtual 329, 3) := dk_182 1 73 (dk_at dksX7_says_0 4 rfl rfl)
theorem dX7_says_7 : decode cX7_says 7 = .ok (.istore 4, 2) := dk_54 4 (dk_at dksX7_says_0 7 rfl rfl)
theorem dX7_says_9 : decode cX7_says 9 = .ok (.iload 4, 2) := dk_21 4 (dk_at dksX7_says_0 9 rfl rfl)
theorem dX7_says_11 : decode cX7_says 11 = .ok (.ifCond .ge 12, 3) := dk_156 0 12 (dk_at dksX7_says_0 11 rfl rfl)
theorem dX7_says_14 : decode cX7_says 14 = .ok (.aload_n 0, 1) := dk_42 (dk_at dksX7_says_0 14 rfl rfl)
theorem dX7_says_15 : decode cX7_says 15 = .ok (.iload 4, 2) := dk_21 4 (dk_at dksX7_says_0 15 rfl rfl)
theorem dX7_says_17 : decode cX7_says 17 = .ok (.invokevirtual 165, 3) := dk_182 0 165 (dk_at dksX7_says_0 17 rfl rfl)
theorem dX7_says_20 : decode cX7_says 20 = .ok (.goto 14, 3) := dk_167 0 14 (dk_at dksX7_says_0 20 rfl rfl)
theorem dX7_says_23 : decode cX7_says 23 = .ok (.aload_n 0, 1) := dk_42 (dk_at dksX7_says_0 23 rfl rfl)
theorem dX7_says_24 : decode cX7_says 24 = .ok (.iload_n 1, 1) := dk_27 (dk_at dksX7_says_1 0 rfl rfl)
theorem dX7_says_25 : decode cX7_says 25 = .ok (.iload_n 2, 1) := dk_28 (dk_at dksX7_says_1 1 rfl rfl)
theorem dX7_says_26 : decode cX7_says 26 = .ok (.iload_n 3, 1) := dk_29 (dk_at dksX7_says_1 2 rfl rfl)
theorem dX7_says_27 : decode cX7_says 27 = .ok (.iload_n 1, 1) := dk_27 (dk_at dksX7_says_1 3 rfl rfl)
theorem dX7_says_28 : decode cX7_says 28 = .ok (.invokestatic 332, 3) := dk_184 1 76 (dk_at dksX7_says_1 4 rfl rfl)
theorem dX7_says_31 : decode cX7_says 31 = .ok (.invokevirtual 129, 3) := dk_182 0 129 (dk_at dksX7_says_1 7 rfl rfl)
theorem dX7_says_34 : decode cX7_says 34 = .ok (.ireturn, 1) := dk_172 (dk_at dksX7_says_1 10 rfl rfl)
abbrev cX7_noWho : ByteArray := prog_19_method_61_code
def yX7_noWho : MethodName := ⟨RX7, "noWho", "(III)I"⟩
def dkwX7_noWho_2 : List UInt8 := [167, 0, 4, 3, 172]
abbrev dktX7_noWho_2 : List UInt8 := dkwX7_noWho_2 ++ []
def dkwX7_noWho_1 : List UInt8 := [182, 0, 140, 154, 0, 8, 16, 253, 167, 0, 20, 29, 3, 17, 1, 143, 184, 0, 76, 154, 0, 8, 16, 249]
abbrev dktX7_noWho_1 : List UInt8 := dkwX7_noWho_1 ++ dktX7_noWho_2
def dkwX7_noWho_0 : List UInt8 := [27, 3, 16, 7, 184, 0, 76, 153, 0, 22, 42, 28, 182, 0, 118, 154, 0, 19, 42, 28, 16, 100, 100]
abbrev dktX7_noWho_0 : List UInt8 := dkwX7_noWho_0 ++ dktX7_noWho_1
theorem dksX7_noWho_0 : cX7_noWho.data.toList.drop 0 = dktX7_noWho_0 := by decide +kernel
theorem dksX7_noWho_1 : cX7_noWho.data.toList.drop 23 = dktX7_noWho_1 := dk_seg dksX7_noWho_0 23 rfl rfl
theorem dksX7_noWho_2 : cX7_noWho.data.toList.drop 47 = dktX7_noWho_2 := dk_seg dksX7_noWho_1 24 rfl rfl
theorem dX7_noWho_0 : decode cX7_noWho 0 = .ok (.iload_n 1, 1) := dk_27 (dk_at dksX7_noWho_0 0 rfl rfl)
theorem dX7_noWho_1 : decode cX7_noWho 1 = .ok (.iconst 0, 1) := dk_3 (dk_at dksX7_noWho_0 1 rfl rfl)
theorem dX7_noWho_2 : decode cX7_noWho 2 = .ok (.bipush 7, 2) := dk_16 7 (dk_at dksX7_noWho_0 2 rfl rfl)
theorem dX7_noWho_4 : decode cX7_noWho 4 = .ok (.invokestatic 76, 3) := dk_184 0 76 (dk_at dksX7_noWho_0 4 rfl rfl)
theorem dX7_noWho_7 : decode cX7_noWho 7 = .ok (.ifCond .eq 22, 3) := dk_153 0 22 (dk_at dksX7_noWho_0 7 rfl rfl)
theorem dX7_noWho_10 : decode cX7_noWho 10 = .ok (.aload_n 0, 1) := dk_42 (dk_at dksX7_noWho_0 10 rfl rfl)
theorem dX7_noWho_11 : decode cX7_noWho 11 = .ok (.iload_n 2, 1) := dk_28 (dk_at dksX7_noWho_0 11 rfl rfl)
theorem dX7_noWho_12 : decode cX7_noWho 12 = .ok (.invokevirtual 118, 3) := dk_182 0 118 (dk_at dksX7_noWho_0 12 rfl rfl)
theorem dX7_noWho_15 : decode cX7_noWho 15 = .ok (.ifCond .ne 19, 3) := dk_154 0 19 (dk_at dksX7_noWho_0 15 rfl rfl)
theorem dX7_noWho_18 : decode cX7_noWho 18 = .ok (.aload_n 0, 1) := dk_42 (dk_at dksX7_noWho_0 18 rfl rfl)
theorem dX7_noWho_19 : decode cX7_noWho 19 = .ok (.iload_n 2, 1) := dk_28 (dk_at dksX7_noWho_0 19 rfl rfl)
theorem dX7_noWho_20 : decode cX7_noWho 20 = .ok (.bipush 100, 2) := dk_16 100 (dk_at dksX7_noWho_0 20 rfl rfl)
theorem dX7_noWho_22 : decode cX7_noWho 22 = .ok (.isub, 1) := dk_100 (dk_at dksX7_noWho_0 22 rfl rfl)
theorem dX7_noWho_23 : decode cX7_noWho 23 = .ok (.invokevirtual 140, 3) := dk_182 0 140 (dk_at dksX7_noWho_1 0 rfl rfl)
theorem dX7_noWho_26 : decode cX7_noWho 26 = .ok (.ifCond .ne 8, 3) := dk_154 0 8 (dk_at dksX7_noWho_1 3 rfl rfl)
theorem dX7_noWho_29 : decode cX7_noWho 29 = .ok (.bipush (-3), 2) := dk_16 253 (dk_at dksX7_noWho_1 6 rfl rfl)
theorem dX7_noWho_31 : decode cX7_noWho 31 = .ok (.goto 20, 3) := dk_167 0 20 (dk_at dksX7_noWho_1 8 rfl rfl)
theorem dX7_noWho_34 : decode cX7_noWho 34 = .ok (.iload_n 3, 1) := dk_29 (dk_at dksX7_noWho_1 11 rfl rfl)
theorem dX7_noWho_35 : decode cX7_noWho 35 = .ok (.iconst 0, 1) := dk_3 (dk_at dksX7_noWho_1 12 rfl rfl)
theorem dX7_noWho_36 : decode cX7_noWho 36 = .ok (.sipush 399, 3) := dk_17 1 143 (dk_at dksX7_noWho_1 13 rfl rfl)
theorem dX7_noWho_39 : decode cX7_noWho 39 = .ok (.invokestatic 76, 3) := dk_184 0 76 (dk_at dksX7_noWho_1 16 rfl rfl)
theorem dX7_noWho_42 : decode cX7_noWho 42 = .ok (.ifCond .ne 8, 3) := dk_154 0 8 (dk_at dksX7_noWho_1 19 rfl rfl)
theorem dX7_noWho_45 : decode cX7_noWho 45 = .ok (.bipush (-7), 2) := dk_16 249 (dk_at dksX7_noWho_1 22 rfl rfl)
theorem dX7_noWho_47 : decode cX7_noWho 47 = .ok (.goto 4, 3) := dk_167 0 4 (dk_at dksX7_noWho_2 0 rfl rfl)
theorem dX7_noWho_50 : decode cX7_noWho 50 = .ok (.iconst 0, 1) := dk_3 (dk_at dksX7_noWho_2 3 rfl rfl)
theorem dX7_noWho_51 : decode cX7_noWho 51 = .ok (.ireturn, 1) := dk_172 (dk_at dksX7_noWho_2 4 rfl rfl)
abbrev cX7_defaultOf : ByteArray := prog_19_method_62_code
def yX7_defaultOf : MethodName := ⟨RX7, "defaultOf", "(I)I"⟩
def dkwX7_defaultOf_0 : List UInt8 := [26, 4, 160, 0, 9, 17, 39, 15, 167, 0, 15, 26, 16, 7, 160, 0, 8, 16, 99, 167, 0, 4, 3, 172]
abbrev dktX7_defaultOf_0 : List UInt8 := dkwX7_defaultOf_0 ++ []
theorem dksX7_defaultOf_0 : cX7_defaultOf.data.toList.drop 0 = dktX7_defaultOf_0 := by decide +kernel
theorem dX7_defaultOf_0 : decode cX7_defaultOf 0 = .ok (.iload_n 0, 1) := dk_26 (dk_at dksX7_defaultOf_0 0 rfl rfl)
theorem dX7_defaultOf_1 : decode cX7_defaultOf 1 = .ok (.iconst 1, 1) := dk_4 (dk_at dksX7_defaultOf_0 1 rfl rfl)
theorem dX7_defaultOf_2 : decode cX7_defaultOf 2 = .ok (.if_icmp .ne 9, 3) := dk_160 0 9 (dk_at dksX7_defaultOf_0 2 rfl rfl)
theorem dX7_defaultOf_5 : decode cX7_defaultOf 5 = .ok (.sipush 9999, 3) := dk_17 39 15 (dk_at dksX7_defaultOf_0 5 rfl rfl)
theorem dX7_defaultOf_8 : decode cX7_defaultOf 8 = .ok (.goto 15, 3) := dk_167 0 15 (dk_at dksX7_defaultOf_0 8 rfl rfl)
theorem dX7_defaultOf_11 : decode cX7_defaultOf 11 = .ok (.iload_n 0, 1) := dk_26 (dk_at dksX7_defaultOf_0 11 rfl rfl)
theorem dX7_defaultOf_12 : decode cX7_defaultOf 12 = .ok (.bipush 7, 2) := dk_16 7 (dk_at dksX7_defaultOf_0 12 rfl rfl)
theorem dX7_defaultOf_14 : decode cX7_defaultOf 14 = .ok (.if_icmp .ne 8, 3) := dk_160 0 8 (dk_at dksX7_defaultOf_0 14 rfl rfl)
theorem dX7_defaultOf_17 : decode cX7_defaultOf 17 = .ok (.bipush 99, 2) := dk_16 99 (dk_at dksX7_defaultOf_0 17 rfl rfl)
theorem dX7_defaultOf_19 : decode cX7_defaultOf 19 = .ok (.goto 4, 3) := dk_167 0 4 (dk_at dksX7_defaultOf_0 19 rfl rfl)
theorem dX7_defaultOf_22 : decode cX7_defaultOf 22 = .ok (.iconst 0, 1) := dk_3 (dk_at dksX7_defaultOf_0 22 rfl rfl)
theorem dX7_defaultOf_23 : decode cX7_defaultOf 23 = .ok (.ireturn, 1) := dk_172 (dk_at dksX7_defaultOf_0 23 rfl rfl)
abbrev cX7_why : ByteArray := prog_19_method_64_code
def yX7_why : MethodName := ⟨RX7, "why", "(III)I"⟩
def dkwX7_why_1 : List UInt8 := [27, 28, 29, 182, 1, 67, 172]
abbrev dktX7_why_1 : List UInt8 := dkwX7_why_1 ++ []
def dkwX7_why_0 : List UInt8 := [42, 27, 28, 29, 182, 1, 73, 54, 4, 21, 4, 156, 0, 12, 42, 21, 4, 182, 0, 80, 167, 0, 10, 42]
abbrev dktX7_why_0 : List UInt8 := dkwX7_why_0 ++ dktX7_why_1
theorem dksX7_why_0 : cX7_why.data.toList.drop 0 = dktX7_why_0 := by decide +kernel
theorem dksX7_why_1 : cX7_why.data.toList.drop 24 = dktX7_why_1 := dk_seg dksX7_why_0 24 rfl rfl
theorem dX7_why_0 : decode cX7_why 0 = .ok (.aload_n 0, 1) := dk_42 (dk_at dksX7_why_0 0 rfl rfl)
theorem dX7_why_1 : decode cX7_why 1 = .ok (.iload_n 1, 1) := dk_27 (dk_at dksX7_why_0 1 rfl rfl)
theorem dX7_why_2 : decode cX7_why 2 = .ok (.iload_n 2, 1) := dk_28 (dk_at dksX7_why_0 2 rfl rfl)
theorem dX7_why_3 : decode cX7_why 3 = .ok (.iload_n 3, 1) := dk_29 (dk_at dksX7_why_0 3 rfl rfl)
theorem dX7_why_4 : decode cX7_why 4 = .ok (.invokevirtual 329, 3) := dk_182 1 73 (dk_at dksX7_why_0 4 rfl rfl)
theorem dX7_why_7 : decode cX7_why 7 = .ok (.istore 4, 2) := dk_54 4 (dk_at dksX7_why_0 7 rfl rfl)
theorem dX7_why_9 : decode cX7_why 9 = .ok (.iload 4, 2) := dk_21 4 (dk_at dksX7_why_0 9 rfl rfl)
theorem dX7_why_11 : decode cX7_why 11 = .ok (.ifCond .ge 12, 3) := dk_156 0 12 (dk_at dksX7_why_0 11 rfl rfl)
theorem dX7_why_14 : decode cX7_why 14 = .ok (.aload_n 0, 1) := dk_42 (dk_at dksX7_why_0 14 rfl rfl)
theorem dX7_why_15 : decode cX7_why 15 = .ok (.iload 4, 2) := dk_21 4 (dk_at dksX7_why_0 15 rfl rfl)
theorem dX7_why_17 : decode cX7_why 17 = .ok (.invokevirtual 80, 3) := dk_182 0 80 (dk_at dksX7_why_0 17 rfl rfl)
theorem dX7_why_20 : decode cX7_why 20 = .ok (.goto 10, 3) := dk_167 0 10 (dk_at dksX7_why_0 20 rfl rfl)
theorem dX7_why_23 : decode cX7_why 23 = .ok (.aload_n 0, 1) := dk_42 (dk_at dksX7_why_0 23 rfl rfl)
theorem dX7_why_24 : decode cX7_why 24 = .ok (.iload_n 1, 1) := dk_27 (dk_at dksX7_why_1 0 rfl rfl)
theorem dX7_why_25 : decode cX7_why 25 = .ok (.iload_n 2, 1) := dk_28 (dk_at dksX7_why_1 1 rfl rfl)
theorem dX7_why_26 : decode cX7_why 26 = .ok (.iload_n 3, 1) := dk_29 (dk_at dksX7_why_1 2 rfl rfl)
theorem dX7_why_27 : decode cX7_why 27 = .ok (.invokevirtual 323, 3) := dk_182 1 67 (dk_at dksX7_why_1 3 rfl rfl)
theorem dX7_why_30 : decode cX7_why 30 = .ok (.ireturn, 1) := dk_172 (dk_at dksX7_why_1 6 rfl rfl)
abbrev cX7_may : ByteArray := prog_19_method_72_code
def yX7_may : MethodName := ⟨RX7, "may", "(III)I"⟩
def dkwX7_may_1 : List UInt8 := [27, 28, 29, 182, 1, 97, 172]
abbrev dktX7_may_1 : List UInt8 := dkwX7_may_1 ++ []
def dkwX7_may_0 : List UInt8 := [42, 27, 28, 29, 182, 1, 94, 54, 4, 21, 4, 156, 0, 12, 42, 21, 4, 182, 0, 80, 167, 0, 10, 42]
abbrev dktX7_may_0 : List UInt8 := dkwX7_may_0 ++ dktX7_may_1
theorem dksX7_may_0 : cX7_may.data.toList.drop 0 = dktX7_may_0 := by decide +kernel
theorem dksX7_may_1 : cX7_may.data.toList.drop 24 = dktX7_may_1 := dk_seg dksX7_may_0 24 rfl rfl
theorem dX7_may_0 : decode cX7_may 0 = .ok (.aload_n 0, 1) := dk_42 (dk_at dksX7_may_0 0 rfl rfl)
theorem dX7_may_1 : decode cX7_may 1 = .ok (.iload_n 1, 1) := dk_27 (dk_at dksX7_may_0 1 rfl rfl)
theorem dX7_may_2 : decode cX7_may 2 = .ok (.iload_n 2, 1) := dk_28 (dk_at dksX7_may_0 2 rfl rfl)
theorem dX7_may_3 : decode cX7_may 3 = .ok (.iload_n 3, 1) := dk_29 (dk_at dksX7_may_0 3 rfl rfl)
theorem dX7_may_4 : decode cX7_may 4 = .ok (.invokevirtual 350, 3) := dk_182 1 94 (dk_at dksX7_may_0 4 rfl rfl)
theorem dX7_may_7 : decode cX7_may 7 = .ok (.istore 4, 2) := dk_54 4 (dk_at dksX7_may_0 7 rfl rfl)
theorem dX7_may_9 : decode cX7_may 9 = .ok (.iload 4, 2) := dk_21 4 (dk_at dksX7_may_0 9 rfl rfl)
theorem dX7_may_11 : decode cX7_may 11 = .ok (.ifCond .ge 12, 3) := dk_156 0 12 (dk_at dksX7_may_0 11 rfl rfl)
theorem dX7_may_14 : decode cX7_may 14 = .ok (.aload_n 0, 1) := dk_42 (dk_at dksX7_may_0 14 rfl rfl)
theorem dX7_may_15 : decode cX7_may 15 = .ok (.iload 4, 2) := dk_21 4 (dk_at dksX7_may_0 15 rfl rfl)
theorem dX7_may_17 : decode cX7_may 17 = .ok (.invokevirtual 80, 3) := dk_182 0 80 (dk_at dksX7_may_0 17 rfl rfl)
theorem dX7_may_20 : decode cX7_may 20 = .ok (.goto 10, 3) := dk_167 0 10 (dk_at dksX7_may_0 20 rfl rfl)
theorem dX7_may_23 : decode cX7_may 23 = .ok (.aload_n 0, 1) := dk_42 (dk_at dksX7_may_0 23 rfl rfl)
theorem dX7_may_24 : decode cX7_may 24 = .ok (.iload_n 1, 1) := dk_27 (dk_at dksX7_may_1 0 rfl rfl)
theorem dX7_may_25 : decode cX7_may 25 = .ok (.iload_n 2, 1) := dk_28 (dk_at dksX7_may_1 1 rfl rfl)
theorem dX7_may_26 : decode cX7_may 26 = .ok (.iload_n 3, 1) := dk_29 (dk_at dksX7_may_1 2 rfl rfl)
theorem dX7_may_27 : decode cX7_may 27 = .ok (.invokevirtual 353, 3) := dk_182 1 97 (dk_at dksX7_may_1 3 rfl rfl)
theorem dX7_may_30 : decode cX7_may 30 = .ok (.ireturn, 1) := dk_172 (dk_at dksX7_may_1 6 rfl rfl)
abbrev cX7_noOrder : ByteArray := prog_19_method_70_code
def yX7_noOrder : MethodName := ⟨RX7, "noOrder", "(III)I"⟩
def dkwX7_noOrder_2 : List UInt8 := [184, 0, 76, 154, 0, 8, 16, 249, 167, 0, 4, 3, 172]
abbrev dktX7_noOrder_2 : List UInt8 := dkwX7_noOrder_2 ++ []
def dkwX7_noOrder_1 : List UInt8 := [167, 0, 36, 29, 3, 28, 154, 0, 7, 3, 167, 0, 14, 28, 4, 160, 0, 8, 16, 100, 167, 0, 4, 6]
abbrev dktX7_noOrder_1 : List UInt8 := dkwX7_noOrder_1 ++ dktX7_noOrder_2
def dkwX7_noOrder_0 : List UInt8 := [42, 27, 182, 0, 118, 154, 0, 8, 16, 253, 167, 0, 50, 28, 3, 5, 184, 0, 76, 154, 0, 8, 16, 251]
abbrev dktX7_noOrder_0 : List UInt8 := dkwX7_noOrder_0 ++ dktX7_noOrder_1
theorem dksX7_noOrder_0 : cX7_noOrder.data.toList.drop 0 = dktX7_noOrder_0 := by decide +kernel
theorem dksX7_noOrder_1 : cX7_noOrder.data.toList.drop 24 = dktX7_noOrder_1 := dk_seg dksX7_noOrder_0 24 rfl rfl
theorem dksX7_noOrder_2 : cX7_noOrder.data.toList.drop 48 = dktX7_noOrder_2 := dk_seg dksX7_noOrder_1 24 rfl rfl
theorem dX7_noOrder_0 : decode cX7_noOrder 0 = .ok (.aload_n 0, 1) := dk_42 (dk_at dksX7_noOrder_0 0 rfl rfl)
theorem dX7_noOrder_1 : decode cX7_noOrder 1 = .ok (.iload_n 1, 1) := dk_27 (dk_at dksX7_noOrder_0 1 rfl rfl)
theorem dX7_noOrder_2 : decode cX7_noOrder 2 = .ok (.invokevirtual 118, 3) := dk_182 0 118 (dk_at dksX7_noOrder_0 2 rfl rfl)
theorem dX7_noOrder_5 : decode cX7_noOrder 5 = .ok (.ifCond .ne 8, 3) := dk_154 0 8 (dk_at dksX7_noOrder_0 5 rfl rfl)
theorem dX7_noOrder_8 : decode cX7_noOrder 8 = .ok (.bipush (-3), 2) := dk_16 253 (dk_at dksX7_noOrder_0 8 rfl rfl)
theorem dX7_noOrder_10 : decode cX7_noOrder 10 = .ok (.goto 50, 3) := dk_167 0 50 (dk_at dksX7_noOrder_0 10 rfl rfl)
theorem dX7_noOrder_13 : decode cX7_noOrder 13 = .ok (.iload_n 2, 1) := dk_28 (dk_at dksX7_noOrder_0 13 rfl rfl)
theorem dX7_noOrder_14 : decode cX7_noOrder 14 = .ok (.iconst 0, 1) := dk_3 (dk_at dksX7_noOrder_0 14 rfl rfl)
theorem dX7_noOrder_15 : decode cX7_noOrder 15 = .ok (.iconst 2, 1) := dk_5 (dk_at dksX7_noOrder_0 15 rfl rfl)
theorem dX7_noOrder_16 : decode cX7_noOrder 16 = .ok (.invokestatic 76, 3) := dk_184 0 76 (dk_at dksX7_noOrder_0 16 rfl rfl)
theorem dX7_noOrder_19 : decode cX7_noOrder 19 = .ok (.ifCond .ne 8, 3) := dk_154 0 8 (dk_at dksX7_noOrder_0 19 rfl rfl)
theorem dX7_noOrder_22 : decode cX7_noOrder 22 = .ok (.bipush (-5), 2) := dk_16 251 (dk_at dksX7_noOrder_0 22 rfl rfl)
theorem dX7_noOrder_24 : decode cX7_noOrder 24 = .ok (.goto 36, 3) := dk_167 0 36 (dk_at dksX7_noOrder_1 0 rfl rfl)
theorem dX7_noOrder_27 : decode cX7_noOrder 27 = .ok (.iload_n 3, 1) := dk_29 (dk_at dksX7_noOrder_1 3 rfl rfl)
theorem dX7_noOrder_28 : decode cX7_noOrder 28 = .ok (.iconst 0, 1) := dk_3 (dk_at dksX7_noOrder_1 4 rfl rfl)
theorem dX7_noOrder_29 : decode cX7_noOrder 29 = .ok (.iload_n 2, 1) := dk_28 (dk_at dksX7_noOrder_1 5 rfl rfl)
theorem dX7_noOrder_30 : decode cX7_noOrder 30 = .ok (.ifCond .ne 7, 3) := dk_154 0 7 (dk_at dksX7_noOrder_1 6 rfl rfl)
theorem dX7_noOrder_33 : decode cX7_noOrder 33 = .ok (.iconst 0, 1) := dk_3 (dk_at dksX7_noOrder_1 9 rfl rfl)
theorem dX7_noOrder_34 : decode cX7_noOrder 34 = .ok (.goto 14, 3) := dk_167 0 14 (dk_at dksX7_noOrder_1 10 rfl rfl)
theorem dX7_noOrder_37 : decode cX7_noOrder 37 = .ok (.iload_n 2, 1) := dk_28 (dk_at dksX7_noOrder_1 13 rfl rfl)
theorem dX7_noOrder_38 : decode cX7_noOrder 38 = .ok (.iconst 1, 1) := dk_4 (dk_at dksX7_noOrder_1 14 rfl rfl)
theorem dX7_noOrder_39 : decode cX7_noOrder 39 = .ok (.if_icmp .ne 8, 3) := dk_160 0 8 (dk_at dksX7_noOrder_1 15 rfl rfl)
theorem dX7_noOrder_42 : decode cX7_noOrder 42 = .ok (.bipush 100, 2) := dk_16 100 (dk_at dksX7_noOrder_1 18 rfl rfl)
theorem dX7_noOrder_44 : decode cX7_noOrder 44 = .ok (.goto 4, 3) := dk_167 0 4 (dk_at dksX7_noOrder_1 20 rfl rfl)
theorem dX7_noOrder_47 : decode cX7_noOrder 47 = .ok (.iconst 3, 1) := dk_6 (dk_at dksX7_noOrder_1 23 rfl rfl)
theorem dX7_noOrder_48 : decode cX7_noOrder 48 = .ok (.invokestatic 76, 3) := dk_184 0 76 (dk_at dksX7_noOrder_2 0 rfl rfl)
theorem dX7_noOrder_51 : decode cX7_noOrder 51 = .ok (.ifCond .ne 8, 3) := dk_154 0 8 (dk_at dksX7_noOrder_2 3 rfl rfl)
theorem dX7_noOrder_54 : decode cX7_noOrder 54 = .ok (.bipush (-7), 2) := dk_16 249 (dk_at dksX7_noOrder_2 6 rfl rfl)
theorem dX7_noOrder_56 : decode cX7_noOrder 56 = .ok (.goto 4, 3) := dk_167 0 4 (dk_at dksX7_noOrder_2 8 rfl rfl)
theorem dX7_noOrder_59 : decode cX7_noOrder 59 = .ok (.iconst 0, 1) := dk_3 (dk_at dksX7_noOrder_2 11 rfl rfl)
theorem dX7_noOrder_60 : decode cX7_noOrder 60 = .ok (.ireturn, 1) := dk_172 (dk_at dksX7_noOrder_2 12 rfl rfl)
abbrev cX7_mayBe : ByteArray := prog_19_method_71_code
def yX7_mayBe : MethodName := ⟨RX7, "mayBe", "(III)I"⟩
def dkwX7_mayBe_1 : List UInt8 := [167, 0, 9, 42, 27, 29, 182, 1, 91, 172]
abbrev dktX7_mayBe_1 : List UInt8 := dkwX7_mayBe_1 ++ []
def dkwX7_mayBe_0 : List UInt8 := [28, 154, 0, 11, 42, 27, 182, 1, 85, 167, 0, 23, 28, 4, 160, 0, 12, 42, 27, 29, 182, 1, 88]
abbrev dktX7_mayBe_0 : List UInt8 := dkwX7_mayBe_0 ++ dktX7_mayBe_1
theorem dksX7_mayBe_0 : cX7_mayBe.data.toList.drop 0 = dktX7_mayBe_0 := by decide +kernel
theorem dksX7_mayBe_1 : cX7_mayBe.data.toList.drop 23 = dktX7_mayBe_1 := dk_seg dksX7_mayBe_0 23 rfl rfl
theorem dX7_mayBe_0 : decode cX7_mayBe 0 = .ok (.iload_n 2, 1) := dk_28 (dk_at dksX7_mayBe_0 0 rfl rfl)
theorem dX7_mayBe_1 : decode cX7_mayBe 1 = .ok (.ifCond .ne 11, 3) := dk_154 0 11 (dk_at dksX7_mayBe_0 1 rfl rfl)
theorem dX7_mayBe_4 : decode cX7_mayBe 4 = .ok (.aload_n 0, 1) := dk_42 (dk_at dksX7_mayBe_0 4 rfl rfl)
theorem dX7_mayBe_5 : decode cX7_mayBe 5 = .ok (.iload_n 1, 1) := dk_27 (dk_at dksX7_mayBe_0 5 rfl rfl)
theorem dX7_mayBe_6 : decode cX7_mayBe 6 = .ok (.invokevirtual 341, 3) := dk_182 1 85 (dk_at dksX7_mayBe_0 6 rfl rfl)
theorem dX7_mayBe_9 : decode cX7_mayBe 9 = .ok (.goto 23, 3) := dk_167 0 23 (dk_at dksX7_mayBe_0 9 rfl rfl)
theorem dX7_mayBe_12 : decode cX7_mayBe 12 = .ok (.iload_n 2, 1) := dk_28 (dk_at dksX7_mayBe_0 12 rfl rfl)
theorem dX7_mayBe_13 : decode cX7_mayBe 13 = .ok (.iconst 1, 1) := dk_4 (dk_at dksX7_mayBe_0 13 rfl rfl)
theorem dX7_mayBe_14 : decode cX7_mayBe 14 = .ok (.if_icmp .ne 12, 3) := dk_160 0 12 (dk_at dksX7_mayBe_0 14 rfl rfl)
theorem dX7_mayBe_17 : decode cX7_mayBe 17 = .ok (.aload_n 0, 1) := dk_42 (dk_at dksX7_mayBe_0 17 rfl rfl)
theorem dX7_mayBe_18 : decode cX7_mayBe 18 = .ok (.iload_n 1, 1) := dk_27 (dk_at dksX7_mayBe_0 18 rfl rfl)
theorem dX7_mayBe_19 : decode cX7_mayBe 19 = .ok (.iload_n 3, 1) := dk_29 (dk_at dksX7_mayBe_0 19 rfl rfl)
theorem dX7_mayBe_20 : decode cX7_mayBe 20 = .ok (.invokevirtual 344, 3) := dk_182 1 88 (dk_at dksX7_mayBe_0 20 rfl rfl)
theorem dX7_mayBe_23 : decode cX7_mayBe 23 = .ok (.goto 9, 3) := dk_167 0 9 (dk_at dksX7_mayBe_1 0 rfl rfl)
theorem dX7_mayBe_26 : decode cX7_mayBe 26 = .ok (.aload_n 0, 1) := dk_42 (dk_at dksX7_mayBe_1 3 rfl rfl)
theorem dX7_mayBe_27 : decode cX7_mayBe 27 = .ok (.iload_n 1, 1) := dk_27 (dk_at dksX7_mayBe_1 4 rfl rfl)
theorem dX7_mayBe_28 : decode cX7_mayBe 28 = .ok (.iload_n 3, 1) := dk_29 (dk_at dksX7_mayBe_1 5 rfl rfl)
theorem dX7_mayBe_29 : decode cX7_mayBe 29 = .ok (.invokevirtual 347, 3) := dk_182 1 91 (dk_at dksX7_mayBe_1 6 rfl rfl)
theorem dX7_mayBe_32 : decode cX7_mayBe 32 = .ok (.ireturn, 1) := dk_172 (dk_at dksX7_mayBe_1 9 rfl rfl)
abbrev cX7_mayCut : ByteArray := prog_19_method_67_code
def yX7_mayCut : MethodName := ⟨RX7, "mayCut", "(I)I"⟩
def dkwX7_mayCut_10 : List UInt8 := [153, 0, 7, 8, 167, 0, 4, 3, 172]
abbrev dktX7_mayCut_10 : List UInt8 := dkwX7_mayCut_10 ++ []
def dkwX7_mayCut_9 : List UInt8 := [182, 0, 84, 100, 21, 4, 162, 0, 5, 7, 172, 132, 5, 1, 167, 255, 188, 42, 27, 4, 182, 1, 82]
abbrev dktX7_mayCut_9 : List UInt8 := dkwX7_mayCut_9 ++ dktX7_mayCut_10
def dkwX7_mayCut_8 : List UInt8 := [21, 5, 16, 9, 182, 0, 84, 2, 159, 0, 25, 42, 180, 0, 13, 3, 46, 42, 21, 5, 16, 9]
abbrev dktX7_mayCut_8 : List UInt8 := dkwX7_mayCut_8 ++ dktX7_mayCut_9
def dkwX7_mayCut_7 : List UInt8 := [162, 0, 63, 42, 27, 21, 5, 182, 0, 122, 153, 0, 47, 42, 21, 5, 3, 182, 1, 82, 154, 0, 35, 42]
abbrev dktX7_mayCut_7 : List UInt8 := dkwX7_mayCut_7 ++ dktX7_mayCut_8
def dkwX7_mayCut_6 : List UInt8 := [180, 0, 13, 3, 46, 3, 182, 0, 129, 54, 4, 3, 54, 5, 21, 5, 42, 180, 0, 13, 4, 46]
abbrev dktX7_mayCut_6 : List UInt8 := dkwX7_mayCut_6 ++ dktX7_mayCut_7
def dkwX7_mayCut_5 : List UInt8 := [42, 180, 0, 13, 3, 46, 17, 39, 15, 182, 0, 129, 133, 148, 158, 0, 5, 6, 172, 42, 5, 27, 42]
abbrev dktX7_mayCut_5 : List UInt8 := dkwX7_mayCut_5 ++ dktX7_mayCut_6
def dkwX7_mayCut_4 : List UInt8 := [160, 0, 14, 32, 42, 21, 5, 7, 182, 0, 84, 133, 97, 65, 132, 4, 1, 167, 255, 190, 32, 42, 4, 27]
abbrev dktX7_mayCut_4 : List UInt8 := dkwX7_mayCut_4 ++ dktX7_mayCut_5
def dkwX7_mayCut_3 : List UInt8 := [154, 0, 36, 21, 5, 27, 159, 0, 30, 42, 21, 5, 3, 182, 0, 84, 42, 27, 3, 182, 0, 84]
abbrev dktX7_mayCut_3 : List UInt8 := dkwX7_mayCut_3 ++ dktX7_mayCut_4
def dkwX7_mayCut_2 : List UInt8 := [180, 0, 13, 8, 46, 162, 0, 61, 42, 21, 4, 3, 182, 1, 79, 54, 5, 42, 21, 4, 4, 182, 1, 79]
abbrev dktX7_mayCut_2 : List UInt8 := dkwX7_mayCut_2 ++ dktX7_mayCut_3
def dkwX7_mayCut_1 : List UInt8 := [46, 3, 182, 0, 129, 162, 0, 5, 5, 172, 42, 27, 7, 182, 0, 84, 133, 65, 3, 54, 4, 21, 4, 42]
abbrev dktX7_mayCut_1 : List UInt8 := dkwX7_mayCut_1 ++ dktX7_mayCut_2
def dkwX7_mayCut_0 : List UInt8 := [42, 27, 182, 0, 126, 153, 0, 5, 4, 172, 42, 27, 8, 182, 0, 84, 42, 3, 27, 42, 180, 0, 13, 3]
abbrev dktX7_mayCut_0 : List UInt8 := dkwX7_mayCut_0 ++ dktX7_mayCut_1
theorem dksX7_mayCut_0 : cX7_mayCut.data.toList.drop 0 = dktX7_mayCut_0 := by decide +kernel
theorem dksX7_mayCut_1 : cX7_mayCut.data.toList.drop 24 = dktX7_mayCut_1 := dk_seg dksX7_mayCut_0 24 rfl rfl
theorem dksX7_mayCut_2 : cX7_mayCut.data.toList.drop 48 = dktX7_mayCut_2 := dk_seg dksX7_mayCut_1 24 rfl rfl
theorem dksX7_mayCut_3 : cX7_mayCut.data.toList.drop 72 = dktX7_mayCut_3 := dk_seg dksX7_mayCut_2 24 rfl rfl
theorem dksX7_mayCut_4 : cX7_mayCut.data.toList.drop 94 = dktX7_mayCut_4 := dk_seg dksX7_mayCut_3 22 rfl rfl
theorem dksX7_mayCut_5 : cX7_mayCut.data.toList.drop 118 = dktX7_mayCut_5 := dk_seg dksX7_mayCut_4 24 rfl rfl
theorem dksX7_mayCut_6 : cX7_mayCut.data.toList.drop 141 = dktX7_mayCut_6 := dk_seg dksX7_mayCut_5 23 rfl rfl
theorem dksX7_mayCut_7 : cX7_mayCut.data.toList.drop 163 = dktX7_mayCut_7 := dk_seg dksX7_mayCut_6 22 rfl rfl
theorem dksX7_mayCut_8 : cX7_mayCut.data.toList.drop 187 = dktX7_mayCut_8 := dk_seg dksX7_mayCut_7 24 rfl rfl
theorem dksX7_mayCut_9 : cX7_mayCut.data.toList.drop 209 = dktX7_mayCut_9 := dk_seg dksX7_mayCut_8 22 rfl rfl
theorem dksX7_mayCut_10 : cX7_mayCut.data.toList.drop 232 = dktX7_mayCut_10 := dk_seg dksX7_mayCut_9 23 rfl rfl
theorem dX7_mayCut_0 : decode cX7_mayCut 0 = .ok (.aload_n 0, 1) := dk_42 (dk_at dksX7_mayCut_0 0 rfl rfl)
theorem dX7_mayCut_1 : decode cX7_mayCut 1 = .ok (.iload_n 1, 1) := dk_27 (dk_at dksX7_mayCut_0 1 rfl rfl)
theorem dX7_mayCut_2 : decode cX7_mayCut 2 = .ok (.invokevirtual 126, 3) := dk_182 0 126 (dk_at dksX7_mayCut_0 2 rfl rfl)
theorem dX7_mayCut_5 : decode cX7_mayCut 5 = .ok (.ifCond .eq 5, 3) := dk_153 0 5 (dk_at dksX7_mayCut_0 5 rfl rfl)
theorem dX7_mayCut_8 : decode cX7_mayCut 8 = .ok (.iconst 1, 1) := dk_4 (dk_at dksX7_mayCut_0 8 rfl rfl)
theorem dX7_mayCut_9 : decode cX7_mayCut 9 = .ok (.ireturn, 1) := dk_172 (dk_at dksX7_mayCut_0 9 rfl rfl)
theorem dX7_mayCut_10 : decode cX7_mayCut 10 = .ok (.aload_n 0, 1) := dk_42 (dk_at dksX7_mayCut_0 10 rfl rfl)
theorem dX7_mayCut_11 : decode cX7_mayCut 11 = .ok (.iload_n 1, 1) := dk_27 (dk_at dksX7_mayCut_0 11 rfl rfl)
theorem dX7_mayCut_12 : decode cX7_mayCut 12 = .ok (.iconst 5, 1) := dk_8 (dk_at dksX7_mayCut_0 12 rfl rfl)
theorem dX7_mayCut_13 : decode cX7_mayCut 13 = .ok (.invokevirtual 84, 3) := dk_182 0 84 (dk_at dksX7_mayCut_0 13 rfl rfl)
theorem dX7_mayCut_16 : decode cX7_mayCut 16 = .ok (.aload_n 0, 1) := dk_42 (dk_at dksX7_mayCut_0 16 rfl rfl)
theorem dX7_mayCut_17 : decode cX7_mayCut 17 = .ok (.iconst 0, 1) := dk_3 (dk_at dksX7_mayCut_0 17 rfl rfl)
theorem dX7_mayCut_18 : decode cX7_mayCut 18 = .ok (.iload_n 1, 1) := dk_27 (dk_at dksX7_mayCut_0 18 rfl rfl)
theorem dX7_mayCut_19 : decode cX7_mayCut 19 = .ok (.aload_n 0, 1) := dk_42 (dk_at dksX7_mayCut_0 19 rfl rfl)
theorem dX7_mayCut_20 : decode cX7_mayCut 20 = .ok (.getfield 13, 3) := dk_180 0 13 (dk_at dksX7_mayCut_0 20 rfl rfl)
theorem dX7_mayCut_23 : decode cX7_mayCut 23 = .ok (.iconst 0, 1) := dk_3 (dk_at dksX7_mayCut_0 23 rfl rfl)
theorem dX7_mayCut_24 : decode cX7_mayCut 24 = .ok (.iaload, 1) := dk_46 (dk_at dksX7_mayCut_1 0 rfl rfl)
theorem dX7_mayCut_25 : decode cX7_mayCut 25 = .ok (.iconst 0, 1) := dk_3 (dk_at dksX7_mayCut_1 1 rfl rfl)
theorem dX7_mayCut_26 : decode cX7_mayCut 26 = .ok (.invokevirtual 129, 3) := dk_182 0 129 (dk_at dksX7_mayCut_1 2 rfl rfl)
theorem dX7_mayCut_29 : decode cX7_mayCut 29 = .ok (.if_icmp .ge 5, 3) := dk_162 0 5 (dk_at dksX7_mayCut_1 5 rfl rfl)
theorem dX7_mayCut_32 : decode cX7_mayCut 32 = .ok (.iconst 2, 1) := dk_5 (dk_at dksX7_mayCut_1 8 rfl rfl)
theorem dX7_mayCut_33 : decode cX7_mayCut 33 = .ok (.ireturn, 1) := dk_172 (dk_at dksX7_mayCut_1 9 rfl rfl)
theorem dX7_mayCut_34 : decode cX7_mayCut 34 = .ok (.aload_n 0, 1) := dk_42 (dk_at dksX7_mayCut_1 10 rfl rfl)
theorem dX7_mayCut_35 : decode cX7_mayCut 35 = .ok (.iload_n 1, 1) := dk_27 (dk_at dksX7_mayCut_1 11 rfl rfl)
theorem dX7_mayCut_36 : decode cX7_mayCut 36 = .ok (.iconst 4, 1) := dk_7 (dk_at dksX7_mayCut_1 12 rfl rfl)
theorem dX7_mayCut_37 : decode cX7_mayCut 37 = .ok (.invokevirtual 84, 3) := dk_182 0 84 (dk_at dksX7_mayCut_1 13 rfl rfl)
theorem dX7_mayCut_40 : decode cX7_mayCut 40 = .ok (.i2l, 1) := dk_133 (dk_at dksX7_mayCut_1 16 rfl rfl)
theorem dX7_mayCut_41 : decode cX7_mayCut 41 = .ok (.lstore_n 2, 1) := dk_65 (dk_at dksX7_mayCut_1 17 rfl rfl)
theorem dX7_mayCut_42 : decode cX7_mayCut 42 = .ok (.iconst 0, 1) := dk_3 (dk_at dksX7_mayCut_1 18 rfl rfl)
theorem dX7_mayCut_43 : decode cX7_mayCut 43 = .ok (.istore 4, 2) := dk_54 4 (dk_at dksX7_mayCut_1 19 rfl rfl)
theorem dX7_mayCut_45 : decode cX7_mayCut 45 = .ok (.iload 4, 2) := dk_21 4 (dk_at dksX7_mayCut_1 21 rfl rfl)
theorem dX7_mayCut_47 : decode cX7_mayCut 47 = .ok (.aload_n 0, 1) := dk_42 (dk_at dksX7_mayCut_1 23 rfl rfl)
theorem dX7_mayCut_48 : decode cX7_mayCut 48 = .ok (.getfield 13, 3) := dk_180 0 13 (dk_at dksX7_mayCut_2 0 rfl rfl)
theorem dX7_mayCut_51 : decode cX7_mayCut 51 = .ok (.iconst 5, 1) := dk_8 (dk_at dksX7_mayCut_2 3 rfl rfl)
theorem dX7_mayCut_52 : decode cX7_mayCut 52 = .ok (.iaload, 1) := dk_46 (dk_at dksX7_mayCut_2 4 rfl rfl)
theorem dX7_mayCut_53 : decode cX7_mayCut 53 = .ok (.if_icmp .ge 61, 3) := dk_162 0 61 (dk_at dksX7_mayCut_2 5 rfl rfl)
theorem dX7_mayCut_56 : decode cX7_mayCut 56 = .ok (.aload_n 0, 1) := dk_42 (dk_at dksX7_mayCut_2 8 rfl rfl)
theorem dX7_mayCut_57 : decode cX7_mayCut 57 = .ok (.iload 4, 2) := dk_21 4 (dk_at dksX7_mayCut_2 9 rfl rfl)
theorem dX7_mayCut_59 : decode cX7_mayCut 59 = .ok (.iconst 0, 1) := dk_3 (dk_at dksX7_mayCut_2 11 rfl rfl)
theorem dX7_mayCut_60 : decode cX7_mayCut 60 = .ok (.invokevirtual 335, 3) := dk_182 1 79 (dk_at dksX7_mayCut_2 12 rfl rfl)
theorem dX7_mayCut_63 : decode cX7_mayCut 63 = .ok (.istore 5, 2) := dk_54 5 (dk_at dksX7_mayCut_2 15 rfl rfl)
theorem dX7_mayCut_65 : decode cX7_mayCut 65 = .ok (.aload_n 0, 1) := dk_42 (dk_at dksX7_mayCut_2 17 rfl rfl)
theorem dX7_mayCut_66 : decode cX7_mayCut 66 = .ok (.iload 4, 2) := dk_21 4 (dk_at dksX7_mayCut_2 18 rfl rfl)
theorem dX7_mayCut_68 : decode cX7_mayCut 68 = .ok (.iconst 1, 1) := dk_4 (dk_at dksX7_mayCut_2 20 rfl rfl)
theorem dX7_mayCut_69 : decode cX7_mayCut 69 = .ok (.invokevirtual 335, 3) := dk_182 1 79 (dk_at dksX7_mayCut_2 21 rfl rfl)
theorem dX7_mayCut_72 : decode cX7_mayCut 72 = .ok (.ifCond .ne 36, 3) := dk_154 0 36 (dk_at dksX7_mayCut_3 0 rfl rfl)
theorem dX7_mayCut_75 : decode cX7_mayCut 75 = .ok (.iload 5, 2) := dk_21 5 (dk_at dksX7_mayCut_3 3 rfl rfl)
theorem dX7_mayCut_77 : decode cX7_mayCut 77 = .ok (.iload_n 1, 1) := dk_27 (dk_at dksX7_mayCut_3 5 rfl rfl)
theorem dX7_mayCut_78 : decode cX7_mayCut 78 = .ok (.if_icmp .eq 30, 3) := dk_159 0 30 (dk_at dksX7_mayCut_3 6 rfl rfl)
theorem dX7_mayCut_81 : decode cX7_mayCut 81 = .ok (.aload_n 0, 1) := dk_42 (dk_at dksX7_mayCut_3 9 rfl rfl)
theorem dX7_mayCut_82 : decode cX7_mayCut 82 = .ok (.iload 5, 2) := dk_21 5 (dk_at dksX7_mayCut_3 10 rfl rfl)
theorem dX7_mayCut_84 : decode cX7_mayCut 84 = .ok (.iconst 0, 1) := dk_3 (dk_at dksX7_mayCut_3 12 rfl rfl)
theorem dX7_mayCut_85 : decode cX7_mayCut 85 = .ok (.invokevirtual 84, 3) := dk_182 0 84 (dk_at dksX7_mayCut_3 13 rfl rfl)
theorem dX7_mayCut_88 : decode cX7_mayCut 88 = .ok (.aload_n 0, 1) := dk_42 (dk_at dksX7_mayCut_3 16 rfl rfl)
theorem dX7_mayCut_89 : decode cX7_mayCut 89 = .ok (.iload_n 1, 1) := dk_27 (dk_at dksX7_mayCut_3 17 rfl rfl)
theorem dX7_mayCut_90 : decode cX7_mayCut 90 = .ok (.iconst 0, 1) := dk_3 (dk_at dksX7_mayCut_3 18 rfl rfl)
theorem dX7_mayCut_91 : decode cX7_mayCut 91 = .ok (.invokevirtual 84, 3) := dk_182 0 84 (dk_at dksX7_mayCut_3 19 rfl rfl)
theorem dX7_mayCut_94 : decode cX7_mayCut 94 = .ok (.if_icmp .ne 14, 3) := dk_160 0 14 (dk_at dksX7_mayCut_4 0 rfl rfl)
theorem dX7_mayCut_97 : decode cX7_mayCut 97 = .ok (.lload_n 2, 1) := dk_32 (dk_at dksX7_mayCut_4 3 rfl rfl)
theorem dX7_mayCut_98 : decode cX7_mayCut 98 = .ok (.aload_n 0, 1) := dk_42 (dk_at dksX7_mayCut_4 4 rfl rfl)
theorem dX7_mayCut_99 : decode cX7_mayCut 99 = .ok (.iload 5, 2) := dk_21 5 (dk_at dksX7_mayCut_4 5 rfl rfl)
theorem dX7_mayCut_101 : decode cX7_mayCut 101 = .ok (.iconst 4, 1) := dk_7 (dk_at dksX7_mayCut_4 7 rfl rfl)
theorem dX7_mayCut_102 : decode cX7_mayCut 102 = .ok (.invokevirtual 84, 3) := dk_182 0 84 (dk_at dksX7_mayCut_4 8 rfl rfl)
theorem dX7_mayCut_105 : decode cX7_mayCut 105 = .ok (.i2l, 1) := dk_133 (dk_at dksX7_mayCut_4 11 rfl rfl)
theorem dX7_mayCut_106 : decode cX7_mayCut 106 = .ok (.ladd, 1) := dk_97 (dk_at dksX7_mayCut_4 12 rfl rfl)
theorem dX7_mayCut_107 : decode cX7_mayCut 107 = .ok (.lstore_n 2, 1) := dk_65 (dk_at dksX7_mayCut_4 13 rfl rfl)
theorem dX7_mayCut_108 : decode cX7_mayCut 108 = .ok (.iinc 4 1, 3) := dk_132 4 1 (dk_at dksX7_mayCut_4 14 rfl rfl)
theorem dX7_mayCut_111 : decode cX7_mayCut 111 = .ok (.goto (-66), 3) := dk_167 255 190 (dk_at dksX7_mayCut_4 17 rfl rfl)
theorem dX7_mayCut_114 : decode cX7_mayCut 114 = .ok (.lload_n 2, 1) := dk_32 (dk_at dksX7_mayCut_4 20 rfl rfl)
theorem dX7_mayCut_115 : decode cX7_mayCut 115 = .ok (.aload_n 0, 1) := dk_42 (dk_at dksX7_mayCut_4 21 rfl rfl)
theorem dX7_mayCut_116 : decode cX7_mayCut 116 = .ok (.iconst 1, 1) := dk_4 (dk_at dksX7_mayCut_4 22 rfl rfl)
theorem dX7_mayCut_117 : decode cX7_mayCut 117 = .ok (.iload_n 1, 1) := dk_27 (dk_at dksX7_mayCut_4 23 rfl rfl)
theorem dX7_mayCut_118 : decode cX7_mayCut 118 = .ok (.aload_n 0, 1) := dk_42 (dk_at dksX7_mayCut_5 0 rfl rfl)
theorem dX7_mayCut_119 : decode cX7_mayCut 119 = .ok (.getfield 13, 3) := dk_180 0 13 (dk_at dksX7_mayCut_5 1 rfl rfl)
theorem dX7_mayCut_122 : decode cX7_mayCut 122 = .ok (.iconst 0, 1) := dk_3 (dk_at dksX7_mayCut_5 4 rfl rfl)
theorem dX7_mayCut_123 : decode cX7_mayCut 123 = .ok (.iaload, 1) := dk_46 (dk_at dksX7_mayCut_5 5 rfl rfl)
theorem dX7_mayCut_124 : decode cX7_mayCut 124 = .ok (.sipush 9999, 3) := dk_17 39 15 (dk_at dksX7_mayCut_5 6 rfl rfl)
theorem dX7_mayCut_127 : decode cX7_mayCut 127 = .ok (.invokevirtual 129, 3) := dk_182 0 129 (dk_at dksX7_mayCut_5 9 rfl rfl)
theorem dX7_mayCut_130 : decode cX7_mayCut 130 = .ok (.i2l, 1) := dk_133 (dk_at dksX7_mayCut_5 12 rfl rfl)
theorem dX7_mayCut_131 : decode cX7_mayCut 131 = .ok (.lcmp, 1) := dk_148 (dk_at dksX7_mayCut_5 13 rfl rfl)
theorem dX7_mayCut_132 : decode cX7_mayCut 132 = .ok (.ifCond .le 5, 3) := dk_158 0 5 (dk_at dksX7_mayCut_5 14 rfl rfl)
theorem dX7_mayCut_135 : decode cX7_mayCut 135 = .ok (.iconst 3, 1) := dk_6 (dk_at dksX7_mayCut_5 17 rfl rfl)
theorem dX7_mayCut_136 : decode cX7_mayCut 136 = .ok (.ireturn, 1) := dk_172 (dk_at dksX7_mayCut_5 18 rfl rfl)
theorem dX7_mayCut_137 : decode cX7_mayCut 137 = .ok (.aload_n 0, 1) := dk_42 (dk_at dksX7_mayCut_5 19 rfl rfl)
theorem dX7_mayCut_138 : decode cX7_mayCut 138 = .ok (.iconst 2, 1) := dk_5 (dk_at dksX7_mayCut_5 20 rfl rfl)
theorem dX7_mayCut_139 : decode cX7_mayCut 139 = .ok (.iload_n 1, 1) := dk_27 (dk_at dksX7_mayCut_5 21 rfl rfl)
theorem dX7_mayCut_140 : decode cX7_mayCut 140 = .ok (.aload_n 0, 1) := dk_42 (dk_at dksX7_mayCut_5 22 rfl rfl)
theorem dX7_mayCut_141 : decode cX7_mayCut 141 = .ok (.getfield 13, 3) := dk_180 0 13 (dk_at dksX7_mayCut_6 0 rfl rfl)
theorem dX7_mayCut_144 : decode cX7_mayCut 144 = .ok (.iconst 0, 1) := dk_3 (dk_at dksX7_mayCut_6 3 rfl rfl)
theorem dX7_mayCut_145 : decode cX7_mayCut 145 = .ok (.iaload, 1) := dk_46 (dk_at dksX7_mayCut_6 4 rfl rfl)
theorem dX7_mayCut_146 : decode cX7_mayCut 146 = .ok (.iconst 0, 1) := dk_3 (dk_at dksX7_mayCut_6 5 rfl rfl)
theorem dX7_mayCut_147 : decode cX7_mayCut 147 = .ok (.invokevirtual 129, 3) := dk_182 0 129 (dk_at dksX7_mayCut_6 6 rfl rfl)
theorem dX7_mayCut_150 : decode cX7_mayCut 150 = .ok (.istore 4, 2) := dk_54 4 (dk_at dksX7_mayCut_6 9 rfl rfl)
theorem dX7_mayCut_152 : decode cX7_mayCut 152 = .ok (.iconst 0, 1) := dk_3 (dk_at dksX7_mayCut_6 11 rfl rfl)
theorem dX7_mayCut_153 : decode cX7_mayCut 153 = .ok (.istore 5, 2) := dk_54 5 (dk_at dksX7_mayCut_6 12 rfl rfl)
theorem dX7_mayCut_155 : decode cX7_mayCut 155 = .ok (.iload 5, 2) := dk_21 5 (dk_at dksX7_mayCut_6 14 rfl rfl)
theorem dX7_mayCut_157 : decode cX7_mayCut 157 = .ok (.aload_n 0, 1) := dk_42 (dk_at dksX7_mayCut_6 16 rfl rfl)
theorem dX7_mayCut_158 : decode cX7_mayCut 158 = .ok (.getfield 13, 3) := dk_180 0 13 (dk_at dksX7_mayCut_6 17 rfl rfl)
theorem dX7_mayCut_161 : decode cX7_mayCut 161 = .ok (.iconst 1, 1) := dk_4 (dk_at dksX7_mayCut_6 20 rfl rfl)
theorem dX7_mayCut_162 : decode cX7_mayCut 162 = .ok (.iaload, 1) := dk_46 (dk_at dksX7_mayCut_6 21 rfl rfl)
theorem dX7_mayCut_163 : decode cX7_mayCut 163 = .ok (.if_icmp .ge 63, 3) := dk_162 0 63 (dk_at dksX7_mayCut_7 0 rfl rfl)
theorem dX7_mayCut_166 : decode cX7_mayCut 166 = .ok (.aload_n 0, 1) := dk_42 (dk_at dksX7_mayCut_7 3 rfl rfl)
theorem dX7_mayCut_167 : decode cX7_mayCut 167 = .ok (.iload_n 1, 1) := dk_27 (dk_at dksX7_mayCut_7 4 rfl rfl)
theorem dX7_mayCut_168 : decode cX7_mayCut 168 = .ok (.iload 5, 2) := dk_21 5 (dk_at dksX7_mayCut_7 5 rfl rfl)
theorem dX7_mayCut_170 : decode cX7_mayCut 170 = .ok (.invokevirtual 122, 3) := dk_182 0 122 (dk_at dksX7_mayCut_7 7 rfl rfl)
theorem dX7_mayCut_173 : decode cX7_mayCut 173 = .ok (.ifCond .eq 47, 3) := dk_153 0 47 (dk_at dksX7_mayCut_7 10 rfl rfl)
theorem dX7_mayCut_176 : decode cX7_mayCut 176 = .ok (.aload_n 0, 1) := dk_42 (dk_at dksX7_mayCut_7 13 rfl rfl)
theorem dX7_mayCut_177 : decode cX7_mayCut 177 = .ok (.iload 5, 2) := dk_21 5 (dk_at dksX7_mayCut_7 14 rfl rfl)
theorem dX7_mayCut_179 : decode cX7_mayCut 179 = .ok (.iconst 0, 1) := dk_3 (dk_at dksX7_mayCut_7 16 rfl rfl)
theorem dX7_mayCut_180 : decode cX7_mayCut 180 = .ok (.invokevirtual 338, 3) := dk_182 1 82 (dk_at dksX7_mayCut_7 17 rfl rfl)
theorem dX7_mayCut_183 : decode cX7_mayCut 183 = .ok (.ifCond .ne 35, 3) := dk_154 0 35 (dk_at dksX7_mayCut_7 20 rfl rfl)
theorem dX7_mayCut_186 : decode cX7_mayCut 186 = .ok (.aload_n 0, 1) := dk_42 (dk_at dksX7_mayCut_7 23 rfl rfl)
theorem dX7_mayCut_187 : decode cX7_mayCut 187 = .ok (.iload 5, 2) := dk_21 5 (dk_at dksX7_mayCut_8 0 rfl rfl)
theorem dX7_mayCut_189 : decode cX7_mayCut 189 = .ok (.bipush 9, 2) := dk_16 9 (dk_at dksX7_mayCut_8 2 rfl rfl)
theorem dX7_mayCut_191 : decode cX7_mayCut 191 = .ok (.invokevirtual 84, 3) := dk_182 0 84 (dk_at dksX7_mayCut_8 4 rfl rfl)
theorem dX7_mayCut_194 : decode cX7_mayCut 194 = .ok (.iconst (-1), 1) := dk_2 (dk_at dksX7_mayCut_8 7 rfl rfl)
theorem dX7_mayCut_195 : decode cX7_mayCut 195 = .ok (.if_icmp .eq 25, 3) := dk_159 0 25 (dk_at dksX7_mayCut_8 8 rfl rfl)
theorem dX7_mayCut_198 : decode cX7_mayCut 198 = .ok (.aload_n 0, 1) := dk_42 (dk_at dksX7_mayCut_8 11 rfl rfl)
theorem dX7_mayCut_199 : decode cX7_mayCut 199 = .ok (.getfield 13, 3) := dk_180 0 13 (dk_at dksX7_mayCut_8 12 rfl rfl)
theorem dX7_mayCut_202 : decode cX7_mayCut 202 = .ok (.iconst 0, 1) := dk_3 (dk_at dksX7_mayCut_8 15 rfl rfl)
theorem dX7_mayCut_203 : decode cX7_mayCut 203 = .ok (.iaload, 1) := dk_46 (dk_at dksX7_mayCut_8 16 rfl rfl)
theorem dX7_mayCut_204 : decode cX7_mayCut 204 = .ok (.aload_n 0, 1) := dk_42 (dk_at dksX7_mayCut_8 17 rfl rfl)
theorem dX7_mayCut_205 : decode cX7_mayCut 205 = .ok (.iload 5, 2) := dk_21 5 (dk_at dksX7_mayCut_8 18 rfl rfl)
theorem dX7_mayCut_207 : decode cX7_mayCut 207 = .ok (.bipush 9, 2) := dk_16 9 (dk_at dksX7_mayCut_8 20 rfl rfl)
theorem dX7_mayCut_209 : decode cX7_mayCut 209 = .ok (.invokevirtual 84, 3) := dk_182 0 84 (dk_at dksX7_mayCut_9 0 rfl rfl)
theorem dX7_mayCut_212 : decode cX7_mayCut 212 = .ok (.isub, 1) := dk_100 (dk_at dksX7_mayCut_9 3 rfl rfl)
theorem dX7_mayCut_213 : decode cX7_mayCut 213 = .ok (.iload 4, 2) := dk_21 4 (dk_at dksX7_mayCut_9 4 rfl rfl)
theorem dX7_mayCut_215 : decode cX7_mayCut 215 = .ok (.if_icmp .ge 5, 3) := dk_162 0 5 (dk_at dksX7_mayCut_9 6 rfl rfl)
theorem dX7_mayCut_218 : decode cX7_mayCut 218 = .ok (.iconst 4, 1) := dk_7 (dk_at dksX7_mayCut_9 9 rfl rfl)
theorem dX7_mayCut_219 : decode cX7_mayCut 219 = .ok (.ireturn, 1) := dk_172 (dk_at dksX7_mayCut_9 10 rfl rfl)
theorem dX7_mayCut_220 : decode cX7_mayCut 220 = .ok (.iinc 5 1, 3) := dk_132 5 1 (dk_at dksX7_mayCut_9 11 rfl rfl)
theorem dX7_mayCut_223 : decode cX7_mayCut 223 = .ok (.goto (-68), 3) := dk_167 255 188 (dk_at dksX7_mayCut_9 14 rfl rfl)
theorem dX7_mayCut_226 : decode cX7_mayCut 226 = .ok (.aload_n 0, 1) := dk_42 (dk_at dksX7_mayCut_9 17 rfl rfl)
theorem dX7_mayCut_227 : decode cX7_mayCut 227 = .ok (.iload_n 1, 1) := dk_27 (dk_at dksX7_mayCut_9 18 rfl rfl)
theorem dX7_mayCut_228 : decode cX7_mayCut 228 = .ok (.iconst 1, 1) := dk_4 (dk_at dksX7_mayCut_9 19 rfl rfl)
theorem dX7_mayCut_229 : decode cX7_mayCut 229 = .ok (.invokevirtual 338, 3) := dk_182 1 82 (dk_at dksX7_mayCut_9 20 rfl rfl)
theorem dX7_mayCut_232 : decode cX7_mayCut 232 = .ok (.ifCond .eq 7, 3) := dk_153 0 7 (dk_at dksX7_mayCut_10 0 rfl rfl)
theorem dX7_mayCut_235 : decode cX7_mayCut 235 = .ok (.iconst 5, 1) := dk_8 (dk_at dksX7_mayCut_10 3 rfl rfl)
theorem dX7_mayCut_236 : decode cX7_mayCut 236 = .ok (.goto 4, 3) := dk_167 0 4 (dk_at dksX7_mayCut_10 4 rfl rfl)
theorem dX7_mayCut_239 : decode cX7_mayCut 239 = .ok (.iconst 0, 1) := dk_3 (dk_at dksX7_mayCut_10 7 rfl rfl)
theorem dX7_mayCut_240 : decode cX7_mayCut 240 = .ok (.ireturn, 1) := dk_172 (dk_at dksX7_mayCut_10 8 rfl rfl)
abbrev cX7_od : ByteArray := prog_19_method_65_code
def yX7_od : MethodName := ⟨RX7, "od", "(II)I"⟩
def dkwX7_od_0 : List UInt8 := [42, 180, 0, 13, 17, 12, 248, 6, 27, 104, 96, 28, 96, 46, 172]
abbrev dktX7_od_0 : List UInt8 := dkwX7_od_0 ++ []
theorem dksX7_od_0 : cX7_od.data.toList.drop 0 = dktX7_od_0 := by decide +kernel
theorem dX7_od_0 : decode cX7_od 0 = .ok (.aload_n 0, 1) := dk_42 (dk_at dksX7_od_0 0 rfl rfl)
theorem dX7_od_1 : decode cX7_od 1 = .ok (.getfield 13, 3) := dk_180 0 13 (dk_at dksX7_od_0 1 rfl rfl)
theorem dX7_od_4 : decode cX7_od 4 = .ok (.sipush 3320, 3) := dk_17 12 248 (dk_at dksX7_od_0 4 rfl rfl)
theorem dX7_od_7 : decode cX7_od 7 = .ok (.iconst 3, 1) := dk_6 (dk_at dksX7_od_0 7 rfl rfl)
theorem dX7_od_8 : decode cX7_od 8 = .ok (.iload_n 1, 1) := dk_27 (dk_at dksX7_od_0 8 rfl rfl)
theorem dX7_od_9 : decode cX7_od 9 = .ok (.imul, 1) := dk_104 (dk_at dksX7_od_0 9 rfl rfl)
theorem dX7_od_10 : decode cX7_od 10 = .ok (.iadd, 1) := dk_96 (dk_at dksX7_od_0 10 rfl rfl)
theorem dX7_od_11 : decode cX7_od 11 = .ok (.iload_n 2, 1) := dk_28 (dk_at dksX7_od_0 11 rfl rfl)
theorem dX7_od_12 : decode cX7_od 12 = .ok (.iadd, 1) := dk_96 (dk_at dksX7_od_0 12 rfl rfl)
theorem dX7_od_13 : decode cX7_od 13 = .ok (.iaload, 1) := dk_46 (dk_at dksX7_od_0 13 rfl rfl)
theorem dX7_od_14 : decode cX7_od 14 = .ok (.ireturn, 1) := dk_172 (dk_at dksX7_od_0 14 rfl rfl)
abbrev cX7_isOrdered : ByteArray := prog_19_method_66_code
def yX7_isOrdered : MethodName := ⟨RX7, "isOrdered", "(II)Z"⟩
def dkwX7_isOrdered_1 : List UInt8 := [4, 182, 1, 79, 28, 160, 0, 5, 4, 172, 132, 3, 1, 167, 255, 221, 3, 172]
abbrev dktX7_isOrdered_1 : List UInt8 := dkwX7_isOrdered_1 ++ []
def dkwX7_isOrdered_0 : List UInt8 := [3, 62, 29, 42, 180, 0, 13, 8, 46, 162, 0, 31, 42, 29, 3, 182, 1, 79, 27, 160, 0, 15, 42, 29]
abbrev dktX7_isOrdered_0 : List UInt8 := dkwX7_isOrdered_0 ++ dktX7_isOrdered_1
theorem dksX7_isOrdered_0 : cX7_isOrdered.data.toList.drop 0 = dktX7_isOrdered_0 := by decide +kernel
theorem dksX7_isOrdered_1 : cX7_isOrdered.data.toList.drop 24 = dktX7_isOrdered_1 := dk_seg dksX7_isOrdered_0 24 rfl rfl
theorem dX7_isOrdered_0 : decode cX7_isOrdered 0 = .ok (.iconst 0, 1) := dk_3 (dk_at dksX7_isOrdered_0 0 rfl rfl)
theorem dX7_isOrdered_1 : decode cX7_isOrdered 1 = .ok (.istore_n 3, 1) := dk_62 (dk_at dksX7_isOrdered_0 1 rfl rfl)
theorem dX7_isOrdered_2 : decode cX7_isOrdered 2 = .ok (.iload_n 3, 1) := dk_29 (dk_at dksX7_isOrdered_0 2 rfl rfl)
theorem dX7_isOrdered_3 : decode cX7_isOrdered 3 = .ok (.aload_n 0, 1) := dk_42 (dk_at dksX7_isOrdered_0 3 rfl rfl)
theorem dX7_isOrdered_4 : decode cX7_isOrdered 4 = .ok (.getfield 13, 3) := dk_180 0 13 (dk_at dksX7_isOrdered_0 4 rfl rfl)
theorem dX7_isOrdered_7 : decode cX7_isOrdered 7 = .ok (.iconst 5, 1) := dk_8 (dk_at dksX7_isOrdered_0 7 rfl rfl)
theorem dX7_isOrdered_8 : decode cX7_isOrdered 8 = .ok (.iaload, 1) := dk_46 (dk_at dksX7_isOrdered_0 8 rfl rfl)
theorem dX7_isOrdered_9 : decode cX7_isOrdered 9 = .ok (.if_icmp .ge 31, 3) := dk_162 0 31 (dk_at dksX7_isOrdered_0 9 rfl rfl)
theorem dX7_isOrdered_12 : decode cX7_isOrdered 12 = .ok (.aload_n 0, 1) := dk_42 (dk_at dksX7_isOrdered_0 12 rfl rfl)
theorem dX7_isOrdered_13 : decode cX7_isOrdered 13 = .ok (.iload_n 3, 1) := dk_29 (dk_at dksX7_isOrdered_0 13 rfl rfl)
theorem dX7_isOrdered_14 : decode cX7_isOrdered 14 = .ok (.iconst 0, 1) := dk_3 (dk_at dksX7_isOrdered_0 14 rfl rfl)
theorem dX7_isOrdered_15 : decode cX7_isOrdered 15 = .ok (.invokevirtual 335, 3) := dk_182 1 79 (dk_at dksX7_isOrdered_0 15 rfl rfl)
theorem dX7_isOrdered_18 : decode cX7_isOrdered 18 = .ok (.iload_n 1, 1) := dk_27 (dk_at dksX7_isOrdered_0 18 rfl rfl)
theorem dX7_isOrdered_19 : decode cX7_isOrdered 19 = .ok (.if_icmp .ne 15, 3) := dk_160 0 15 (dk_at dksX7_isOrdered_0 19 rfl rfl)
theorem dX7_isOrdered_22 : decode cX7_isOrdered 22 = .ok (.aload_n 0, 1) := dk_42 (dk_at dksX7_isOrdered_0 22 rfl rfl)
theorem dX7_isOrdered_23 : decode cX7_isOrdered 23 = .ok (.iload_n 3, 1) := dk_29 (dk_at dksX7_isOrdered_0 23 rfl rfl)
theorem dX7_isOrdered_24 : decode cX7_isOrdered 24 = .ok (.iconst 1, 1) := dk_4 (dk_at dksX7_isOrdered_1 0 rfl rfl)
theorem dX7_isOrdered_25 : decode cX7_isOrdered 25 = .ok (.invokevirtual 335, 3) := dk_182 1 79 (dk_at dksX7_isOrdered_1 1 rfl rfl)
theorem dX7_isOrdered_28 : decode cX7_isOrdered 28 = .ok (.iload_n 2, 1) := dk_28 (dk_at dksX7_isOrdered_1 4 rfl rfl)
theorem dX7_isOrdered_29 : decode cX7_isOrdered 29 = .ok (.if_icmp .ne 5, 3) := dk_160 0 5 (dk_at dksX7_isOrdered_1 5 rfl rfl)
theorem dX7_isOrdered_32 : decode cX7_isOrdered 32 = .ok (.iconst 1, 1) := dk_4 (dk_at dksX7_isOrdered_1 8 rfl rfl)
theorem dX7_isOrdered_33 : decode cX7_isOrdered 33 = .ok (.ireturn, 1) := dk_172 (dk_at dksX7_isOrdered_1 9 rfl rfl)
theorem dX7_isOrdered_34 : decode cX7_isOrdered 34 = .ok (.iinc 3 1, 3) := dk_132 3 1 (dk_at dksX7_isOrdered_1 10 rfl rfl)
theorem dX7_isOrdered_37 : decode cX7_isOrdered 37 = .ok (.goto (-35), 3) := dk_167 255 221 (dk_at dksX7_isOrdered_1 13 rfl rfl)
theorem dX7_isOrdered_40 : decode cX7_isOrdered 40 = .ok (.iconst 0, 1) := dk_3 (dk_at dksX7_isOrdered_1 16 rfl rfl)
theorem dX7_isOrdered_41 : decode cX7_isOrdered 41 = .ok (.ireturn, 1) := dk_172 (dk_at dksX7_isOrdered_1 17 rfl rfl)
abbrev cX7_mayThin : ByteArray := prog_19_method_68_code
def yX7_mayThin : MethodName := ⟨RX7, "mayThin", "(II)I"⟩
def dkwX7_mayThin_2 : List UInt8 := [27, 3, 182, 1, 82, 153, 0, 7, 7, 167, 0, 4, 3, 172]
abbrev dktX7_mayThin_2 : List UInt8 := dkwX7_mayThin_2 ++ []
def dkwX7_mayThin_1 : List UInt8 := [4, 161, 0, 20, 28, 42, 6, 27, 42, 180, 0, 13, 3, 46, 3, 182, 0, 129, 162, 0, 5, 6, 172, 42]
abbrev dktX7_mayThin_1 : List UInt8 := dkwX7_mayThin_1 ++ dktX7_mayThin_2
def dkwX7_mayThin_0 : List UInt8 := [42, 27, 182, 0, 126, 153, 0, 5, 4, 172, 42, 27, 16, 6, 182, 0, 84, 28, 163, 0, 5, 5, 172, 28]
abbrev dktX7_mayThin_0 : List UInt8 := dkwX7_mayThin_0 ++ dktX7_mayThin_1
theorem dksX7_mayThin_0 : cX7_mayThin.data.toList.drop 0 = dktX7_mayThin_0 := by decide +kernel
theorem dksX7_mayThin_1 : cX7_mayThin.data.toList.drop 24 = dktX7_mayThin_1 := dk_seg dksX7_mayThin_0 24 rfl rfl
theorem dksX7_mayThin_2 : cX7_mayThin.data.toList.drop 48 = dktX7_mayThin_2 := dk_seg dksX7_mayThin_1 24 rfl rfl
theorem dX7_mayThin_0 : decode cX7_mayThin 0 = .ok (.aload_n 0, 1) := dk_42 (dk_at dksX7_mayThin_0 0 rfl rfl)
theorem dX7_mayThin_1 : decode cX7_mayThin 1 = .ok (.iload_n 1, 1) := dk_27 (dk_at dksX7_mayThin_0 1 rfl rfl)
theorem dX7_mayThin_2 : decode cX7_mayThin 2 = .ok (.invokevirtual 126, 3) := dk_182 0 126 (dk_at dksX7_mayThin_0 2 rfl rfl)
theorem dX7_mayThin_5 : decode cX7_mayThin 5 = .ok (.ifCond .eq 5, 3) := dk_153 0 5 (dk_at dksX7_mayThin_0 5 rfl rfl)
theorem dX7_mayThin_8 : decode cX7_mayThin 8 = .ok (.iconst 1, 1) := dk_4 (dk_at dksX7_mayThin_0 8 rfl rfl)
theorem dX7_mayThin_9 : decode cX7_mayThin 9 = .ok (.ireturn, 1) := dk_172 (dk_at dksX7_mayThin_0 9 rfl rfl)
theorem dX7_mayThin_10 : decode cX7_mayThin 10 = .ok (.aload_n 0, 1) := dk_42 (dk_at dksX7_mayThin_0 10 rfl rfl)
theorem dX7_mayThin_11 : decode cX7_mayThin 11 = .ok (.iload_n 1, 1) := dk_27 (dk_at dksX7_mayThin_0 11 rfl rfl)
theorem dX7_mayThin_12 : decode cX7_mayThin 12 = .ok (.bipush 6, 2) := dk_16 6 (dk_at dksX7_mayThin_0 12 rfl rfl)
theorem dX7_mayThin_14 : decode cX7_mayThin 14 = .ok (.invokevirtual 84, 3) := dk_182 0 84 (dk_at dksX7_mayThin_0 14 rfl rfl)
theorem dX7_mayThin_17 : decode cX7_mayThin 17 = .ok (.iload_n 2, 1) := dk_28 (dk_at dksX7_mayThin_0 17 rfl rfl)
theorem dX7_mayThin_18 : decode cX7_mayThin 18 = .ok (.if_icmp .gt 5, 3) := dk_163 0 5 (dk_at dksX7_mayThin_0 18 rfl rfl)
theorem dX7_mayThin_21 : decode cX7_mayThin 21 = .ok (.iconst 2, 1) := dk_5 (dk_at dksX7_mayThin_0 21 rfl rfl)
theorem dX7_mayThin_22 : decode cX7_mayThin 22 = .ok (.ireturn, 1) := dk_172 (dk_at dksX7_mayThin_0 22 rfl rfl)
theorem dX7_mayThin_23 : decode cX7_mayThin 23 = .ok (.iload_n 2, 1) := dk_28 (dk_at dksX7_mayThin_0 23 rfl rfl)
theorem dX7_mayThin_24 : decode cX7_mayThin 24 = .ok (.iconst 1, 1) := dk_4 (dk_at dksX7_mayThin_1 0 rfl rfl)
theorem dX7_mayThin_25 : decode cX7_mayThin 25 = .ok (.if_icmp .lt 20, 3) := dk_161 0 20 (dk_at dksX7_mayThin_1 1 rfl rfl)
theorem dX7_mayThin_28 : decode cX7_mayThin 28 = .ok (.iload_n 2, 1) := dk_28 (dk_at dksX7_mayThin_1 4 rfl rfl)
theorem dX7_mayThin_29 : decode cX7_mayThin 29 = .ok (.aload_n 0, 1) := dk_42 (dk_at dksX7_mayThin_1 5 rfl rfl)
theorem dX7_mayThin_30 : decode cX7_mayThin 30 = .ok (.iconst 3, 1) := dk_6 (dk_at dksX7_mayThin_1 6 rfl rfl)
theorem dX7_mayThin_31 : decode cX7_mayThin 31 = .ok (.iload_n 1, 1) := dk_27 (dk_at dksX7_mayThin_1 7 rfl rfl)
theorem dX7_mayThin_32 : decode cX7_mayThin 32 = .ok (.aload_n 0, 1) := dk_42 (dk_at dksX7_mayThin_1 8 rfl rfl)
theorem dX7_mayThin_33 : decode cX7_mayThin 33 = .ok (.getfield 13, 3) := dk_180 0 13 (dk_at dksX7_mayThin_1 9 rfl rfl)
theorem dX7_mayThin_36 : decode cX7_mayThin 36 = .ok (.iconst 0, 1) := dk_3 (dk_at dksX7_mayThin_1 12 rfl rfl)
theorem dX7_mayThin_37 : decode cX7_mayThin 37 = .ok (.iaload, 1) := dk_46 (dk_at dksX7_mayThin_1 13 rfl rfl)
theorem dX7_mayThin_38 : decode cX7_mayThin 38 = .ok (.iconst 0, 1) := dk_3 (dk_at dksX7_mayThin_1 14 rfl rfl)
theorem dX7_mayThin_39 : decode cX7_mayThin 39 = .ok (.invokevirtual 129, 3) := dk_182 0 129 (dk_at dksX7_mayThin_1 15 rfl rfl)
theorem dX7_mayThin_42 : decode cX7_mayThin 42 = .ok (.if_icmp .ge 5, 3) := dk_162 0 5 (dk_at dksX7_mayThin_1 18 rfl rfl)
theorem dX7_mayThin_45 : decode cX7_mayThin 45 = .ok (.iconst 3, 1) := dk_6 (dk_at dksX7_mayThin_1 21 rfl rfl)
theorem dX7_mayThin_46 : decode cX7_mayThin 46 = .ok (.ireturn, 1) := dk_172 (dk_at dksX7_mayThin_1 22 rfl rfl)
theorem dX7_mayThin_47 : decode cX7_mayThin 47 = .ok (.aload_n 0, 1) := dk_42 (dk_at dksX7_mayThin_1 23 rfl rfl)
theorem dX7_mayThin_48 : decode cX7_mayThin 48 = .ok (.iload_n 1, 1) := dk_27 (dk_at dksX7_mayThin_2 0 rfl rfl)
theorem dX7_mayThin_49 : decode cX7_mayThin 49 = .ok (.iconst 0, 1) := dk_3 (dk_at dksX7_mayThin_2 1 rfl rfl)
theorem dX7_mayThin_50 : decode cX7_mayThin 50 = .ok (.invokevirtual 338, 3) := dk_182 1 82 (dk_at dksX7_mayThin_2 2 rfl rfl)
theorem dX7_mayThin_53 : decode cX7_mayThin 53 = .ok (.ifCond .eq 7, 3) := dk_153 0 7 (dk_at dksX7_mayThin_2 5 rfl rfl)
theorem dX7_mayThin_56 : decode cX7_mayThin 56 = .ok (.iconst 4, 1) := dk_7 (dk_at dksX7_mayThin_2 8 rfl rfl)
theorem dX7_mayThin_57 : decode cX7_mayThin 57 = .ok (.goto 4, 3) := dk_167 0 4 (dk_at dksX7_mayThin_2 9 rfl rfl)
theorem dX7_mayThin_60 : decode cX7_mayThin 60 = .ok (.iconst 0, 1) := dk_3 (dk_at dksX7_mayThin_2 12 rfl rfl)
theorem dX7_mayThin_61 : decode cX7_mayThin 61 = .ok (.ireturn, 1) := dk_172 (dk_at dksX7_mayThin_2 13 rfl rfl)
abbrev cX7_mayPlant : ByteArray := prog_19_method_69_code
def yX7_mayPlant : MethodName := ⟨RX7, "mayPlant", "(II)I"⟩
def dkwX7_mayPlant_5 : List UInt8 := [167, 0, 4, 3, 172]
abbrev dktX7_mayPlant_5 : List UInt8 := dkwX7_mayPlant_5 ++ []
def dkwX7_mayPlant_4 : List UInt8 := [167, 0, 4, 3, 100, 62, 132, 4, 1, 167, 255, 190, 29, 42, 27, 7, 182, 0, 84, 162, 0, 7, 5]
abbrev dktX7_mayPlant_4 : List UInt8 := dkwX7_mayPlant_4 ++ dktX7_mayPlant_5
def dkwX7_mayPlant_3 : List UInt8 := [21, 4, 3, 182, 1, 79, 27, 159, 0, 18, 42, 42, 21, 4, 3, 182, 1, 79, 7, 182, 0, 84]
abbrev dktX7_mayPlant_3 : List UInt8 := dkwX7_mayPlant_3 ++ dktX7_mayPlant_4
def dkwX7_mayPlant_2 : List UInt8 := [42, 21, 4, 4, 182, 1, 79, 5, 160, 0, 40, 42, 21, 4, 5, 182, 1, 79, 28, 160, 0, 29, 42]
abbrev dktX7_mayPlant_2 : List UInt8 := dkwX7_mayPlant_2 ++ dktX7_mayPlant_3
def dkwX7_mayPlant_1 : List UInt8 := [17, 13, 118, 6, 28, 104, 96, 46, 62, 3, 54, 4, 21, 4, 42, 180, 0, 13, 8, 46, 162, 0, 61, 29]
abbrev dktX7_mayPlant_1 : List UInt8 := dkwX7_mayPlant_1 ++ dktX7_mayPlant_2
def dkwX7_mayPlant_0 : List UInt8 := [42, 27, 182, 0, 126, 154, 0, 14, 42, 27, 3, 182, 1, 82, 154, 0, 5, 4, 172, 42, 180, 0, 13]
abbrev dktX7_mayPlant_0 : List UInt8 := dkwX7_mayPlant_0 ++ dktX7_mayPlant_1
theorem dksX7_mayPlant_0 : cX7_mayPlant.data.toList.drop 0 = dktX7_mayPlant_0 := by decide +kernel
theorem dksX7_mayPlant_1 : cX7_mayPlant.data.toList.drop 23 = dktX7_mayPlant_1 := dk_seg dksX7_mayPlant_0 23 rfl rfl
theorem dksX7_mayPlant_2 : cX7_mayPlant.data.toList.drop 47 = dktX7_mayPlant_2 := dk_seg dksX7_mayPlant_1 24 rfl rfl
theorem dksX7_mayPlant_3 : cX7_mayPlant.data.toList.drop 70 = dktX7_mayPlant_3 := dk_seg dksX7_mayPlant_2 23 rfl rfl
theorem dksX7_mayPlant_4 : cX7_mayPlant.data.toList.drop 92 = dktX7_mayPlant_4 := dk_seg dksX7_mayPlant_3 22 rfl rfl
theorem dksX7_mayPlant_5 : cX7_mayPlant.data.toList.drop 115 = dktX7_mayPlant_5 := dk_seg dksX7_mayPlant_4 23 rfl rfl
theorem dX7_mayPlant_0 : decode cX7_mayPlant 0 = .ok (.aload_n 0, 1) := dk_42 (dk_at dksX7_mayPlant_0 0 rfl rfl)
theorem dX7_mayPlant_1 : decode cX7_mayPlant 1 = .ok (.iload_n 1, 1) := dk_27 (dk_at dksX7_mayPlant_0 1 rfl rfl)
theorem dX7_mayPlant_2 : decode cX7_mayPlant 2 = .ok (.invokevirtual 126, 3) := dk_182 0 126 (dk_at dksX7_mayPlant_0 2 rfl rfl)
theorem dX7_mayPlant_5 : decode cX7_mayPlant 5 = .ok (.ifCond .ne 14, 3) := dk_154 0 14 (dk_at dksX7_mayPlant_0 5 rfl rfl)
theorem dX7_mayPlant_8 : decode cX7_mayPlant 8 = .ok (.aload_n 0, 1) := dk_42 (dk_at dksX7_mayPlant_0 8 rfl rfl)
theorem dX7_mayPlant_9 : decode cX7_mayPlant 9 = .ok (.iload_n 1, 1) := dk_27 (dk_at dksX7_mayPlant_0 9 rfl rfl)
theorem dX7_mayPlant_10 : decode cX7_mayPlant 10 = .ok (.iconst 0, 1) := dk_3 (dk_at dksX7_mayPlant_0 10 rfl rfl)
theorem dX7_mayPlant_11 : decode cX7_mayPlant 11 = .ok (.invokevirtual 338, 3) := dk_182 1 82 (dk_at dksX7_mayPlant_0 11 rfl rfl)
theorem dX7_mayPlant_14 : decode cX7_mayPlant 14 = .ok (.ifCond .ne 5, 3) := dk_154 0 5 (dk_at dksX7_mayPlant_0 14 rfl rfl)
theorem dX7_mayPlant_17 : decode cX7_mayPlant 17 = .ok (.iconst 1, 1) := dk_4 (dk_at dksX7_mayPlant_0 17 rfl rfl)
theorem dX7_mayPlant_18 : decode cX7_mayPlant 18 = .ok (.ireturn, 1) := dk_172 (dk_at dksX7_mayPlant_0 18 rfl rfl)
theorem dX7_mayPlant_19 : decode cX7_mayPlant 19 = .ok (.aload_n 0, 1) := dk_42 (dk_at dksX7_mayPlant_0 19 rfl rfl)
theorem dX7_mayPlant_20 : decode cX7_mayPlant 20 = .ok (.getfield 13, 3) := dk_180 0 13 (dk_at dksX7_mayPlant_0 20 rfl rfl)
theorem dX7_mayPlant_23 : decode cX7_mayPlant 23 = .ok (.sipush 3446, 3) := dk_17 13 118 (dk_at dksX7_mayPlant_1 0 rfl rfl)
theorem dX7_mayPlant_26 : decode cX7_mayPlant 26 = .ok (.iconst 3, 1) := dk_6 (dk_at dksX7_mayPlant_1 3 rfl rfl)
theorem dX7_mayPlant_27 : decode cX7_mayPlant 27 = .ok (.iload_n 2, 1) := dk_28 (dk_at dksX7_mayPlant_1 4 rfl rfl)
theorem dX7_mayPlant_28 : decode cX7_mayPlant 28 = .ok (.imul, 1) := dk_104 (dk_at dksX7_mayPlant_1 5 rfl rfl)
theorem dX7_mayPlant_29 : decode cX7_mayPlant 29 = .ok (.iadd, 1) := dk_96 (dk_at dksX7_mayPlant_1 6 rfl rfl)
theorem dX7_mayPlant_30 : decode cX7_mayPlant 30 = .ok (.iaload, 1) := dk_46 (dk_at dksX7_mayPlant_1 7 rfl rfl)
theorem dX7_mayPlant_31 : decode cX7_mayPlant 31 = .ok (.istore_n 3, 1) := dk_62 (dk_at dksX7_mayPlant_1 8 rfl rfl)
theorem dX7_mayPlant_32 : decode cX7_mayPlant 32 = .ok (.iconst 0, 1) := dk_3 (dk_at dksX7_mayPlant_1 9 rfl rfl)
theorem dX7_mayPlant_33 : decode cX7_mayPlant 33 = .ok (.istore 4, 2) := dk_54 4 (dk_at dksX7_mayPlant_1 10 rfl rfl)
theorem dX7_mayPlant_35 : decode cX7_mayPlant 35 = .ok (.iload 4, 2) := dk_21 4 (dk_at dksX7_mayPlant_1 12 rfl rfl)
theorem dX7_mayPlant_37 : decode cX7_mayPlant 37 = .ok (.aload_n 0, 1) := dk_42 (dk_at dksX7_mayPlant_1 14 rfl rfl)
theorem dX7_mayPlant_38 : decode cX7_mayPlant 38 = .ok (.getfield 13, 3) := dk_180 0 13 (dk_at dksX7_mayPlant_1 15 rfl rfl)
theorem dX7_mayPlant_41 : decode cX7_mayPlant 41 = .ok (.iconst 5, 1) := dk_8 (dk_at dksX7_mayPlant_1 18 rfl rfl)
theorem dX7_mayPlant_42 : decode cX7_mayPlant 42 = .ok (.iaload, 1) := dk_46 (dk_at dksX7_mayPlant_1 19 rfl rfl)
theorem dX7_mayPlant_43 : decode cX7_mayPlant 43 = .ok (.if_icmp .ge 61, 3) := dk_162 0 61 (dk_at dksX7_mayPlant_1 20 rfl rfl)
theorem dX7_mayPlant_46 : decode cX7_mayPlant 46 = .ok (.iload_n 3, 1) := dk_29 (dk_at dksX7_mayPlant_1 23 rfl rfl)
theorem dX7_mayPlant_47 : decode cX7_mayPlant 47 = .ok (.aload_n 0, 1) := dk_42 (dk_at dksX7_mayPlant_2 0 rfl rfl)
theorem dX7_mayPlant_48 : decode cX7_mayPlant 48 = .ok (.iload 4, 2) := dk_21 4 (dk_at dksX7_mayPlant_2 1 rfl rfl)
theorem dX7_mayPlant_50 : decode cX7_mayPlant 50 = .ok (.iconst 1, 1) := dk_4 (dk_at dksX7_mayPlant_2 3 rfl rfl)
theorem dX7_mayPlant_51 : decode cX7_mayPlant 51 = .ok (.invokevirtual 335, 3) := dk_182 1 79 (dk_at dksX7_mayPlant_2 4 rfl rfl)
theorem dX7_mayPlant_54 : decode cX7_mayPlant 54 = .ok (.iconst 2, 1) := dk_5 (dk_at dksX7_mayPlant_2 7 rfl rfl)
theorem dX7_mayPlant_55 : decode cX7_mayPlant 55 = .ok (.if_icmp .ne 40, 3) := dk_160 0 40 (dk_at dksX7_mayPlant_2 8 rfl rfl)
theorem dX7_mayPlant_58 : decode cX7_mayPlant 58 = .ok (.aload_n 0, 1) := dk_42 (dk_at dksX7_mayPlant_2 11 rfl rfl)
theorem dX7_mayPlant_59 : decode cX7_mayPlant 59 = .ok (.iload 4, 2) := dk_21 4 (dk_at dksX7_mayPlant_2 12 rfl rfl)
theorem dX7_mayPlant_61 : decode cX7_mayPlant 61 = .ok (.iconst 2, 1) := dk_5 (dk_at dksX7_mayPlant_2 14 rfl rfl)
theorem dX7_mayPlant_62 : decode cX7_mayPlant 62 = .ok (.invokevirtual 335, 3) := dk_182 1 79 (dk_at dksX7_mayPlant_2 15 rfl rfl)
theorem dX7_mayPlant_65 : decode cX7_mayPlant 65 = .ok (.iload_n 2, 1) := dk_28 (dk_at dksX7_mayPlant_2 18 rfl rfl)
theorem dX7_mayPlant_66 : decode cX7_mayPlant 66 = .ok (.if_icmp .ne 29, 3) := dk_160 0 29 (dk_at dksX7_mayPlant_2 19 rfl rfl)
theorem dX7_mayPlant_69 : decode cX7_mayPlant 69 = .ok (.aload_n 0, 1) := dk_42 (dk_at dksX7_mayPlant_2 22 rfl rfl)
theorem dX7_mayPlant_70 : decode cX7_mayPlant 70 = .ok (.iload 4, 2) := dk_21 4 (dk_at dksX7_mayPlant_3 0 rfl rfl)
theorem dX7_mayPlant_72 : decode cX7_mayPlant 72 = .ok (.iconst 0, 1) := dk_3 (dk_at dksX7_mayPlant_3 2 rfl rfl)
theorem dX7_mayPlant_73 : decode cX7_mayPlant 73 = .ok (.invokevirtual 335, 3) := dk_182 1 79 (dk_at dksX7_mayPlant_3 3 rfl rfl)
theorem dX7_mayPlant_76 : decode cX7_mayPlant 76 = .ok (.iload_n 1, 1) := dk_27 (dk_at dksX7_mayPlant_3 6 rfl rfl)
theorem dX7_mayPlant_77 : decode cX7_mayPlant 77 = .ok (.if_icmp .eq 18, 3) := dk_159 0 18 (dk_at dksX7_mayPlant_3 7 rfl rfl)
theorem dX7_mayPlant_80 : decode cX7_mayPlant 80 = .ok (.aload_n 0, 1) := dk_42 (dk_at dksX7_mayPlant_3 10 rfl rfl)
theorem dX7_mayPlant_81 : decode cX7_mayPlant 81 = .ok (.aload_n 0, 1) := dk_42 (dk_at dksX7_mayPlant_3 11 rfl rfl)
theorem dX7_mayPlant_82 : decode cX7_mayPlant 82 = .ok (.iload 4, 2) := dk_21 4 (dk_at dksX7_mayPlant_3 12 rfl rfl)
theorem dX7_mayPlant_84 : decode cX7_mayPlant 84 = .ok (.iconst 0, 1) := dk_3 (dk_at dksX7_mayPlant_3 14 rfl rfl)
theorem dX7_mayPlant_85 : decode cX7_mayPlant 85 = .ok (.invokevirtual 335, 3) := dk_182 1 79 (dk_at dksX7_mayPlant_3 15 rfl rfl)
theorem dX7_mayPlant_88 : decode cX7_mayPlant 88 = .ok (.iconst 4, 1) := dk_7 (dk_at dksX7_mayPlant_3 18 rfl rfl)
theorem dX7_mayPlant_89 : decode cX7_mayPlant 89 = .ok (.invokevirtual 84, 3) := dk_182 0 84 (dk_at dksX7_mayPlant_3 19 rfl rfl)
theorem dX7_mayPlant_92 : decode cX7_mayPlant 92 = .ok (.goto 4, 3) := dk_167 0 4 (dk_at dksX7_mayPlant_4 0 rfl rfl)
theorem dX7_mayPlant_95 : decode cX7_mayPlant 95 = .ok (.iconst 0, 1) := dk_3 (dk_at dksX7_mayPlant_4 3 rfl rfl)
theorem dX7_mayPlant_96 : decode cX7_mayPlant 96 = .ok (.isub, 1) := dk_100 (dk_at dksX7_mayPlant_4 4 rfl rfl)
theorem dX7_mayPlant_97 : decode cX7_mayPlant 97 = .ok (.istore_n 3, 1) := dk_62 (dk_at dksX7_mayPlant_4 5 rfl rfl)
theorem dX7_mayPlant_98 : decode cX7_mayPlant 98 = .ok (.iinc 4 1, 3) := dk_132 4 1 (dk_at dksX7_mayPlant_4 6 rfl rfl)
theorem dX7_mayPlant_101 : decode cX7_mayPlant 101 = .ok (.goto (-66), 3) := dk_167 255 190 (dk_at dksX7_mayPlant_4 9 rfl rfl)
theorem dX7_mayPlant_104 : decode cX7_mayPlant 104 = .ok (.iload_n 3, 1) := dk_29 (dk_at dksX7_mayPlant_4 12 rfl rfl)
theorem dX7_mayPlant_105 : decode cX7_mayPlant 105 = .ok (.aload_n 0, 1) := dk_42 (dk_at dksX7_mayPlant_4 13 rfl rfl)
theorem dX7_mayPlant_106 : decode cX7_mayPlant 106 = .ok (.iload_n 1, 1) := dk_27 (dk_at dksX7_mayPlant_4 14 rfl rfl)
theorem dX7_mayPlant_107 : decode cX7_mayPlant 107 = .ok (.iconst 4, 1) := dk_7 (dk_at dksX7_mayPlant_4 15 rfl rfl)
theorem dX7_mayPlant_108 : decode cX7_mayPlant 108 = .ok (.invokevirtual 84, 3) := dk_182 0 84 (dk_at dksX7_mayPlant_4 16 rfl rfl)
theorem dX7_mayPlant_111 : decode cX7_mayPlant 111 = .ok (.if_icmp .ge 7, 3) := dk_162 0 7 (dk_at dksX7_mayPlant_4 19 rfl rfl)
theorem dX7_mayPlant_114 : decode cX7_mayPlant 114 = .ok (.iconst 2, 1) := dk_5 (dk_at dksX7_mayPlant_4 22 rfl rfl)
theorem dX7_mayPlant_115 : decode cX7_mayPlant 115 = .ok (.goto 4, 3) := dk_167 0 4 (dk_at dksX7_mayPlant_5 0 rfl rfl)
theorem dX7_mayPlant_118 : decode cX7_mayPlant 118 = .ok (.iconst 0, 1) := dk_3 (dk_at dksX7_mayPlant_5 3 rfl rfl)
theorem dX7_mayPlant_119 : decode cX7_mayPlant 119 = .ok (.ireturn, 1) := dk_172 (dk_at dksX7_mayPlant_5 4 rfl rfl)
abbrev cX7_order : ByteArray := prog_19_method_73_code
def yX7_order : MethodName := ⟨RX7, "order", "(III)I"⟩
def dkwX7_order_5 : List UInt8 := [180, 0, 13, 8, 46, 172]
abbrev dktX7_order_5 : List UInt8 := dkwX7_order_5 ++ []
def dkwX7_order_4 : List UInt8 := [96, 28, 79, 42, 180, 0, 13, 21, 5, 5, 96, 29, 79, 42, 180, 0, 13, 8, 92, 46, 4, 96, 79, 42]
abbrev dktX7_order_4 : List UInt8 := dkwX7_order_4 ++ dktX7_order_5
def dkwX7_order_3 : List UInt8 := [180, 0, 13, 8, 46, 104, 96, 54, 5, 42, 180, 0, 13, 21, 5, 27, 79, 42, 180, 0, 13, 21, 5, 4]
abbrev dktX7_order_3 : List UInt8 := dkwX7_order_3 ++ dktX7_order_4
def dkwX7_order_2 : List UInt8 := [180, 0, 13, 8, 46, 16, 30, 160, 0, 10, 42, 16, 248, 182, 0, 80, 172, 17, 12, 248, 6, 42]
abbrev dktX7_order_2 : List UInt8 := dkwX7_order_2 ++ dktX7_order_3
def dkwX7_order_1 : List UInt8 := [29, 182, 1, 97, 154, 0, 12, 42, 27, 28, 182, 1, 82, 153, 0, 10, 42, 16, 249, 182, 0, 80, 172, 42]
abbrev dktX7_order_1 : List UInt8 := dkwX7_order_1 ++ dktX7_order_2
def dkwX7_order_0 : List UInt8 := [42, 27, 28, 29, 182, 1, 94, 54, 4, 21, 4, 156, 0, 10, 42, 21, 4, 182, 0, 80, 172, 42, 27, 28]
abbrev dktX7_order_0 : List UInt8 := dkwX7_order_0 ++ dktX7_order_1
theorem dksX7_order_0 : cX7_order.data.toList.drop 0 = dktX7_order_0 := by decide +kernel
theorem dksX7_order_1 : cX7_order.data.toList.drop 24 = dktX7_order_1 := dk_seg dksX7_order_0 24 rfl rfl
theorem dksX7_order_2 : cX7_order.data.toList.drop 48 = dktX7_order_2 := dk_seg dksX7_order_1 24 rfl rfl
theorem dksX7_order_3 : cX7_order.data.toList.drop 70 = dktX7_order_3 := dk_seg dksX7_order_2 22 rfl rfl
theorem dksX7_order_4 : cX7_order.data.toList.drop 94 = dktX7_order_4 := dk_seg dksX7_order_3 24 rfl rfl
theorem dksX7_order_5 : cX7_order.data.toList.drop 118 = dktX7_order_5 := dk_seg dksX7_order_4 24 rfl rfl
theorem dX7_order_0 : decode cX7_order 0 = .ok (.aload_n 0, 1) := dk_42 (dk_at dksX7_order_0 0 rfl rfl)
theorem dX7_order_1 : decode cX7_order 1 = .ok (.iload_n 1, 1) := dk_27 (dk_at dksX7_order_0 1 rfl rfl)
theorem dX7_order_2 : decode cX7_order 2 = .ok (.iload_n 2, 1) := dk_28 (dk_at dksX7_order_0 2 rfl rfl)
theorem dX7_order_3 : decode cX7_order 3 = .ok (.iload_n 3, 1) := dk_29 (dk_at dksX7_order_0 3 rfl rfl)
theorem dX7_order_4 : decode cX7_order 4 = .ok (.invokevirtual 350, 3) := dk_182 1 94 (dk_at dksX7_order_0 4 rfl rfl)
theorem dX7_order_7 : decode cX7_order 7 = .ok (.istore 4, 2) := dk_54 4 (dk_at dksX7_order_0 7 rfl rfl)
theorem dX7_order_9 : decode cX7_order 9 = .ok (.iload 4, 2) := dk_21 4 (dk_at dksX7_order_0 9 rfl rfl)
theorem dX7_order_11 : decode cX7_order 11 = .ok (.ifCond .ge 10, 3) := dk_156 0 10 (dk_at dksX7_order_0 11 rfl rfl)
theorem dX7_order_14 : decode cX7_order 14 = .ok (.aload_n 0, 1) := dk_42 (dk_at dksX7_order_0 14 rfl rfl)
theorem dX7_order_15 : decode cX7_order 15 = .ok (.iload 4, 2) := dk_21 4 (dk_at dksX7_order_0 15 rfl rfl)
theorem dX7_order_17 : decode cX7_order 17 = .ok (.invokevirtual 80, 3) := dk_182 0 80 (dk_at dksX7_order_0 17 rfl rfl)
theorem dX7_order_20 : decode cX7_order 20 = .ok (.ireturn, 1) := dk_172 (dk_at dksX7_order_0 20 rfl rfl)
theorem dX7_order_21 : decode cX7_order 21 = .ok (.aload_n 0, 1) := dk_42 (dk_at dksX7_order_0 21 rfl rfl)
theorem dX7_order_22 : decode cX7_order 22 = .ok (.iload_n 1, 1) := dk_27 (dk_at dksX7_order_0 22 rfl rfl)
theorem dX7_order_23 : decode cX7_order 23 = .ok (.iload_n 2, 1) := dk_28 (dk_at dksX7_order_0 23 rfl rfl)
theorem dX7_order_24 : decode cX7_order 24 = .ok (.iload_n 3, 1) := dk_29 (dk_at dksX7_order_1 0 rfl rfl)
theorem dX7_order_25 : decode cX7_order 25 = .ok (.invokevirtual 353, 3) := dk_182 1 97 (dk_at dksX7_order_1 1 rfl rfl)
theorem dX7_order_28 : decode cX7_order 28 = .ok (.ifCond .ne 12, 3) := dk_154 0 12 (dk_at dksX7_order_1 4 rfl rfl)
theorem dX7_order_31 : decode cX7_order 31 = .ok (.aload_n 0, 1) := dk_42 (dk_at dksX7_order_1 7 rfl rfl)
theorem dX7_order_32 : decode cX7_order 32 = .ok (.iload_n 1, 1) := dk_27 (dk_at dksX7_order_1 8 rfl rfl)
theorem dX7_order_33 : decode cX7_order 33 = .ok (.iload_n 2, 1) := dk_28 (dk_at dksX7_order_1 9 rfl rfl)
theorem dX7_order_34 : decode cX7_order 34 = .ok (.invokevirtual 338, 3) := dk_182 1 82 (dk_at dksX7_order_1 10 rfl rfl)
theorem dX7_order_37 : decode cX7_order 37 = .ok (.ifCond .eq 10, 3) := dk_153 0 10 (dk_at dksX7_order_1 13 rfl rfl)
theorem dX7_order_40 : decode cX7_order 40 = .ok (.aload_n 0, 1) := dk_42 (dk_at dksX7_order_1 16 rfl rfl)
theorem dX7_order_41 : decode cX7_order 41 = .ok (.bipush (-7), 2) := dk_16 249 (dk_at dksX7_order_1 17 rfl rfl)
theorem dX7_order_43 : decode cX7_order 43 = .ok (.invokevirtual 80, 3) := dk_182 0 80 (dk_at dksX7_order_1 19 rfl rfl)
theorem dX7_order_46 : decode cX7_order 46 = .ok (.ireturn, 1) := dk_172 (dk_at dksX7_order_1 22 rfl rfl)
theorem dX7_order_47 : decode cX7_order 47 = .ok (.aload_n 0, 1) := dk_42 (dk_at dksX7_order_1 23 rfl rfl)
theorem dX7_order_48 : decode cX7_order 48 = .ok (.getfield 13, 3) := dk_180 0 13 (dk_at dksX7_order_2 0 rfl rfl)
theorem dX7_order_51 : decode cX7_order 51 = .ok (.iconst 5, 1) := dk_8 (dk_at dksX7_order_2 3 rfl rfl)
theorem dX7_order_52 : decode cX7_order 52 = .ok (.iaload, 1) := dk_46 (dk_at dksX7_order_2 4 rfl rfl)
theorem dX7_order_53 : decode cX7_order 53 = .ok (.bipush 30, 2) := dk_16 30 (dk_at dksX7_order_2 5 rfl rfl)
theorem dX7_order_55 : decode cX7_order 55 = .ok (.if_icmp .ne 10, 3) := dk_160 0 10 (dk_at dksX7_order_2 7 rfl rfl)
theorem dX7_order_58 : decode cX7_order 58 = .ok (.aload_n 0, 1) := dk_42 (dk_at dksX7_order_2 10 rfl rfl)
theorem dX7_order_59 : decode cX7_order 59 = .ok (.bipush (-8), 2) := dk_16 248 (dk_at dksX7_order_2 11 rfl rfl)
theorem dX7_order_61 : decode cX7_order 61 = .ok (.invokevirtual 80, 3) := dk_182 0 80 (dk_at dksX7_order_2 13 rfl rfl)
theorem dX7_order_64 : decode cX7_order 64 = .ok (.ireturn, 1) := dk_172 (dk_at dksX7_order_2 16 rfl rfl)
theorem dX7_order_65 : decode cX7_order 65 = .ok (.sipush 3320, 3) := dk_17 12 248 (dk_at dksX7_order_2 17 rfl rfl)
theorem dX7_order_68 : decode cX7_order 68 = .ok (.iconst 3, 1) := dk_6 (dk_at dksX7_order_2 20 rfl rfl)
theorem dX7_order_69 : decode cX7_order 69 = .ok (.aload_n 0, 1) := dk_42 (dk_at dksX7_order_2 21 rfl rfl)
theorem dX7_order_70 : decode cX7_order 70 = .ok (.getfield 13, 3) := dk_180 0 13 (dk_at dksX7_order_3 0 rfl rfl)
theorem dX7_order_73 : decode cX7_order 73 = .ok (.iconst 5, 1) := dk_8 (dk_at dksX7_order_3 3 rfl rfl)
theorem dX7_order_74 : decode cX7_order 74 = .ok (.iaload, 1) := dk_46 (dk_at dksX7_order_3 4 rfl rfl)
theorem dX7_order_75 : decode cX7_order 75 = .ok (.imul, 1) := dk_104 (dk_at dksX7_order_3 5 rfl rfl)
theorem dX7_order_76 : decode cX7_order 76 = .ok (.iadd, 1) := dk_96 (dk_at dksX7_order_3 6 rfl rfl)
theorem dX7_order_77 : decode cX7_order 77 = .ok (.istore 5, 2) := dk_54 5 (dk_at dksX7_order_3 7 rfl rfl)
theorem dX7_order_79 : decode cX7_order 79 = .ok (.aload_n 0, 1) := dk_42 (dk_at dksX7_order_3 9 rfl rfl)
theorem dX7_order_80 : decode cX7_order 80 = .ok (.getfield 13, 3) := dk_180 0 13 (dk_at dksX7_order_3 10 rfl rfl)
theorem dX7_order_83 : decode cX7_order 83 = .ok (.iload 5, 2) := dk_21 5 (dk_at dksX7_order_3 13 rfl rfl)
theorem dX7_order_85 : decode cX7_order 85 = .ok (.iload_n 1, 1) := dk_27 (dk_at dksX7_order_3 15 rfl rfl)
theorem dX7_order_86 : decode cX7_order 86 = .ok (.iastore, 1) := dk_79 (dk_at dksX7_order_3 16 rfl rfl)
theorem dX7_order_87 : decode cX7_order 87 = .ok (.aload_n 0, 1) := dk_42 (dk_at dksX7_order_3 17 rfl rfl)
theorem dX7_order_88 : decode cX7_order 88 = .ok (.getfield 13, 3) := dk_180 0 13 (dk_at dksX7_order_3 18 rfl rfl)
theorem dX7_order_91 : decode cX7_order 91 = .ok (.iload 5, 2) := dk_21 5 (dk_at dksX7_order_3 21 rfl rfl)
theorem dX7_order_93 : decode cX7_order 93 = .ok (.iconst 1, 1) := dk_4 (dk_at dksX7_order_3 23 rfl rfl)
theorem dX7_order_94 : decode cX7_order 94 = .ok (.iadd, 1) := dk_96 (dk_at dksX7_order_4 0 rfl rfl)
theorem dX7_order_95 : decode cX7_order 95 = .ok (.iload_n 2, 1) := dk_28 (dk_at dksX7_order_4 1 rfl rfl)
theorem dX7_order_96 : decode cX7_order 96 = .ok (.iastore, 1) := dk_79 (dk_at dksX7_order_4 2 rfl rfl)
theorem dX7_order_97 : decode cX7_order 97 = .ok (.aload_n 0, 1) := dk_42 (dk_at dksX7_order_4 3 rfl rfl)
theorem dX7_order_98 : decode cX7_order 98 = .ok (.getfield 13, 3) := dk_180 0 13 (dk_at dksX7_order_4 4 rfl rfl)
theorem dX7_order_101 : decode cX7_order 101 = .ok (.iload 5, 2) := dk_21 5 (dk_at dksX7_order_4 7 rfl rfl)
theorem dX7_order_103 : decode cX7_order 103 = .ok (.iconst 2, 1) := dk_5 (dk_at dksX7_order_4 9 rfl rfl)
theorem dX7_order_104 : decode cX7_order 104 = .ok (.iadd, 1) := dk_96 (dk_at dksX7_order_4 10 rfl rfl)
theorem dX7_order_105 : decode cX7_order 105 = .ok (.iload_n 3, 1) := dk_29 (dk_at dksX7_order_4 11 rfl rfl)
theorem dX7_order_106 : decode cX7_order 106 = .ok (.iastore, 1) := dk_79 (dk_at dksX7_order_4 12 rfl rfl)
theorem dX7_order_107 : decode cX7_order 107 = .ok (.aload_n 0, 1) := dk_42 (dk_at dksX7_order_4 13 rfl rfl)
theorem dX7_order_108 : decode cX7_order 108 = .ok (.getfield 13, 3) := dk_180 0 13 (dk_at dksX7_order_4 14 rfl rfl)
theorem dX7_order_111 : decode cX7_order 111 = .ok (.iconst 5, 1) := dk_8 (dk_at dksX7_order_4 17 rfl rfl)
theorem dX7_order_112 : decode cX7_order 112 = .ok (.dup2, 1) := dk_92 (dk_at dksX7_order_4 18 rfl rfl)
theorem dX7_order_113 : decode cX7_order 113 = .ok (.iaload, 1) := dk_46 (dk_at dksX7_order_4 19 rfl rfl)
theorem dX7_order_114 : decode cX7_order 114 = .ok (.iconst 1, 1) := dk_4 (dk_at dksX7_order_4 20 rfl rfl)
theorem dX7_order_115 : decode cX7_order 115 = .ok (.iadd, 1) := dk_96 (dk_at dksX7_order_4 21 rfl rfl)
theorem dX7_order_116 : decode cX7_order 116 = .ok (.iastore, 1) := dk_79 (dk_at dksX7_order_4 22 rfl rfl)
theorem dX7_order_117 : decode cX7_order 117 = .ok (.aload_n 0, 1) := dk_42 (dk_at dksX7_order_4 23 rfl rfl)
theorem dX7_order_118 : decode cX7_order 118 = .ok (.getfield 13, 3) := dk_180 0 13 (dk_at dksX7_order_5 0 rfl rfl)
theorem dX7_order_121 : decode cX7_order 121 = .ok (.iconst 5, 1) := dk_8 (dk_at dksX7_order_5 3 rfl rfl)
theorem dX7_order_122 : decode cX7_order 122 = .ok (.iaload, 1) := dk_46 (dk_at dksX7_order_5 4 rfl rfl)
theorem dX7_order_123 : decode cX7_order 123 = .ok (.ireturn, 1) := dk_172 (dk_at dksX7_order_5 5 rfl rfl)
abbrev cX7_cancel : ByteArray := prog_19_method_74_code
def yX7_cancel : MethodName := ⟨RX7, "cancel", "(I)I"⟩
def dkwX7_cancel_3 : List UInt8 := [132, 2, 1, 167, 255, 223, 42, 180, 0, 13, 8, 46, 172]
abbrev dktX7_cancel_3 : List UInt8 := dkwX7_cancel_3 ++ []
def dkwX7_cancel_2 : List UInt8 := [180, 0, 13, 8, 46, 104, 96, 162, 0, 23, 42, 180, 0, 13, 28, 42, 180, 0, 13, 28, 6, 96, 46, 79]
abbrev dktX7_cancel_2 : List UInt8 := dkwX7_cancel_2 ++ dktX7_cancel_3
def dkwX7_cancel_1 : List UInt8 := [180, 0, 13, 8, 92, 46, 4, 100, 79, 17, 12, 248, 6, 27, 104, 96, 61, 28, 17, 12, 248, 6, 42]
abbrev dktX7_cancel_1 : List UInt8 := dkwX7_cancel_1 ++ dktX7_cancel_2
def dkwX7_cancel_0 : List UInt8 := [27, 3, 42, 180, 0, 13, 8, 46, 4, 100, 184, 0, 76, 154, 0, 10, 42, 16, 253, 182, 0, 80, 172, 42]
abbrev dktX7_cancel_0 : List UInt8 := dkwX7_cancel_0 ++ dktX7_cancel_1
theorem dksX7_cancel_0 : cX7_cancel.data.toList.drop 0 = dktX7_cancel_0 := by decide +kernel
theorem dksX7_cancel_1 : cX7_cancel.data.toList.drop 24 = dktX7_cancel_1 := dk_seg dksX7_cancel_0 24 rfl rfl
theorem dksX7_cancel_2 : cX7_cancel.data.toList.drop 47 = dktX7_cancel_2 := dk_seg dksX7_cancel_1 23 rfl rfl
theorem dksX7_cancel_3 : cX7_cancel.data.toList.drop 71 = dktX7_cancel_3 := dk_seg dksX7_cancel_2 24 rfl rfl
theorem dX7_cancel_0 : decode cX7_cancel 0 = .ok (.iload_n 1, 1) := dk_27 (dk_at dksX7_cancel_0 0 rfl rfl)
theorem dX7_cancel_1 : decode cX7_cancel 1 = .ok (.iconst 0, 1) := dk_3 (dk_at dksX7_cancel_0 1 rfl rfl)
theorem dX7_cancel_2 : decode cX7_cancel 2 = .ok (.aload_n 0, 1) := dk_42 (dk_at dksX7_cancel_0 2 rfl rfl)
theorem dX7_cancel_3 : decode cX7_cancel 3 = .ok (.getfield 13, 3) := dk_180 0 13 (dk_at dksX7_cancel_0 3 rfl rfl)
theorem dX7_cancel_6 : decode cX7_cancel 6 = .ok (.iconst 5, 1) := dk_8 (dk_at dksX7_cancel_0 6 rfl rfl)
theorem dX7_cancel_7 : decode cX7_cancel 7 = .ok (.iaload, 1) := dk_46 (dk_at dksX7_cancel_0 7 rfl rfl)
theorem dX7_cancel_8 : decode cX7_cancel 8 = .ok (.iconst 1, 1) := dk_4 (dk_at dksX7_cancel_0 8 rfl rfl)
theorem dX7_cancel_9 : decode cX7_cancel 9 = .ok (.isub, 1) := dk_100 (dk_at dksX7_cancel_0 9 rfl rfl)
theorem dX7_cancel_10 : decode cX7_cancel 10 = .ok (.invokestatic 76, 3) := dk_184 0 76 (dk_at dksX7_cancel_0 10 rfl rfl)
theorem dX7_cancel_13 : decode cX7_cancel 13 = .ok (.ifCond .ne 10, 3) := dk_154 0 10 (dk_at dksX7_cancel_0 13 rfl rfl)
theorem dX7_cancel_16 : decode cX7_cancel 16 = .ok (.aload_n 0, 1) := dk_42 (dk_at dksX7_cancel_0 16 rfl rfl)
theorem dX7_cancel_17 : decode cX7_cancel 17 = .ok (.bipush (-3), 2) := dk_16 253 (dk_at dksX7_cancel_0 17 rfl rfl)
theorem dX7_cancel_19 : decode cX7_cancel 19 = .ok (.invokevirtual 80, 3) := dk_182 0 80 (dk_at dksX7_cancel_0 19 rfl rfl)
theorem dX7_cancel_22 : decode cX7_cancel 22 = .ok (.ireturn, 1) := dk_172 (dk_at dksX7_cancel_0 22 rfl rfl)
theorem dX7_cancel_23 : decode cX7_cancel 23 = .ok (.aload_n 0, 1) := dk_42 (dk_at dksX7_cancel_0 23 rfl rfl)
theorem dX7_cancel_24 : decode cX7_cancel 24 = .ok (.getfield 13, 3) := dk_180 0 13 (dk_at dksX7_cancel_1 0 rfl rfl)
theorem dX7_cancel_27 : decode cX7_cancel 27 = .ok (.iconst 5, 1) := dk_8 (dk_at dksX7_cancel_1 3 rfl rfl)
theorem dX7_cancel_28 : decode cX7_cancel 28 = .ok (.dup2, 1) := dk_92 (dk_at dksX7_cancel_1 4 rfl rfl)
theorem dX7_cancel_29 : decode cX7_cancel 29 = .ok (.iaload, 1) := dk_46 (dk_at dksX7_cancel_1 5 rfl rfl)
theorem dX7_cancel_30 : decode cX7_cancel 30 = .ok (.iconst 1, 1) := dk_4 (dk_at dksX7_cancel_1 6 rfl rfl)
theorem dX7_cancel_31 : decode cX7_cancel 31 = .ok (.isub, 1) := dk_100 (dk_at dksX7_cancel_1 7 rfl rfl)
theorem dX7_cancel_32 : decode cX7_cancel 32 = .ok (.iastore, 1) := dk_79 (dk_at dksX7_cancel_1 8 rfl rfl)
theorem dX7_cancel_33 : decode cX7_cancel 33 = .ok (.sipush 3320, 3) := dk_17 12 248 (dk_at dksX7_cancel_1 9 rfl rfl)
theorem dX7_cancel_36 : decode cX7_cancel 36 = .ok (.iconst 3, 1) := dk_6 (dk_at dksX7_cancel_1 12 rfl rfl)
theorem dX7_cancel_37 : decode cX7_cancel 37 = .ok (.iload_n 1, 1) := dk_27 (dk_at dksX7_cancel_1 13 rfl rfl)
theorem dX7_cancel_38 : decode cX7_cancel 38 = .ok (.imul, 1) := dk_104 (dk_at dksX7_cancel_1 14 rfl rfl)
theorem dX7_cancel_39 : decode cX7_cancel 39 = .ok (.iadd, 1) := dk_96 (dk_at dksX7_cancel_1 15 rfl rfl)
theorem dX7_cancel_40 : decode cX7_cancel 40 = .ok (.istore_n 2, 1) := dk_61 (dk_at dksX7_cancel_1 16 rfl rfl)
theorem dX7_cancel_41 : decode cX7_cancel 41 = .ok (.iload_n 2, 1) := dk_28 (dk_at dksX7_cancel_1 17 rfl rfl)
theorem dX7_cancel_42 : decode cX7_cancel 42 = .ok (.sipush 3320, 3) := dk_17 12 248 (dk_at dksX7_cancel_1 18 rfl rfl)
theorem dX7_cancel_45 : decode cX7_cancel 45 = .ok (.iconst 3, 1) := dk_6 (dk_at dksX7_cancel_1 21 rfl rfl)
theorem dX7_cancel_46 : decode cX7_cancel 46 = .ok (.aload_n 0, 1) := dk_42 (dk_at dksX7_cancel_1 22 rfl rfl)
theorem dX7_cancel_47 : decode cX7_cancel 47 = .ok (.getfield 13, 3) := dk_180 0 13 (dk_at dksX7_cancel_2 0 rfl rfl)
theorem dX7_cancel_50 : decode cX7_cancel 50 = .ok (.iconst 5, 1) := dk_8 (dk_at dksX7_cancel_2 3 rfl rfl)
theorem dX7_cancel_51 : decode cX7_cancel 51 = .ok (.iaload, 1) := dk_46 (dk_at dksX7_cancel_2 4 rfl rfl)
theorem dX7_cancel_52 : decode cX7_cancel 52 = .ok (.imul, 1) := dk_104 (dk_at dksX7_cancel_2 5 rfl rfl)
theorem dX7_cancel_53 : decode cX7_cancel 53 = .ok (.iadd, 1) := dk_96 (dk_at dksX7_cancel_2 6 rfl rfl)
theorem dX7_cancel_54 : decode cX7_cancel 54 = .ok (.if_icmp .ge 23, 3) := dk_162 0 23 (dk_at dksX7_cancel_2 7 rfl rfl)
theorem dX7_cancel_57 : decode cX7_cancel 57 = .ok (.aload_n 0, 1) := dk_42 (dk_at dksX7_cancel_2 10 rfl rfl)
theorem dX7_cancel_58 : decode cX7_cancel 58 = .ok (.getfield 13, 3) := dk_180 0 13 (dk_at dksX7_cancel_2 11 rfl rfl)
theorem dX7_cancel_61 : decode cX7_cancel 61 = .ok (.iload_n 2, 1) := dk_28 (dk_at dksX7_cancel_2 14 rfl rfl)
theorem dX7_cancel_62 : decode cX7_cancel 62 = .ok (.aload_n 0, 1) := dk_42 (dk_at dksX7_cancel_2 15 rfl rfl)
theorem dX7_cancel_63 : decode cX7_cancel 63 = .ok (.getfield 13, 3) := dk_180 0 13 (dk_at dksX7_cancel_2 16 rfl rfl)
theorem dX7_cancel_66 : decode cX7_cancel 66 = .ok (.iload_n 2, 1) := dk_28 (dk_at dksX7_cancel_2 19 rfl rfl)
theorem dX7_cancel_67 : decode cX7_cancel 67 = .ok (.iconst 3, 1) := dk_6 (dk_at dksX7_cancel_2 20 rfl rfl)
theorem dX7_cancel_68 : decode cX7_cancel 68 = .ok (.iadd, 1) := dk_96 (dk_at dksX7_cancel_2 21 rfl rfl)
theorem dX7_cancel_69 : decode cX7_cancel 69 = .ok (.iaload, 1) := dk_46 (dk_at dksX7_cancel_2 22 rfl rfl)
theorem dX7_cancel_70 : decode cX7_cancel 70 = .ok (.iastore, 1) := dk_79 (dk_at dksX7_cancel_2 23 rfl rfl)
theorem dX7_cancel_71 : decode cX7_cancel 71 = .ok (.iinc 2 1, 3) := dk_132 2 1 (dk_at dksX7_cancel_3 0 rfl rfl)
theorem dX7_cancel_74 : decode cX7_cancel 74 = .ok (.goto (-33), 3) := dk_167 255 223 (dk_at dksX7_cancel_3 3 rfl rfl)
theorem dX7_cancel_77 : decode cX7_cancel 77 = .ok (.aload_n 0, 1) := dk_42 (dk_at dksX7_cancel_3 6 rfl rfl)
theorem dX7_cancel_78 : decode cX7_cancel 78 = .ok (.getfield 13, 3) := dk_180 0 13 (dk_at dksX7_cancel_3 7 rfl rfl)
theorem dX7_cancel_81 : decode cX7_cancel 81 = .ok (.iconst 5, 1) := dk_8 (dk_at dksX7_cancel_3 10 rfl rfl)
theorem dX7_cancel_82 : decode cX7_cancel 82 = .ok (.iaload, 1) := dk_46 (dk_at dksX7_cancel_3 11 rfl rfl)
theorem dX7_cancel_83 : decode cX7_cancel 83 = .ok (.ireturn, 1) := dk_172 (dk_at dksX7_cancel_3 12 rfl rfl)
abbrev cX7_ordered : ByteArray := prog_19_method_75_code
def yX7_ordered : MethodName := ⟨RX7, "ordered", "(II)I"⟩
def dkwX7_ordered_1 : List UInt8 := [3, 5, 184, 0, 76, 153, 0, 12, 42, 27, 28, 182, 1, 79, 167, 0, 9, 42, 16, 249, 182, 0, 80, 172]
abbrev dktX7_ordered_1 : List UInt8 := dkwX7_ordered_1 ++ []
def dkwX7_ordered_0 : List UInt8 := [27, 3, 42, 180, 0, 13, 8, 46, 4, 100, 184, 0, 76, 154, 0, 10, 42, 16, 253, 182, 0, 80, 172, 28]
abbrev dktX7_ordered_0 : List UInt8 := dkwX7_ordered_0 ++ dktX7_ordered_1
theorem dksX7_ordered_0 : cX7_ordered.data.toList.drop 0 = dktX7_ordered_0 := by decide +kernel
theorem dksX7_ordered_1 : cX7_ordered.data.toList.drop 24 = dktX7_ordered_1 := dk_seg dksX7_ordered_0 24 rfl rfl
theorem dX7_ordered_0 : decode cX7_ordered 0 = .ok (.iload_n 1, 1) := dk_27 (dk_at dksX7_ordered_0 0 rfl rfl)
theorem dX7_ordered_1 : decode cX7_ordered 1 = .ok (.iconst 0, 1) := dk_3 (dk_at dksX7_ordered_0 1 rfl rfl)
theorem dX7_ordered_2 : decode cX7_ordered 2 = .ok (.aload_n 0, 1) := dk_42 (dk_at dksX7_ordered_0 2 rfl rfl)
theorem dX7_ordered_3 : decode cX7_ordered 3 = .ok (.getfield 13, 3) := dk_180 0 13 (dk_at dksX7_ordered_0 3 rfl rfl)
theorem dX7_ordered_6 : decode cX7_ordered 6 = .ok (.iconst 5, 1) := dk_8 (dk_at dksX7_ordered_0 6 rfl rfl)
theorem dX7_ordered_7 : decode cX7_ordered 7 = .ok (.iaload, 1) := dk_46 (dk_at dksX7_ordered_0 7 rfl rfl)
theorem dX7_ordered_8 : decode cX7_ordered 8 = .ok (.iconst 1, 1) := dk_4 (dk_at dksX7_ordered_0 8 rfl rfl)
theorem dX7_ordered_9 : decode cX7_ordered 9 = .ok (.isub, 1) := dk_100 (dk_at dksX7_ordered_0 9 rfl rfl)
theorem dX7_ordered_10 : decode cX7_ordered 10 = .ok (.invokestatic 76, 3) := dk_184 0 76 (dk_at dksX7_ordered_0 10 rfl rfl)
theorem dX7_ordered_13 : decode cX7_ordered 13 = .ok (.ifCond .ne 10, 3) := dk_154 0 10 (dk_at dksX7_ordered_0 13 rfl rfl)
theorem dX7_ordered_16 : decode cX7_ordered 16 = .ok (.aload_n 0, 1) := dk_42 (dk_at dksX7_ordered_0 16 rfl rfl)
theorem dX7_ordered_17 : decode cX7_ordered 17 = .ok (.bipush (-3), 2) := dk_16 253 (dk_at dksX7_ordered_0 17 rfl rfl)
theorem dX7_ordered_19 : decode cX7_ordered 19 = .ok (.invokevirtual 80, 3) := dk_182 0 80 (dk_at dksX7_ordered_0 19 rfl rfl)
theorem dX7_ordered_22 : decode cX7_ordered 22 = .ok (.ireturn, 1) := dk_172 (dk_at dksX7_ordered_0 22 rfl rfl)
theorem dX7_ordered_23 : decode cX7_ordered 23 = .ok (.iload_n 2, 1) := dk_28 (dk_at dksX7_ordered_0 23 rfl rfl)
theorem dX7_ordered_24 : decode cX7_ordered 24 = .ok (.iconst 0, 1) := dk_3 (dk_at dksX7_ordered_1 0 rfl rfl)
theorem dX7_ordered_25 : decode cX7_ordered 25 = .ok (.iconst 2, 1) := dk_5 (dk_at dksX7_ordered_1 1 rfl rfl)
theorem dX7_ordered_26 : decode cX7_ordered 26 = .ok (.invokestatic 76, 3) := dk_184 0 76 (dk_at dksX7_ordered_1 2 rfl rfl)
theorem dX7_ordered_29 : decode cX7_ordered 29 = .ok (.ifCond .eq 12, 3) := dk_153 0 12 (dk_at dksX7_ordered_1 5 rfl rfl)
theorem dX7_ordered_32 : decode cX7_ordered 32 = .ok (.aload_n 0, 1) := dk_42 (dk_at dksX7_ordered_1 8 rfl rfl)
theorem dX7_ordered_33 : decode cX7_ordered 33 = .ok (.iload_n 1, 1) := dk_27 (dk_at dksX7_ordered_1 9 rfl rfl)
theorem dX7_ordered_34 : decode cX7_ordered 34 = .ok (.iload_n 2, 1) := dk_28 (dk_at dksX7_ordered_1 10 rfl rfl)
theorem dX7_ordered_35 : decode cX7_ordered 35 = .ok (.invokevirtual 335, 3) := dk_182 1 79 (dk_at dksX7_ordered_1 11 rfl rfl)
theorem dX7_ordered_38 : decode cX7_ordered 38 = .ok (.goto 9, 3) := dk_167 0 9 (dk_at dksX7_ordered_1 14 rfl rfl)
theorem dX7_ordered_41 : decode cX7_ordered 41 = .ok (.aload_n 0, 1) := dk_42 (dk_at dksX7_ordered_1 17 rfl rfl)
theorem dX7_ordered_42 : decode cX7_ordered 42 = .ok (.bipush (-7), 2) := dk_16 249 (dk_at dksX7_ordered_1 18 rfl rfl)
theorem dX7_ordered_44 : decode cX7_ordered 44 = .ok (.invokevirtual 80, 3) := dk_182 0 80 (dk_at dksX7_ordered_1 20 rfl rfl)
theorem dX7_ordered_47 : decode cX7_ordered 47 = .ok (.ireturn, 1) := dk_172 (dk_at dksX7_ordered_1 23 rfl rfl)
abbrev cX7_sow : ByteArray := prog_19_method_76_code
def yX7_sow : MethodName := ⟨RX7, "sow", "(II)I"⟩
def dkwX7_sow_4 : List UInt8 := [79, 21, 4, 172]
abbrev dktX7_sow_4 : List UInt8 := dkwX7_sow_4 ++ []
def dkwX7_sow_3 : List UInt8 := [17, 39, 15, 164, 0, 10, 42, 16, 248, 182, 0, 80, 172, 42, 180, 0, 13, 29, 5, 96, 92, 46, 28, 96]
abbrev dktX7_sow_3 : List UInt8 := dkwX7_sow_3 ++ dktX7_sow_4
def dkwX7_sow_2 : List UInt8 := [42, 180, 0, 13, 29, 4, 96, 46, 96, 42, 180, 0, 13, 29, 5, 96, 46, 96, 28, 96, 54, 4, 21, 4]
abbrev dktX7_sow_2 : List UInt8 := dkwX7_sow_2 ++ dktX7_sow_3
def dkwX7_sow_1 : List UInt8 := [154, 0, 10, 42, 16, 249, 182, 0, 80, 172, 17, 13, 118, 6, 27, 104, 96, 62, 42, 180, 0, 13, 29, 46]
abbrev dktX7_sow_1 : List UInt8 := dkwX7_sow_1 ++ dktX7_sow_2
def dkwX7_sow_0 : List UInt8 := [27, 3, 6, 184, 0, 76, 154, 0, 10, 42, 16, 251, 182, 0, 80, 172, 28, 4, 17, 3, 231, 184, 0, 76]
abbrev dktX7_sow_0 : List UInt8 := dkwX7_sow_0 ++ dktX7_sow_1
theorem dksX7_sow_0 : cX7_sow.data.toList.drop 0 = dktX7_sow_0 := by decide +kernel
theorem dksX7_sow_1 : cX7_sow.data.toList.drop 24 = dktX7_sow_1 := dk_seg dksX7_sow_0 24 rfl rfl
theorem dksX7_sow_2 : cX7_sow.data.toList.drop 48 = dktX7_sow_2 := dk_seg dksX7_sow_1 24 rfl rfl
theorem dksX7_sow_3 : cX7_sow.data.toList.drop 72 = dktX7_sow_3 := dk_seg dksX7_sow_2 24 rfl rfl
theorem dksX7_sow_4 : cX7_sow.data.toList.drop 96 = dktX7_sow_4 := dk_seg dksX7_sow_3 24 rfl rfl
theorem dX7_sow_0 : decode cX7_sow 0 = .ok (.iload_n 1, 1) := dk_27 (dk_at dksX7_sow_0 0 rfl rfl)
theorem dX7_sow_1 : decode cX7_sow 1 = .ok (.iconst 0, 1) := dk_3 (dk_at dksX7_sow_0 1 rfl rfl)
theorem dX7_sow_2 : decode cX7_sow 2 = .ok (.iconst 3, 1) := dk_6 (dk_at dksX7_sow_0 2 rfl rfl)
theorem dX7_sow_3 : decode cX7_sow 3 = .ok (.invokestatic 76, 3) := dk_184 0 76 (dk_at dksX7_sow_0 3 rfl rfl)
theorem dX7_sow_6 : decode cX7_sow 6 = .ok (.ifCond .ne 10, 3) := dk_154 0 10 (dk_at dksX7_sow_0 6 rfl rfl)
theorem dX7_sow_9 : decode cX7_sow 9 = .ok (.aload_n 0, 1) := dk_42 (dk_at dksX7_sow_0 9 rfl rfl)
theorem dX7_sow_10 : decode cX7_sow 10 = .ok (.bipush (-5), 2) := dk_16 251 (dk_at dksX7_sow_0 10 rfl rfl)
theorem dX7_sow_12 : decode cX7_sow 12 = .ok (.invokevirtual 80, 3) := dk_182 0 80 (dk_at dksX7_sow_0 12 rfl rfl)
theorem dX7_sow_15 : decode cX7_sow 15 = .ok (.ireturn, 1) := dk_172 (dk_at dksX7_sow_0 15 rfl rfl)
theorem dX7_sow_16 : decode cX7_sow 16 = .ok (.iload_n 2, 1) := dk_28 (dk_at dksX7_sow_0 16 rfl rfl)
theorem dX7_sow_17 : decode cX7_sow 17 = .ok (.iconst 1, 1) := dk_4 (dk_at dksX7_sow_0 17 rfl rfl)
theorem dX7_sow_18 : decode cX7_sow 18 = .ok (.sipush 999, 3) := dk_17 3 231 (dk_at dksX7_sow_0 18 rfl rfl)
theorem dX7_sow_21 : decode cX7_sow 21 = .ok (.invokestatic 76, 3) := dk_184 0 76 (dk_at dksX7_sow_0 21 rfl rfl)
theorem dX7_sow_24 : decode cX7_sow 24 = .ok (.ifCond .ne 10, 3) := dk_154 0 10 (dk_at dksX7_sow_1 0 rfl rfl)
theorem dX7_sow_27 : decode cX7_sow 27 = .ok (.aload_n 0, 1) := dk_42 (dk_at dksX7_sow_1 3 rfl rfl)
theorem dX7_sow_28 : decode cX7_sow 28 = .ok (.bipush (-7), 2) := dk_16 249 (dk_at dksX7_sow_1 4 rfl rfl)
theorem dX7_sow_30 : decode cX7_sow 30 = .ok (.invokevirtual 80, 3) := dk_182 0 80 (dk_at dksX7_sow_1 6 rfl rfl)
theorem dX7_sow_33 : decode cX7_sow 33 = .ok (.ireturn, 1) := dk_172 (dk_at dksX7_sow_1 9 rfl rfl)
theorem dX7_sow_34 : decode cX7_sow 34 = .ok (.sipush 3446, 3) := dk_17 13 118 (dk_at dksX7_sow_1 10 rfl rfl)
theorem dX7_sow_37 : decode cX7_sow 37 = .ok (.iconst 3, 1) := dk_6 (dk_at dksX7_sow_1 13 rfl rfl)
theorem dX7_sow_38 : decode cX7_sow 38 = .ok (.iload_n 1, 1) := dk_27 (dk_at dksX7_sow_1 14 rfl rfl)
theorem dX7_sow_39 : decode cX7_sow 39 = .ok (.imul, 1) := dk_104 (dk_at dksX7_sow_1 15 rfl rfl)
theorem dX7_sow_40 : decode cX7_sow 40 = .ok (.iadd, 1) := dk_96 (dk_at dksX7_sow_1 16 rfl rfl)
theorem dX7_sow_41 : decode cX7_sow 41 = .ok (.istore_n 3, 1) := dk_62 (dk_at dksX7_sow_1 17 rfl rfl)
theorem dX7_sow_42 : decode cX7_sow 42 = .ok (.aload_n 0, 1) := dk_42 (dk_at dksX7_sow_1 18 rfl rfl)
theorem dX7_sow_43 : decode cX7_sow 43 = .ok (.getfield 13, 3) := dk_180 0 13 (dk_at dksX7_sow_1 19 rfl rfl)
theorem dX7_sow_46 : decode cX7_sow 46 = .ok (.iload_n 3, 1) := dk_29 (dk_at dksX7_sow_1 22 rfl rfl)
theorem dX7_sow_47 : decode cX7_sow 47 = .ok (.iaload, 1) := dk_46 (dk_at dksX7_sow_1 23 rfl rfl)
theorem dX7_sow_48 : decode cX7_sow 48 = .ok (.aload_n 0, 1) := dk_42 (dk_at dksX7_sow_2 0 rfl rfl)
theorem dX7_sow_49 : decode cX7_sow 49 = .ok (.getfield 13, 3) := dk_180 0 13 (dk_at dksX7_sow_2 1 rfl rfl)
theorem dX7_sow_52 : decode cX7_sow 52 = .ok (.iload_n 3, 1) := dk_29 (dk_at dksX7_sow_2 4 rfl rfl)
theorem dX7_sow_53 : decode cX7_sow 53 = .ok (.iconst 1, 1) := dk_4 (dk_at dksX7_sow_2 5 rfl rfl)
theorem dX7_sow_54 : decode cX7_sow 54 = .ok (.iadd, 1) := dk_96 (dk_at dksX7_sow_2 6 rfl rfl)
theorem dX7_sow_55 : decode cX7_sow 55 = .ok (.iaload, 1) := dk_46 (dk_at dksX7_sow_2 7 rfl rfl)
theorem dX7_sow_56 : decode cX7_sow 56 = .ok (.iadd, 1) := dk_96 (dk_at dksX7_sow_2 8 rfl rfl)
theorem dX7_sow_57 : decode cX7_sow 57 = .ok (.aload_n 0, 1) := dk_42 (dk_at dksX7_sow_2 9 rfl rfl)
theorem dX7_sow_58 : decode cX7_sow 58 = .ok (.getfield 13, 3) := dk_180 0 13 (dk_at dksX7_sow_2 10 rfl rfl)
theorem dX7_sow_61 : decode cX7_sow 61 = .ok (.iload_n 3, 1) := dk_29 (dk_at dksX7_sow_2 13 rfl rfl)
theorem dX7_sow_62 : decode cX7_sow 62 = .ok (.iconst 2, 1) := dk_5 (dk_at dksX7_sow_2 14 rfl rfl)
theorem dX7_sow_63 : decode cX7_sow 63 = .ok (.iadd, 1) := dk_96 (dk_at dksX7_sow_2 15 rfl rfl)
theorem dX7_sow_64 : decode cX7_sow 64 = .ok (.iaload, 1) := dk_46 (dk_at dksX7_sow_2 16 rfl rfl)
theorem dX7_sow_65 : decode cX7_sow 65 = .ok (.iadd, 1) := dk_96 (dk_at dksX7_sow_2 17 rfl rfl)
theorem dX7_sow_66 : decode cX7_sow 66 = .ok (.iload_n 2, 1) := dk_28 (dk_at dksX7_sow_2 18 rfl rfl)
theorem dX7_sow_67 : decode cX7_sow 67 = .ok (.iadd, 1) := dk_96 (dk_at dksX7_sow_2 19 rfl rfl)
theorem dX7_sow_68 : decode cX7_sow 68 = .ok (.istore 4, 2) := dk_54 4 (dk_at dksX7_sow_2 20 rfl rfl)
theorem dX7_sow_70 : decode cX7_sow 70 = .ok (.iload 4, 2) := dk_21 4 (dk_at dksX7_sow_2 22 rfl rfl)
theorem dX7_sow_72 : decode cX7_sow 72 = .ok (.sipush 9999, 3) := dk_17 39 15 (dk_at dksX7_sow_3 0 rfl rfl)
theorem dX7_sow_75 : decode cX7_sow 75 = .ok (.if_icmp .le 10, 3) := dk_164 0 10 (dk_at dksX7_sow_3 3 rfl rfl)
theorem dX7_sow_78 : decode cX7_sow 78 = .ok (.aload_n 0, 1) := dk_42 (dk_at dksX7_sow_3 6 rfl rfl)
theorem dX7_sow_79 : decode cX7_sow 79 = .ok (.bipush (-8), 2) := dk_16 248 (dk_at dksX7_sow_3 7 rfl rfl)
theorem dX7_sow_81 : decode cX7_sow 81 = .ok (.invokevirtual 80, 3) := dk_182 0 80 (dk_at dksX7_sow_3 9 rfl rfl)
theorem dX7_sow_84 : decode cX7_sow 84 = .ok (.ireturn, 1) := dk_172 (dk_at dksX7_sow_3 12 rfl rfl)
theorem dX7_sow_85 : decode cX7_sow 85 = .ok (.aload_n 0, 1) := dk_42 (dk_at dksX7_sow_3 13 rfl rfl)
theorem dX7_sow_86 : decode cX7_sow 86 = .ok (.getfield 13, 3) := dk_180 0 13 (dk_at dksX7_sow_3 14 rfl rfl)
theorem dX7_sow_89 : decode cX7_sow 89 = .ok (.iload_n 3, 1) := dk_29 (dk_at dksX7_sow_3 17 rfl rfl)
theorem dX7_sow_90 : decode cX7_sow 90 = .ok (.iconst 2, 1) := dk_5 (dk_at dksX7_sow_3 18 rfl rfl)
theorem dX7_sow_91 : decode cX7_sow 91 = .ok (.iadd, 1) := dk_96 (dk_at dksX7_sow_3 19 rfl rfl)
theorem dX7_sow_92 : decode cX7_sow 92 = .ok (.dup2, 1) := dk_92 (dk_at dksX7_sow_3 20 rfl rfl)
theorem dX7_sow_93 : decode cX7_sow 93 = .ok (.iaload, 1) := dk_46 (dk_at dksX7_sow_3 21 rfl rfl)
theorem dX7_sow_94 : decode cX7_sow 94 = .ok (.iload_n 2, 1) := dk_28 (dk_at dksX7_sow_3 22 rfl rfl)
theorem dX7_sow_95 : decode cX7_sow 95 = .ok (.iadd, 1) := dk_96 (dk_at dksX7_sow_3 23 rfl rfl)
theorem dX7_sow_96 : decode cX7_sow 96 = .ok (.iastore, 1) := dk_79 (dk_at dksX7_sow_4 0 rfl rfl)
theorem dX7_sow_97 : decode cX7_sow 97 = .ok (.iload 4, 2) := dk_21 4 (dk_at dksX7_sow_4 1 rfl rfl)
theorem dX7_sow_99 : decode cX7_sow 99 = .ok (.ireturn, 1) := dk_172 (dk_at dksX7_sow_4 3 rfl rfl)
abbrev cX7_nursery : ByteArray := prog_19_method_77_code
def yX7_nursery : MethodName := ⟨RX7, "nursery", "(II)I"⟩
def dkwX7_nursery_2 : List UInt8 := [182, 0, 80, 172]
abbrev dktX7_nursery_2 : List UInt8 := dkwX7_nursery_2 ++ []
def dkwX7_nursery_1 : List UInt8 := [153, 0, 20, 42, 180, 0, 13, 17, 13, 118, 6, 27, 104, 96, 28, 96, 46, 167, 0, 9, 42, 16, 249]
abbrev dktX7_nursery_1 : List UInt8 := dkwX7_nursery_1 ++ dktX7_nursery_2
def dkwX7_nursery_0 : List UInt8 := [27, 3, 6, 184, 0, 76, 154, 0, 10, 42, 16, 251, 182, 0, 80, 172, 28, 3, 5, 184, 0, 76]
abbrev dktX7_nursery_0 : List UInt8 := dkwX7_nursery_0 ++ dktX7_nursery_1
theorem dksX7_nursery_0 : cX7_nursery.data.toList.drop 0 = dktX7_nursery_0 := by decide +kernel
theorem dksX7_nursery_1 : cX7_nursery.data.toList.drop 22 = dktX7_nursery_1 := dk_seg dksX7_nursery_0 22 rfl rfl
theorem dksX7_nursery_2 : cX7_nursery.data.toList.drop 45 = dktX7_nursery_2 := dk_seg dksX7_nursery_1 23 rfl rfl
theorem dX7_nursery_0 : decode cX7_nursery 0 = .ok (.iload_n 1, 1) := dk_27 (dk_at dksX7_nursery_0 0 rfl rfl)
theorem dX7_nursery_1 : decode cX7_nursery 1 = .ok (.iconst 0, 1) := dk_3 (dk_at dksX7_nursery_0 1 rfl rfl)
theorem dX7_nursery_2 : decode cX7_nursery 2 = .ok (.iconst 3, 1) := dk_6 (dk_at dksX7_nursery_0 2 rfl rfl)
theorem dX7_nursery_3 : decode cX7_nursery 3 = .ok (.invokestatic 76, 3) := dk_184 0 76 (dk_at dksX7_nursery_0 3 rfl rfl)
theorem dX7_nursery_6 : decode cX7_nursery 6 = .ok (.ifCond .ne 10, 3) := dk_154 0 10 (dk_at dksX7_nursery_0 6 rfl rfl)
theorem dX7_nursery_9 : decode cX7_nursery 9 = .ok (.aload_n 0, 1) := dk_42 (dk_at dksX7_nursery_0 9 rfl rfl)
theorem dX7_nursery_10 : decode cX7_nursery 10 = .ok (.bipush (-5), 2) := dk_16 251 (dk_at dksX7_nursery_0 10 rfl rfl)
theorem dX7_nursery_12 : decode cX7_nursery 12 = .ok (.invokevirtual 80, 3) := dk_182 0 80 (dk_at dksX7_nursery_0 12 rfl rfl)
theorem dX7_nursery_15 : decode cX7_nursery 15 = .ok (.ireturn, 1) := dk_172 (dk_at dksX7_nursery_0 15 rfl rfl)
theorem dX7_nursery_16 : decode cX7_nursery 16 = .ok (.iload_n 2, 1) := dk_28 (dk_at dksX7_nursery_0 16 rfl rfl)
theorem dX7_nursery_17 : decode cX7_nursery 17 = .ok (.iconst 0, 1) := dk_3 (dk_at dksX7_nursery_0 17 rfl rfl)
theorem dX7_nursery_18 : decode cX7_nursery 18 = .ok (.iconst 2, 1) := dk_5 (dk_at dksX7_nursery_0 18 rfl rfl)
theorem dX7_nursery_19 : decode cX7_nursery 19 = .ok (.invokestatic 76, 3) := dk_184 0 76 (dk_at dksX7_nursery_0 19 rfl rfl)
theorem dX7_nursery_22 : decode cX7_nursery 22 = .ok (.ifCond .eq 20, 3) := dk_153 0 20 (dk_at dksX7_nursery_1 0 rfl rfl)
theorem dX7_nursery_25 : decode cX7_nursery 25 = .ok (.aload_n 0, 1) := dk_42 (dk_at dksX7_nursery_1 3 rfl rfl)
theorem dX7_nursery_26 : decode cX7_nursery 26 = .ok (.getfield 13, 3) := dk_180 0 13 (dk_at dksX7_nursery_1 4 rfl rfl)
theorem dX7_nursery_29 : decode cX7_nursery 29 = .ok (.sipush 3446, 3) := dk_17 13 118 (dk_at dksX7_nursery_1 7 rfl rfl)
theorem dX7_nursery_32 : decode cX7_nursery 32 = .ok (.iconst 3, 1) := dk_6 (dk_at dksX7_nursery_1 10 rfl rfl)
theorem dX7_nursery_33 : decode cX7_nursery 33 = .ok (.iload_n 1, 1) := dk_27 (dk_at dksX7_nursery_1 11 rfl rfl)
theorem dX7_nursery_34 : decode cX7_nursery 34 = .ok (.imul, 1) := dk_104 (dk_at dksX7_nursery_1 12 rfl rfl)
theorem dX7_nursery_35 : decode cX7_nursery 35 = .ok (.iadd, 1) := dk_96 (dk_at dksX7_nursery_1 13 rfl rfl)
theorem dX7_nursery_36 : decode cX7_nursery 36 = .ok (.iload_n 2, 1) := dk_28 (dk_at dksX7_nursery_1 14 rfl rfl)
theorem dX7_nursery_37 : decode cX7_nursery 37 = .ok (.iadd, 1) := dk_96 (dk_at dksX7_nursery_1 15 rfl rfl)
theorem dX7_nursery_38 : decode cX7_nursery 38 = .ok (.iaload, 1) := dk_46 (dk_at dksX7_nursery_1 16 rfl rfl)
theorem dX7_nursery_39 : decode cX7_nursery 39 = .ok (.goto 9, 3) := dk_167 0 9 (dk_at dksX7_nursery_1 17 rfl rfl)
theorem dX7_nursery_42 : decode cX7_nursery 42 = .ok (.aload_n 0, 1) := dk_42 (dk_at dksX7_nursery_1 20 rfl rfl)
theorem dX7_nursery_43 : decode cX7_nursery 43 = .ok (.bipush (-7), 2) := dk_16 249 (dk_at dksX7_nursery_1 21 rfl rfl)
theorem dX7_nursery_45 : decode cX7_nursery 45 = .ok (.invokevirtual 80, 3) := dk_182 0 80 (dk_at dksX7_nursery_2 0 rfl rfl)
theorem dX7_nursery_48 : decode cX7_nursery 48 = .ok (.ireturn, 1) := dk_172 (dk_at dksX7_nursery_2 3 rfl rfl)
abbrev cX7_wind : ByteArray := prog_19_method_78_code
def yX7_wind : MethodName := ⟨RX7, "wind", "(II)I"⟩
def dkwX7_wind_2 : List UInt8 := [180, 0, 13, 17, 13, 130, 27, 96, 28, 79, 29, 172]
abbrev dktX7_wind_2 : List UInt8 := dkwX7_wind_2 ++ []
def dkwX7_wind_1 : List UInt8 := [154, 0, 10, 42, 16, 249, 182, 0, 165, 172, 42, 180, 0, 13, 17, 13, 130, 27, 96, 46, 62, 42]
abbrev dktX7_wind_1 : List UInt8 := dkwX7_wind_1 ++ dktX7_wind_2
def dkwX7_wind_0 : List UInt8 := [27, 3, 16, 99, 184, 0, 76, 154, 0, 10, 42, 16, 253, 182, 0, 165, 172, 28, 2, 16, 99, 184, 0, 76]
abbrev dktX7_wind_0 : List UInt8 := dkwX7_wind_0 ++ dktX7_wind_1
theorem dksX7_wind_0 : cX7_wind.data.toList.drop 0 = dktX7_wind_0 := by decide +kernel
theorem dksX7_wind_1 : cX7_wind.data.toList.drop 24 = dktX7_wind_1 := dk_seg dksX7_wind_0 24 rfl rfl
theorem dksX7_wind_2 : cX7_wind.data.toList.drop 46 = dktX7_wind_2 := dk_seg dksX7_wind_1 22 rfl rfl
theorem dX7_wind_0 : decode cX7_wind 0 = .ok (.iload_n 1, 1) := dk_27 (dk_at dksX7_wind_0 0 rfl rfl)
theorem dX7_wind_1 : decode cX7_wind 1 = .ok (.iconst 0, 1) := dk_3 (dk_at dksX7_wind_0 1 rfl rfl)
theorem dX7_wind_2 : decode cX7_wind 2 = .ok (.bipush 99, 2) := dk_16 99 (dk_at dksX7_wind_0 2 rfl rfl)
theorem dX7_wind_4 : decode cX7_wind 4 = .ok (.invokestatic 76, 3) := dk_184 0 76 (dk_at dksX7_wind_0 4 rfl rfl)
theorem dX7_wind_7 : decode cX7_wind 7 = .ok (.ifCond .ne 10, 3) := dk_154 0 10 (dk_at dksX7_wind_0 7 rfl rfl)
theorem dX7_wind_10 : decode cX7_wind 10 = .ok (.aload_n 0, 1) := dk_42 (dk_at dksX7_wind_0 10 rfl rfl)
theorem dX7_wind_11 : decode cX7_wind 11 = .ok (.bipush (-3), 2) := dk_16 253 (dk_at dksX7_wind_0 11 rfl rfl)
theorem dX7_wind_13 : decode cX7_wind 13 = .ok (.invokevirtual 165, 3) := dk_182 0 165 (dk_at dksX7_wind_0 13 rfl rfl)
theorem dX7_wind_16 : decode cX7_wind 16 = .ok (.ireturn, 1) := dk_172 (dk_at dksX7_wind_0 16 rfl rfl)
theorem dX7_wind_17 : decode cX7_wind 17 = .ok (.iload_n 2, 1) := dk_28 (dk_at dksX7_wind_0 17 rfl rfl)
theorem dX7_wind_18 : decode cX7_wind 18 = .ok (.iconst (-1), 1) := dk_2 (dk_at dksX7_wind_0 18 rfl rfl)
theorem dX7_wind_19 : decode cX7_wind 19 = .ok (.bipush 99, 2) := dk_16 99 (dk_at dksX7_wind_0 19 rfl rfl)
theorem dX7_wind_21 : decode cX7_wind 21 = .ok (.invokestatic 76, 3) := dk_184 0 76 (dk_at dksX7_wind_0 21 rfl rfl)
theorem dX7_wind_24 : decode cX7_wind 24 = .ok (.ifCond .ne 10, 3) := dk_154 0 10 (dk_at dksX7_wind_1 0 rfl rfl)
theorem dX7_wind_27 : decode cX7_wind 27 = .ok (.aload_n 0, 1) := dk_42 (dk_at dksX7_wind_1 3 rfl rfl)
theorem dX7_wind_28 : decode cX7_wind 28 = .ok (.bipush (-7), 2) := dk_16 249 (dk_at dksX7_wind_1 4 rfl rfl)
theorem dX7_wind_30 : decode cX7_wind 30 = .ok (.invokevirtual 165, 3) := dk_182 0 165 (dk_at dksX7_wind_1 6 rfl rfl)
theorem dX7_wind_33 : decode cX7_wind 33 = .ok (.ireturn, 1) := dk_172 (dk_at dksX7_wind_1 9 rfl rfl)
theorem dX7_wind_34 : decode cX7_wind 34 = .ok (.aload_n 0, 1) := dk_42 (dk_at dksX7_wind_1 10 rfl rfl)
theorem dX7_wind_35 : decode cX7_wind 35 = .ok (.getfield 13, 3) := dk_180 0 13 (dk_at dksX7_wind_1 11 rfl rfl)
theorem dX7_wind_38 : decode cX7_wind 38 = .ok (.sipush 3458, 3) := dk_17 13 130 (dk_at dksX7_wind_1 14 rfl rfl)
theorem dX7_wind_41 : decode cX7_wind 41 = .ok (.iload_n 1, 1) := dk_27 (dk_at dksX7_wind_1 17 rfl rfl)
theorem dX7_wind_42 : decode cX7_wind 42 = .ok (.iadd, 1) := dk_96 (dk_at dksX7_wind_1 18 rfl rfl)
theorem dX7_wind_43 : decode cX7_wind 43 = .ok (.iaload, 1) := dk_46 (dk_at dksX7_wind_1 19 rfl rfl)
theorem dX7_wind_44 : decode cX7_wind 44 = .ok (.istore_n 3, 1) := dk_62 (dk_at dksX7_wind_1 20 rfl rfl)
theorem dX7_wind_45 : decode cX7_wind 45 = .ok (.aload_n 0, 1) := dk_42 (dk_at dksX7_wind_1 21 rfl rfl)
theorem dX7_wind_46 : decode cX7_wind 46 = .ok (.getfield 13, 3) := dk_180 0 13 (dk_at dksX7_wind_2 0 rfl rfl)
theorem dX7_wind_49 : decode cX7_wind 49 = .ok (.sipush 3458, 3) := dk_17 13 130 (dk_at dksX7_wind_2 3 rfl rfl)
theorem dX7_wind_52 : decode cX7_wind 52 = .ok (.iload_n 1, 1) := dk_27 (dk_at dksX7_wind_2 6 rfl rfl)
theorem dX7_wind_53 : decode cX7_wind 53 = .ok (.iadd, 1) := dk_96 (dk_at dksX7_wind_2 7 rfl rfl)
theorem dX7_wind_54 : decode cX7_wind 54 = .ok (.iload_n 2, 1) := dk_28 (dk_at dksX7_wind_2 8 rfl rfl)
theorem dX7_wind_55 : decode cX7_wind 55 = .ok (.iastore, 1) := dk_79 (dk_at dksX7_wind_2 9 rfl rfl)
theorem dX7_wind_56 : decode cX7_wind 56 = .ok (.iload_n 3, 1) := dk_29 (dk_at dksX7_wind_2 10 rfl rfl)
theorem dX7_wind_57 : decode cX7_wind 57 = .ok (.ireturn, 1) := dk_172 (dk_at dksX7_wind_2 11 rfl rfl)
abbrev cX7_read : ByteArray := prog_19_method_79_code
def yX7_read : MethodName := ⟨RX7, "read", "()I"⟩
def dkwX7_read_3 : List UInt8 := [167, 0, 4, 3, 96, 60, 132, 2, 1, 167, 255, 196, 27, 172]
abbrev dktX7_read_3 : List UInt8 := dkwX7_read_3 ++ []
def dkwX7_read_2 : List UInt8 := [96, 29, 153, 0, 12, 42, 180, 0, 70, 28, 46, 167, 0, 4, 2, 79, 27, 29, 153, 0, 7, 4]
abbrev dktX7_read_2 : List UInt8 := dkwX7_read_2 ++ dktX7_read_3
def dkwX7_read_1 : List UInt8 := [162, 0, 58, 42, 180, 0, 70, 28, 46, 3, 16, 99, 184, 0, 76, 62, 42, 180, 0, 13, 17, 13, 130, 28]
abbrev dktX7_read_1 : List UInt8 := dkwX7_read_1 ++ dktX7_read_2
def dkwX7_read_0 : List UInt8 := [42, 180, 1, 100, 154, 0, 10, 42, 16, 254, 182, 0, 80, 172, 3, 60, 3, 61, 28, 42, 180, 1, 103]
abbrev dktX7_read_0 : List UInt8 := dkwX7_read_0 ++ dktX7_read_1
theorem dksX7_read_0 : cX7_read.data.toList.drop 0 = dktX7_read_0 := by decide +kernel
theorem dksX7_read_1 : cX7_read.data.toList.drop 23 = dktX7_read_1 := dk_seg dksX7_read_0 23 rfl rfl
theorem dksX7_read_2 : cX7_read.data.toList.drop 47 = dktX7_read_2 := dk_seg dksX7_read_1 24 rfl rfl
theorem dksX7_read_3 : cX7_read.data.toList.drop 69 = dktX7_read_3 := dk_seg dksX7_read_2 22 rfl rfl
theorem dX7_read_0 : decode cX7_read 0 = .ok (.aload_n 0, 1) := dk_42 (dk_at dksX7_read_0 0 rfl rfl)
theorem dX7_read_1 : decode cX7_read 1 = .ok (.getfield 356, 3) := dk_180 1 100 (dk_at dksX7_read_0 1 rfl rfl)
theorem dX7_read_4 : decode cX7_read 4 = .ok (.ifCond .ne 10, 3) := dk_154 0 10 (dk_at dksX7_read_0 4 rfl rfl)
theorem dX7_read_7 : decode cX7_read 7 = .ok (.aload_n 0, 1) := dk_42 (dk_at dksX7_read_0 7 rfl rfl)
theorem dX7_read_8 : decode cX7_read 8 = .ok (.bipush (-2), 2) := dk_16 254 (dk_at dksX7_read_0 8 rfl rfl)
theorem dX7_read_10 : decode cX7_read 10 = .ok (.invokevirtual 80, 3) := dk_182 0 80 (dk_at dksX7_read_0 10 rfl rfl)
theorem dX7_read_13 : decode cX7_read 13 = .ok (.ireturn, 1) := dk_172 (dk_at dksX7_read_0 13 rfl rfl)
theorem dX7_read_14 : decode cX7_read 14 = .ok (.iconst 0, 1) := dk_3 (dk_at dksX7_read_0 14 rfl rfl)
theorem dX7_read_15 : decode cX7_read 15 = .ok (.istore_n 1, 1) := dk_60 (dk_at dksX7_read_0 15 rfl rfl)
theorem dX7_read_16 : decode cX7_read 16 = .ok (.iconst 0, 1) := dk_3 (dk_at dksX7_read_0 16 rfl rfl)
theorem dX7_read_17 : decode cX7_read 17 = .ok (.istore_n 2, 1) := dk_61 (dk_at dksX7_read_0 17 rfl rfl)
theorem dX7_read_18 : decode cX7_read 18 = .ok (.iload_n 2, 1) := dk_28 (dk_at dksX7_read_0 18 rfl rfl)
theorem dX7_read_19 : decode cX7_read 19 = .ok (.aload_n 0, 1) := dk_42 (dk_at dksX7_read_0 19 rfl rfl)
theorem dX7_read_20 : decode cX7_read 20 = .ok (.getfield 359, 3) := dk_180 1 103 (dk_at dksX7_read_0 20 rfl rfl)
theorem dX7_read_23 : decode cX7_read 23 = .ok (.if_icmp .ge 58, 3) := dk_162 0 58 (dk_at dksX7_read_1 0 rfl rfl)
theorem dX7_read_26 : decode cX7_read 26 = .ok (.aload_n 0, 1) := dk_42 (dk_at dksX7_read_1 3 rfl rfl)
theorem dX7_read_27 : decode cX7_read 27 = .ok (.getfield 70, 3) := dk_180 0 70 (dk_at dksX7_read_1 4 rfl rfl)
theorem dX7_read_30 : decode cX7_read 30 = .ok (.iload_n 2, 1) := dk_28 (dk_at dksX7_read_1 7 rfl rfl)
theorem dX7_read_31 : decode cX7_read 31 = .ok (.iaload, 1) := dk_46 (dk_at dksX7_read_1 8 rfl rfl)
theorem dX7_read_32 : decode cX7_read 32 = .ok (.iconst 0, 1) := dk_3 (dk_at dksX7_read_1 9 rfl rfl)
theorem dX7_read_33 : decode cX7_read 33 = .ok (.bipush 99, 2) := dk_16 99 (dk_at dksX7_read_1 10 rfl rfl)
theorem dX7_read_35 : decode cX7_read 35 = .ok (.invokestatic 76, 3) := dk_184 0 76 (dk_at dksX7_read_1 12 rfl rfl)
theorem dX7_read_38 : decode cX7_read 38 = .ok (.istore_n 3, 1) := dk_62 (dk_at dksX7_read_1 15 rfl rfl)
theorem dX7_read_39 : decode cX7_read 39 = .ok (.aload_n 0, 1) := dk_42 (dk_at dksX7_read_1 16 rfl rfl)
theorem dX7_read_40 : decode cX7_read 40 = .ok (.getfield 13, 3) := dk_180 0 13 (dk_at dksX7_read_1 17 rfl rfl)
theorem dX7_read_43 : decode cX7_read 43 = .ok (.sipush 3458, 3) := dk_17 13 130 (dk_at dksX7_read_1 20 rfl rfl)
theorem dX7_read_46 : decode cX7_read 46 = .ok (.iload_n 2, 1) := dk_28 (dk_at dksX7_read_1 23 rfl rfl)
theorem dX7_read_47 : decode cX7_read 47 = .ok (.iadd, 1) := dk_96 (dk_at dksX7_read_2 0 rfl rfl)
theorem dX7_read_48 : decode cX7_read 48 = .ok (.iload_n 3, 1) := dk_29 (dk_at dksX7_read_2 1 rfl rfl)
theorem dX7_read_49 : decode cX7_read 49 = .ok (.ifCond .eq 12, 3) := dk_153 0 12 (dk_at dksX7_read_2 2 rfl rfl)
theorem dX7_read_52 : decode cX7_read 52 = .ok (.aload_n 0, 1) := dk_42 (dk_at dksX7_read_2 5 rfl rfl)
theorem dX7_read_53 : decode cX7_read 53 = .ok (.getfield 70, 3) := dk_180 0 70 (dk_at dksX7_read_2 6 rfl rfl)
theorem dX7_read_56 : decode cX7_read 56 = .ok (.iload_n 2, 1) := dk_28 (dk_at dksX7_read_2 9 rfl rfl)
theorem dX7_read_57 : decode cX7_read 57 = .ok (.iaload, 1) := dk_46 (dk_at dksX7_read_2 10 rfl rfl)
theorem dX7_read_58 : decode cX7_read 58 = .ok (.goto 4, 3) := dk_167 0 4 (dk_at dksX7_read_2 11 rfl rfl)
theorem dX7_read_61 : decode cX7_read 61 = .ok (.iconst (-1), 1) := dk_2 (dk_at dksX7_read_2 14 rfl rfl)
theorem dX7_read_62 : decode cX7_read 62 = .ok (.iastore, 1) := dk_79 (dk_at dksX7_read_2 15 rfl rfl)
theorem dX7_read_63 : decode cX7_read 63 = .ok (.iload_n 1, 1) := dk_27 (dk_at dksX7_read_2 16 rfl rfl)
theorem dX7_read_64 : decode cX7_read 64 = .ok (.iload_n 3, 1) := dk_29 (dk_at dksX7_read_2 17 rfl rfl)
theorem dX7_read_65 : decode cX7_read 65 = .ok (.ifCond .eq 7, 3) := dk_153 0 7 (dk_at dksX7_read_2 18 rfl rfl)
theorem dX7_read_68 : decode cX7_read 68 = .ok (.iconst 1, 1) := dk_4 (dk_at dksX7_read_2 21 rfl rfl)
theorem dX7_read_69 : decode cX7_read 69 = .ok (.goto 4, 3) := dk_167 0 4 (dk_at dksX7_read_3 0 rfl rfl)
theorem dX7_read_72 : decode cX7_read 72 = .ok (.iconst 0, 1) := dk_3 (dk_at dksX7_read_3 3 rfl rfl)
theorem dX7_read_73 : decode cX7_read 73 = .ok (.iadd, 1) := dk_96 (dk_at dksX7_read_3 4 rfl rfl)
theorem dX7_read_74 : decode cX7_read 74 = .ok (.istore_n 1, 1) := dk_60 (dk_at dksX7_read_3 5 rfl rfl)
theorem dX7_read_75 : decode cX7_read 75 = .ok (.iinc 2 1, 3) := dk_132 2 1 (dk_at dksX7_read_3 6 rfl rfl)
theorem dX7_read_78 : decode cX7_read 78 = .ok (.goto (-60), 3) := dk_167 255 196 (dk_at dksX7_read_3 9 rfl rfl)
theorem dX7_read_81 : decode cX7_read 81 = .ok (.iload_n 1, 1) := dk_27 (dk_at dksX7_read_3 12 rfl rfl)
theorem dX7_read_82 : decode cX7_read 82 = .ok (.ireturn, 1) := dk_172 (dk_at dksX7_read_3 13 rfl rfl)
abbrev cX7_watch : ByteArray := prog_19_method_80_code
def yX7_watch : MethodName := ⟨RX7, "watch", "(III)I"⟩
def dkwX7_watch_3 : List UInt8 := [180, 0, 13, 17, 13, 230, 5, 27, 104, 96, 4, 96, 29, 79, 21, 4, 172]
abbrev dktX7_watch_3 : List UInt8 := dkwX7_watch_3 ++ []
def dkwX7_watch_2 : List UInt8 := [17, 13, 230, 5, 27, 104, 96, 46, 54, 4, 42, 180, 0, 13, 17, 13, 230, 5, 27, 104, 96, 28, 79, 42]
abbrev dktX7_watch_2 : List UInt8 := dkwX7_watch_2 ++ dktX7_watch_3
def dkwX7_watch_1 : List UInt8 := [153, 0, 13, 29, 3, 16, 99, 184, 0, 76, 154, 0, 10, 42, 16, 249, 182, 0, 80, 172, 42, 180, 0, 13]
abbrev dktX7_watch_1 : List UInt8 := dkwX7_watch_1 ++ dktX7_watch_2
def dkwX7_watch_0 : List UInt8 := [27, 184, 0, 137, 154, 0, 10, 42, 16, 253, 182, 0, 80, 172, 28, 3, 17, 3, 231, 184, 0, 76]
abbrev dktX7_watch_0 : List UInt8 := dkwX7_watch_0 ++ dktX7_watch_1
theorem dksX7_watch_0 : cX7_watch.data.toList.drop 0 = dktX7_watch_0 := by decide +kernel
theorem dksX7_watch_1 : cX7_watch.data.toList.drop 22 = dktX7_watch_1 := dk_seg dksX7_watch_0 22 rfl rfl
theorem dksX7_watch_2 : cX7_watch.data.toList.drop 46 = dktX7_watch_2 := dk_seg dksX7_watch_1 24 rfl rfl
theorem dksX7_watch_3 : cX7_watch.data.toList.drop 70 = dktX7_watch_3 := dk_seg dksX7_watch_2 24 rfl rfl
theorem dX7_watch_0 : decode cX7_watch 0 = .ok (.iload_n 1, 1) := dk_27 (dk_at dksX7_watch_0 0 rfl rfl)
theorem dX7_watch_1 : decode cX7_watch 1 = .ok (.invokestatic 137, 3) := dk_184 0 137 (dk_at dksX7_watch_0 1 rfl rfl)
theorem dX7_watch_4 : decode cX7_watch 4 = .ok (.ifCond .ne 10, 3) := dk_154 0 10 (dk_at dksX7_watch_0 4 rfl rfl)
theorem dX7_watch_7 : decode cX7_watch 7 = .ok (.aload_n 0, 1) := dk_42 (dk_at dksX7_watch_0 7 rfl rfl)
theorem dX7_watch_8 : decode cX7_watch 8 = .ok (.bipush (-3), 2) := dk_16 253 (dk_at dksX7_watch_0 8 rfl rfl)
theorem dX7_watch_10 : decode cX7_watch 10 = .ok (.invokevirtual 80, 3) := dk_182 0 80 (dk_at dksX7_watch_0 10 rfl rfl)
theorem dX7_watch_13 : decode cX7_watch 13 = .ok (.ireturn, 1) := dk_172 (dk_at dksX7_watch_0 13 rfl rfl)
theorem dX7_watch_14 : decode cX7_watch 14 = .ok (.iload_n 2, 1) := dk_28 (dk_at dksX7_watch_0 14 rfl rfl)
theorem dX7_watch_15 : decode cX7_watch 15 = .ok (.iconst 0, 1) := dk_3 (dk_at dksX7_watch_0 15 rfl rfl)
theorem dX7_watch_16 : decode cX7_watch 16 = .ok (.sipush 999, 3) := dk_17 3 231 (dk_at dksX7_watch_0 16 rfl rfl)
theorem dX7_watch_19 : decode cX7_watch 19 = .ok (.invokestatic 76, 3) := dk_184 0 76 (dk_at dksX7_watch_0 19 rfl rfl)
theorem dX7_watch_22 : decode cX7_watch 22 = .ok (.ifCond .eq 13, 3) := dk_153 0 13 (dk_at dksX7_watch_1 0 rfl rfl)
theorem dX7_watch_25 : decode cX7_watch 25 = .ok (.iload_n 3, 1) := dk_29 (dk_at dksX7_watch_1 3 rfl rfl)
theorem dX7_watch_26 : decode cX7_watch 26 = .ok (.iconst 0, 1) := dk_3 (dk_at dksX7_watch_1 4 rfl rfl)
theorem dX7_watch_27 : decode cX7_watch 27 = .ok (.bipush 99, 2) := dk_16 99 (dk_at dksX7_watch_1 5 rfl rfl)
theorem dX7_watch_29 : decode cX7_watch 29 = .ok (.invokestatic 76, 3) := dk_184 0 76 (dk_at dksX7_watch_1 7 rfl rfl)
theorem dX7_watch_32 : decode cX7_watch 32 = .ok (.ifCond .ne 10, 3) := dk_154 0 10 (dk_at dksX7_watch_1 10 rfl rfl)
theorem dX7_watch_35 : decode cX7_watch 35 = .ok (.aload_n 0, 1) := dk_42 (dk_at dksX7_watch_1 13 rfl rfl)
theorem dX7_watch_36 : decode cX7_watch 36 = .ok (.bipush (-7), 2) := dk_16 249 (dk_at dksX7_watch_1 14 rfl rfl)
theorem dX7_watch_38 : decode cX7_watch 38 = .ok (.invokevirtual 80, 3) := dk_182 0 80 (dk_at dksX7_watch_1 16 rfl rfl)
theorem dX7_watch_41 : decode cX7_watch 41 = .ok (.ireturn, 1) := dk_172 (dk_at dksX7_watch_1 19 rfl rfl)
theorem dX7_watch_42 : decode cX7_watch 42 = .ok (.aload_n 0, 1) := dk_42 (dk_at dksX7_watch_1 20 rfl rfl)
theorem dX7_watch_43 : decode cX7_watch 43 = .ok (.getfield 13, 3) := dk_180 0 13 (dk_at dksX7_watch_1 21 rfl rfl)
theorem dX7_watch_46 : decode cX7_watch 46 = .ok (.sipush 3558, 3) := dk_17 13 230 (dk_at dksX7_watch_2 0 rfl rfl)
theorem dX7_watch_49 : decode cX7_watch 49 = .ok (.iconst 2, 1) := dk_5 (dk_at dksX7_watch_2 3 rfl rfl)
theorem dX7_watch_50 : decode cX7_watch 50 = .ok (.iload_n 1, 1) := dk_27 (dk_at dksX7_watch_2 4 rfl rfl)
theorem dX7_watch_51 : decode cX7_watch 51 = .ok (.imul, 1) := dk_104 (dk_at dksX7_watch_2 5 rfl rfl)
theorem dX7_watch_52 : decode cX7_watch 52 = .ok (.iadd, 1) := dk_96 (dk_at dksX7_watch_2 6 rfl rfl)
theorem dX7_watch_53 : decode cX7_watch 53 = .ok (.iaload, 1) := dk_46 (dk_at dksX7_watch_2 7 rfl rfl)
theorem dX7_watch_54 : decode cX7_watch 54 = .ok (.istore 4, 2) := dk_54 4 (dk_at dksX7_watch_2 8 rfl rfl)
theorem dX7_watch_56 : decode cX7_watch 56 = .ok (.aload_n 0, 1) := dk_42 (dk_at dksX7_watch_2 10 rfl rfl)
theorem dX7_watch_57 : decode cX7_watch 57 = .ok (.getfield 13, 3) := dk_180 0 13 (dk_at dksX7_watch_2 11 rfl rfl)
theorem dX7_watch_60 : decode cX7_watch 60 = .ok (.sipush 3558, 3) := dk_17 13 230 (dk_at dksX7_watch_2 14 rfl rfl)
theorem dX7_watch_63 : decode cX7_watch 63 = .ok (.iconst 2, 1) := dk_5 (dk_at dksX7_watch_2 17 rfl rfl)
theorem dX7_watch_64 : decode cX7_watch 64 = .ok (.iload_n 1, 1) := dk_27 (dk_at dksX7_watch_2 18 rfl rfl)
theorem dX7_watch_65 : decode cX7_watch 65 = .ok (.imul, 1) := dk_104 (dk_at dksX7_watch_2 19 rfl rfl)
theorem dX7_watch_66 : decode cX7_watch 66 = .ok (.iadd, 1) := dk_96 (dk_at dksX7_watch_2 20 rfl rfl)
theorem dX7_watch_67 : decode cX7_watch 67 = .ok (.iload_n 2, 1) := dk_28 (dk_at dksX7_watch_2 21 rfl rfl)
theorem dX7_watch_68 : decode cX7_watch 68 = .ok (.iastore, 1) := dk_79 (dk_at dksX7_watch_2 22 rfl rfl)
theorem dX7_watch_69 : decode cX7_watch 69 = .ok (.aload_n 0, 1) := dk_42 (dk_at dksX7_watch_2 23 rfl rfl)
theorem dX7_watch_70 : decode cX7_watch 70 = .ok (.getfield 13, 3) := dk_180 0 13 (dk_at dksX7_watch_3 0 rfl rfl)
theorem dX7_watch_73 : decode cX7_watch 73 = .ok (.sipush 3558, 3) := dk_17 13 230 (dk_at dksX7_watch_3 3 rfl rfl)
theorem dX7_watch_76 : decode cX7_watch 76 = .ok (.iconst 2, 1) := dk_5 (dk_at dksX7_watch_3 6 rfl rfl)
theorem dX7_watch_77 : decode cX7_watch 77 = .ok (.iload_n 1, 1) := dk_27 (dk_at dksX7_watch_3 7 rfl rfl)
theorem dX7_watch_78 : decode cX7_watch 78 = .ok (.imul, 1) := dk_104 (dk_at dksX7_watch_3 8 rfl rfl)
theorem dX7_watch_79 : decode cX7_watch 79 = .ok (.iadd, 1) := dk_96 (dk_at dksX7_watch_3 9 rfl rfl)
theorem dX7_watch_80 : decode cX7_watch 80 = .ok (.iconst 1, 1) := dk_4 (dk_at dksX7_watch_3 10 rfl rfl)
theorem dX7_watch_81 : decode cX7_watch 81 = .ok (.iadd, 1) := dk_96 (dk_at dksX7_watch_3 11 rfl rfl)
theorem dX7_watch_82 : decode cX7_watch 82 = .ok (.iload_n 3, 1) := dk_29 (dk_at dksX7_watch_3 12 rfl rfl)
theorem dX7_watch_83 : decode cX7_watch 83 = .ok (.iastore, 1) := dk_79 (dk_at dksX7_watch_3 13 rfl rfl)
theorem dX7_watch_84 : decode cX7_watch 84 = .ok (.iload 4, 2) := dk_21 4 (dk_at dksX7_watch_3 14 rfl rfl)
theorem dX7_watch_86 : decode cX7_watch 86 = .ok (.ireturn, 1) := dk_172 (dk_at dksX7_watch_3 16 rfl rfl)
abbrev cX7_run : ByteArray := prog_19_method_90_code
def yX7_run : MethodName := ⟨RX7, "run", "(I)I"⟩
def dkwX7_run_2 : List UInt8 := [172, 3, 61, 28, 27, 162, 0, 13, 42, 182, 1, 131, 132, 2, 1, 167, 255, 244, 42, 182, 1, 134, 172]
abbrev dktX7_run_2 : List UInt8 := dkwX7_run_2 ++ []
def dkwX7_run_1 : List UInt8 := [182, 0, 80, 172, 42, 180, 0, 13, 3, 46, 27, 96, 17, 1, 144, 164, 0, 10, 42, 16, 248, 182, 0, 80]
abbrev dktX7_run_1 : List UInt8 := dkwX7_run_1 ++ dktX7_run_2
def dkwX7_run_0 : List UInt8 := [27, 156, 0, 10, 42, 16, 252, 182, 0, 80, 172, 27, 4, 16, 40, 184, 0, 76, 154, 0, 10, 42, 16, 249]
abbrev dktX7_run_0 : List UInt8 := dkwX7_run_0 ++ dktX7_run_1
theorem dksX7_run_0 : cX7_run.data.toList.drop 0 = dktX7_run_0 := by decide +kernel
theorem dksX7_run_1 : cX7_run.data.toList.drop 24 = dktX7_run_1 := dk_seg dksX7_run_0 24 rfl rfl
theorem dksX7_run_2 : cX7_run.data.toList.drop 48 = dktX7_run_2 := dk_seg dksX7_run_1 24 rfl rfl
theorem dX7_run_0 : decode cX7_run 0 = .ok (.iload_n 1, 1) := dk_27 (dk_at dksX7_run_0 0 rfl rfl)
theorem dX7_run_1 : decode cX7_run 1 = .ok (.ifCond .ge 10, 3) := dk_156 0 10 (dk_at dksX7_run_0 1 rfl rfl)
theorem dX7_run_4 : decode cX7_run 4 = .ok (.aload_n 0, 1) := dk_42 (dk_at dksX7_run_0 4 rfl rfl)
theorem dX7_run_5 : decode cX7_run 5 = .ok (.bipush (-4), 2) := dk_16 252 (dk_at dksX7_run_0 5 rfl rfl)
theorem dX7_run_7 : decode cX7_run 7 = .ok (.invokevirtual 80, 3) := dk_182 0 80 (dk_at dksX7_run_0 7 rfl rfl)
theorem dX7_run_10 : decode cX7_run 10 = .ok (.ireturn, 1) := dk_172 (dk_at dksX7_run_0 10 rfl rfl)
theorem dX7_run_11 : decode cX7_run 11 = .ok (.iload_n 1, 1) := dk_27 (dk_at dksX7_run_0 11 rfl rfl)
theorem dX7_run_12 : decode cX7_run 12 = .ok (.iconst 1, 1) := dk_4 (dk_at dksX7_run_0 12 rfl rfl)
theorem dX7_run_13 : decode cX7_run 13 = .ok (.bipush 40, 2) := dk_16 40 (dk_at dksX7_run_0 13 rfl rfl)
theorem dX7_run_15 : decode cX7_run 15 = .ok (.invokestatic 76, 3) := dk_184 0 76 (dk_at dksX7_run_0 15 rfl rfl)
theorem dX7_run_18 : decode cX7_run 18 = .ok (.ifCond .ne 10, 3) := dk_154 0 10 (dk_at dksX7_run_0 18 rfl rfl)
theorem dX7_run_21 : decode cX7_run 21 = .ok (.aload_n 0, 1) := dk_42 (dk_at dksX7_run_0 21 rfl rfl)
theorem dX7_run_22 : decode cX7_run 22 = .ok (.bipush (-7), 2) := dk_16 249 (dk_at dksX7_run_0 22 rfl rfl)
theorem dX7_run_24 : decode cX7_run 24 = .ok (.invokevirtual 80, 3) := dk_182 0 80 (dk_at dksX7_run_1 0 rfl rfl)
theorem dX7_run_27 : decode cX7_run 27 = .ok (.ireturn, 1) := dk_172 (dk_at dksX7_run_1 3 rfl rfl)
theorem dX7_run_28 : decode cX7_run 28 = .ok (.aload_n 0, 1) := dk_42 (dk_at dksX7_run_1 4 rfl rfl)
theorem dX7_run_29 : decode cX7_run 29 = .ok (.getfield 13, 3) := dk_180 0 13 (dk_at dksX7_run_1 5 rfl rfl)
theorem dX7_run_32 : decode cX7_run 32 = .ok (.iconst 0, 1) := dk_3 (dk_at dksX7_run_1 8 rfl rfl)
theorem dX7_run_33 : decode cX7_run 33 = .ok (.iaload, 1) := dk_46 (dk_at dksX7_run_1 9 rfl rfl)
theorem dX7_run_34 : decode cX7_run 34 = .ok (.iload_n 1, 1) := dk_27 (dk_at dksX7_run_1 10 rfl rfl)
theorem dX7_run_35 : decode cX7_run 35 = .ok (.iadd, 1) := dk_96 (dk_at dksX7_run_1 11 rfl rfl)
theorem dX7_run_36 : decode cX7_run 36 = .ok (.sipush 400, 3) := dk_17 1 144 (dk_at dksX7_run_1 12 rfl rfl)
theorem dX7_run_39 : decode cX7_run 39 = .ok (.if_icmp .le 10, 3) := dk_164 0 10 (dk_at dksX7_run_1 15 rfl rfl)
theorem dX7_run_42 : decode cX7_run 42 = .ok (.aload_n 0, 1) := dk_42 (dk_at dksX7_run_1 18 rfl rfl)
theorem dX7_run_43 : decode cX7_run 43 = .ok (.bipush (-8), 2) := dk_16 248 (dk_at dksX7_run_1 19 rfl rfl)
theorem dX7_run_45 : decode cX7_run 45 = .ok (.invokevirtual 80, 3) := dk_182 0 80 (dk_at dksX7_run_1 21 rfl rfl)
theorem dX7_run_48 : decode cX7_run 48 = .ok (.ireturn, 1) := dk_172 (dk_at dksX7_run_2 0 rfl rfl)
theorem dX7_run_49 : decode cX7_run 49 = .ok (.iconst 0, 1) := dk_3 (dk_at dksX7_run_2 1 rfl rfl)
theorem dX7_run_50 : decode cX7_run 50 = .ok (.istore_n 2, 1) := dk_61 (dk_at dksX7_run_2 2 rfl rfl)
theorem dX7_run_51 : decode cX7_run 51 = .ok (.iload_n 2, 1) := dk_28 (dk_at dksX7_run_2 3 rfl rfl)
theorem dX7_run_52 : decode cX7_run 52 = .ok (.iload_n 1, 1) := dk_27 (dk_at dksX7_run_2 4 rfl rfl)
theorem dX7_run_53 : decode cX7_run 53 = .ok (.if_icmp .ge 13, 3) := dk_162 0 13 (dk_at dksX7_run_2 5 rfl rfl)
theorem dX7_run_56 : decode cX7_run 56 = .ok (.aload_n 0, 1) := dk_42 (dk_at dksX7_run_2 8 rfl rfl)
theorem dX7_run_57 : decode cX7_run 57 = .ok (.invokevirtual 387, 3) := dk_182 1 131 (dk_at dksX7_run_2 9 rfl rfl)
theorem dX7_run_60 : decode cX7_run 60 = .ok (.iinc 2 1, 3) := dk_132 2 1 (dk_at dksX7_run_2 12 rfl rfl)
theorem dX7_run_63 : decode cX7_run 63 = .ok (.goto (-12), 3) := dk_167 255 244 (dk_at dksX7_run_2 15 rfl rfl)
theorem dX7_run_66 : decode cX7_run 66 = .ok (.aload_n 0, 1) := dk_42 (dk_at dksX7_run_2 18 rfl rfl)
theorem dX7_run_67 : decode cX7_run 67 = .ok (.invokevirtual 390, 3) := dk_182 1 134 (dk_at dksX7_run_2 19 rfl rfl)
theorem dX7_run_70 : decode cX7_run 70 = .ok (.ireturn, 1) := dk_172 (dk_at dksX7_run_2 22 rfl rfl)
abbrev cX7_close : ByteArray := prog_19_method_88_code
def yX7_close : MethodName := ⟨RX7, "close", "()V"⟩
def dkwX7_close_4 : List UInt8 := [3, 79, 132, 1, 1, 167, 255, 198, 42, 180, 0, 13, 3, 92, 46, 4, 96, 79, 177]
abbrev dktX7_close_4 : List UInt8 := dkwX7_close_4 ++ []
def dkwX7_close_3 : List UInt8 := [79, 42, 180, 0, 13, 28, 4, 96, 42, 180, 0, 13, 28, 5, 96, 46, 79, 42, 180, 0, 13, 28, 5, 96]
abbrev dktX7_close_3 : List UInt8 := dkwX7_close_3 ++ dktX7_close_4
def dkwX7_close_2 : List UInt8 := [17, 13, 118, 6, 27, 104, 96, 61, 42, 180, 0, 13, 28, 92, 46, 42, 180, 0, 13, 28, 4, 96, 46, 96]
abbrev dktX7_close_2 : List UInt8 := dkwX7_close_2 ++ dktX7_close_3
def dkwX7_close_1 : List UInt8 := [16, 6, 162, 0, 14, 42, 27, 182, 1, 127, 132, 1, 1, 167, 255, 242, 3, 60, 27, 7, 162, 0, 59]
abbrev dktX7_close_1 : List UInt8 := dkwX7_close_1 ++ dktX7_close_2
def dkwX7_close_0 : List UInt8 := [42, 182, 1, 112, 42, 182, 1, 115, 42, 182, 1, 118, 42, 182, 1, 121, 42, 182, 1, 124, 3, 60, 27]
abbrev dktX7_close_0 : List UInt8 := dkwX7_close_0 ++ dktX7_close_1
theorem dksX7_close_0 : cX7_close.data.toList.drop 0 = dktX7_close_0 := by decide +kernel
theorem dksX7_close_1 : cX7_close.data.toList.drop 23 = dktX7_close_1 := dk_seg dksX7_close_0 23 rfl rfl
theorem dksX7_close_2 : cX7_close.data.toList.drop 46 = dktX7_close_2 := dk_seg dksX7_close_1 23 rfl rfl
theorem dksX7_close_3 : cX7_close.data.toList.drop 70 = dktX7_close_3 := dk_seg dksX7_close_2 24 rfl rfl
theorem dksX7_close_4 : cX7_close.data.toList.drop 94 = dktX7_close_4 := dk_seg dksX7_close_3 24 rfl rfl
theorem dX7_close_0 : decode cX7_close 0 = .ok (.aload_n 0, 1) := dk_42 (dk_at dksX7_close_0 0 rfl rfl)
theorem dX7_close_1 : decode cX7_close 1 = .ok (.invokevirtual 368, 3) := dk_182 1 112 (dk_at dksX7_close_0 1 rfl rfl)
theorem dX7_close_4 : decode cX7_close 4 = .ok (.aload_n 0, 1) := dk_42 (dk_at dksX7_close_0 4 rfl rfl)
theorem dX7_close_5 : decode cX7_close 5 = .ok (.invokevirtual 371, 3) := dk_182 1 115 (dk_at dksX7_close_0 5 rfl rfl)
theorem dX7_close_8 : decode cX7_close 8 = .ok (.aload_n 0, 1) := dk_42 (dk_at dksX7_close_0 8 rfl rfl)
theorem dX7_close_9 : decode cX7_close 9 = .ok (.invokevirtual 374, 3) := dk_182 1 118 (dk_at dksX7_close_0 9 rfl rfl)
theorem dX7_close_12 : decode cX7_close 12 = .ok (.aload_n 0, 1) := dk_42 (dk_at dksX7_close_0 12 rfl rfl)
theorem dX7_close_13 : decode cX7_close 13 = .ok (.invokevirtual 377, 3) := dk_182 1 121 (dk_at dksX7_close_0 13 rfl rfl)
theorem dX7_close_16 : decode cX7_close 16 = .ok (.aload_n 0, 1) := dk_42 (dk_at dksX7_close_0 16 rfl rfl)
theorem dX7_close_17 : decode cX7_close 17 = .ok (.invokevirtual 380, 3) := dk_182 1 124 (dk_at dksX7_close_0 17 rfl rfl)
theorem dX7_close_20 : decode cX7_close 20 = .ok (.iconst 0, 1) := dk_3 (dk_at dksX7_close_0 20 rfl rfl)
theorem dX7_close_21 : decode cX7_close 21 = .ok (.istore_n 1, 1) := dk_60 (dk_at dksX7_close_0 21 rfl rfl)
theorem dX7_close_22 : decode cX7_close 22 = .ok (.iload_n 1, 1) := dk_27 (dk_at dksX7_close_0 22 rfl rfl)
theorem dX7_close_23 : decode cX7_close 23 = .ok (.bipush 6, 2) := dk_16 6 (dk_at dksX7_close_1 0 rfl rfl)
theorem dX7_close_25 : decode cX7_close 25 = .ok (.if_icmp .ge 14, 3) := dk_162 0 14 (dk_at dksX7_close_1 2 rfl rfl)
theorem dX7_close_28 : decode cX7_close 28 = .ok (.aload_n 0, 1) := dk_42 (dk_at dksX7_close_1 5 rfl rfl)
theorem dX7_close_29 : decode cX7_close 29 = .ok (.iload_n 1, 1) := dk_27 (dk_at dksX7_close_1 6 rfl rfl)
theorem dX7_close_30 : decode cX7_close 30 = .ok (.invokevirtual 383, 3) := dk_182 1 127 (dk_at dksX7_close_1 7 rfl rfl)
theorem dX7_close_33 : decode cX7_close 33 = .ok (.iinc 1 1, 3) := dk_132 1 1 (dk_at dksX7_close_1 10 rfl rfl)
theorem dX7_close_36 : decode cX7_close 36 = .ok (.goto (-14), 3) := dk_167 255 242 (dk_at dksX7_close_1 13 rfl rfl)
theorem dX7_close_39 : decode cX7_close 39 = .ok (.iconst 0, 1) := dk_3 (dk_at dksX7_close_1 16 rfl rfl)
theorem dX7_close_40 : decode cX7_close 40 = .ok (.istore_n 1, 1) := dk_60 (dk_at dksX7_close_1 17 rfl rfl)
theorem dX7_close_41 : decode cX7_close 41 = .ok (.iload_n 1, 1) := dk_27 (dk_at dksX7_close_1 18 rfl rfl)
theorem dX7_close_42 : decode cX7_close 42 = .ok (.iconst 4, 1) := dk_7 (dk_at dksX7_close_1 19 rfl rfl)
theorem dX7_close_43 : decode cX7_close 43 = .ok (.if_icmp .ge 59, 3) := dk_162 0 59 (dk_at dksX7_close_1 20 rfl rfl)
theorem dX7_close_46 : decode cX7_close 46 = .ok (.sipush 3446, 3) := dk_17 13 118 (dk_at dksX7_close_2 0 rfl rfl)
theorem dX7_close_49 : decode cX7_close 49 = .ok (.iconst 3, 1) := dk_6 (dk_at dksX7_close_2 3 rfl rfl)
theorem dX7_close_50 : decode cX7_close 50 = .ok (.iload_n 1, 1) := dk_27 (dk_at dksX7_close_2 4 rfl rfl)
theorem dX7_close_51 : decode cX7_close 51 = .ok (.imul, 1) := dk_104 (dk_at dksX7_close_2 5 rfl rfl)
theorem dX7_close_52 : decode cX7_close 52 = .ok (.iadd, 1) := dk_96 (dk_at dksX7_close_2 6 rfl rfl)
theorem dX7_close_53 : decode cX7_close 53 = .ok (.istore_n 2, 1) := dk_61 (dk_at dksX7_close_2 7 rfl rfl)
theorem dX7_close_54 : decode cX7_close 54 = .ok (.aload_n 0, 1) := dk_42 (dk_at dksX7_close_2 8 rfl rfl)
theorem dX7_close_55 : decode cX7_close 55 = .ok (.getfield 13, 3) := dk_180 0 13 (dk_at dksX7_close_2 9 rfl rfl)
theorem dX7_close_58 : decode cX7_close 58 = .ok (.iload_n 2, 1) := dk_28 (dk_at dksX7_close_2 12 rfl rfl)
theorem dX7_close_59 : decode cX7_close 59 = .ok (.dup2, 1) := dk_92 (dk_at dksX7_close_2 13 rfl rfl)
theorem dX7_close_60 : decode cX7_close 60 = .ok (.iaload, 1) := dk_46 (dk_at dksX7_close_2 14 rfl rfl)
theorem dX7_close_61 : decode cX7_close 61 = .ok (.aload_n 0, 1) := dk_42 (dk_at dksX7_close_2 15 rfl rfl)
theorem dX7_close_62 : decode cX7_close 62 = .ok (.getfield 13, 3) := dk_180 0 13 (dk_at dksX7_close_2 16 rfl rfl)
theorem dX7_close_65 : decode cX7_close 65 = .ok (.iload_n 2, 1) := dk_28 (dk_at dksX7_close_2 19 rfl rfl)
theorem dX7_close_66 : decode cX7_close 66 = .ok (.iconst 1, 1) := dk_4 (dk_at dksX7_close_2 20 rfl rfl)
theorem dX7_close_67 : decode cX7_close 67 = .ok (.iadd, 1) := dk_96 (dk_at dksX7_close_2 21 rfl rfl)
theorem dX7_close_68 : decode cX7_close 68 = .ok (.iaload, 1) := dk_46 (dk_at dksX7_close_2 22 rfl rfl)
theorem dX7_close_69 : decode cX7_close 69 = .ok (.iadd, 1) := dk_96 (dk_at dksX7_close_2 23 rfl rfl)
theorem dX7_close_70 : decode cX7_close 70 = .ok (.iastore, 1) := dk_79 (dk_at dksX7_close_3 0 rfl rfl)
theorem dX7_close_71 : decode cX7_close 71 = .ok (.aload_n 0, 1) := dk_42 (dk_at dksX7_close_3 1 rfl rfl)
theorem dX7_close_72 : decode cX7_close 72 = .ok (.getfield 13, 3) := dk_180 0 13 (dk_at dksX7_close_3 2 rfl rfl)
theorem dX7_close_75 : decode cX7_close 75 = .ok (.iload_n 2, 1) := dk_28 (dk_at dksX7_close_3 5 rfl rfl)
theorem dX7_close_76 : decode cX7_close 76 = .ok (.iconst 1, 1) := dk_4 (dk_at dksX7_close_3 6 rfl rfl)
theorem dX7_close_77 : decode cX7_close 77 = .ok (.iadd, 1) := dk_96 (dk_at dksX7_close_3 7 rfl rfl)
theorem dX7_close_78 : decode cX7_close 78 = .ok (.aload_n 0, 1) := dk_42 (dk_at dksX7_close_3 8 rfl rfl)
theorem dX7_close_79 : decode cX7_close 79 = .ok (.getfield 13, 3) := dk_180 0 13 (dk_at dksX7_close_3 9 rfl rfl)
theorem dX7_close_82 : decode cX7_close 82 = .ok (.iload_n 2, 1) := dk_28 (dk_at dksX7_close_3 12 rfl rfl)
theorem dX7_close_83 : decode cX7_close 83 = .ok (.iconst 2, 1) := dk_5 (dk_at dksX7_close_3 13 rfl rfl)
theorem dX7_close_84 : decode cX7_close 84 = .ok (.iadd, 1) := dk_96 (dk_at dksX7_close_3 14 rfl rfl)
theorem dX7_close_85 : decode cX7_close 85 = .ok (.iaload, 1) := dk_46 (dk_at dksX7_close_3 15 rfl rfl)
theorem dX7_close_86 : decode cX7_close 86 = .ok (.iastore, 1) := dk_79 (dk_at dksX7_close_3 16 rfl rfl)
theorem dX7_close_87 : decode cX7_close 87 = .ok (.aload_n 0, 1) := dk_42 (dk_at dksX7_close_3 17 rfl rfl)
theorem dX7_close_88 : decode cX7_close 88 = .ok (.getfield 13, 3) := dk_180 0 13 (dk_at dksX7_close_3 18 rfl rfl)
theorem dX7_close_91 : decode cX7_close 91 = .ok (.iload_n 2, 1) := dk_28 (dk_at dksX7_close_3 21 rfl rfl)
theorem dX7_close_92 : decode cX7_close 92 = .ok (.iconst 2, 1) := dk_5 (dk_at dksX7_close_3 22 rfl rfl)
theorem dX7_close_93 : decode cX7_close 93 = .ok (.iadd, 1) := dk_96 (dk_at dksX7_close_3 23 rfl rfl)
theorem dX7_close_94 : decode cX7_close 94 = .ok (.iconst 0, 1) := dk_3 (dk_at dksX7_close_4 0 rfl rfl)
theorem dX7_close_95 : decode cX7_close 95 = .ok (.iastore, 1) := dk_79 (dk_at dksX7_close_4 1 rfl rfl)
theorem dX7_close_96 : decode cX7_close 96 = .ok (.iinc 1 1, 3) := dk_132 1 1 (dk_at dksX7_close_4 2 rfl rfl)
theorem dX7_close_99 : decode cX7_close 99 = .ok (.goto (-58), 3) := dk_167 255 198 (dk_at dksX7_close_4 5 rfl rfl)
theorem dX7_close_102 : decode cX7_close 102 = .ok (.aload_n 0, 1) := dk_42 (dk_at dksX7_close_4 8 rfl rfl)
theorem dX7_close_103 : decode cX7_close 103 = .ok (.getfield 13, 3) := dk_180 0 13 (dk_at dksX7_close_4 9 rfl rfl)
theorem dX7_close_106 : decode cX7_close 106 = .ok (.iconst 0, 1) := dk_3 (dk_at dksX7_close_4 12 rfl rfl)
theorem dX7_close_107 : decode cX7_close 107 = .ok (.dup2, 1) := dk_92 (dk_at dksX7_close_4 13 rfl rfl)
theorem dX7_close_108 : decode cX7_close 108 = .ok (.iaload, 1) := dk_46 (dk_at dksX7_close_4 14 rfl rfl)
theorem dX7_close_109 : decode cX7_close 109 = .ok (.iconst 1, 1) := dk_4 (dk_at dksX7_close_4 15 rfl rfl)
theorem dX7_close_110 : decode cX7_close 110 = .ok (.iadd, 1) := dk_96 (dk_at dksX7_close_4 16 rfl rfl)
theorem dX7_close_111 : decode cX7_close 111 = .ok (.iastore, 1) := dk_79 (dk_at dksX7_close_4 17 rfl rfl)
theorem dX7_close_112 : decode cX7_close 112 = .ok (.return_, 1) := dk_177 (dk_at dksX7_close_4 18 rfl rfl)
abbrev cX7_rights : ByteArray := prog_19_method_81_code
def yX7_rights : MethodName := ⟨RX7, "rights", "()V"⟩
def dkwX7_rights_9 : List UInt8 := [132, 3, 1, 167, 255, 109, 132, 1, 1, 167, 255, 40, 177]
abbrev dktX7_rights_9 : List UInt8 := dkwX7_rights_9 ++ []
def dkwX7_rights_8 : List UInt8 := [180, 0, 13, 28, 6, 96, 92, 46, 21, 5, 100, 79, 42, 4, 21, 5, 29, 27, 182, 0, 162, 54, 6]
abbrev dktX7_rights_8 : List UInt8 := dkwX7_rights_8 ++ dktX7_rights_9
def dkwX7_rights_7 : List UInt8 := [180, 0, 13, 28, 6, 96, 46, 54, 5, 42, 180, 0, 13, 21, 4, 92, 46, 21, 5, 100, 79, 42]
abbrev dktX7_rights_7 : List UInt8 := dkwX7_rights_7 ++ dktX7_rights_8
def dkwX7_rights_6 : List UInt8 := [42, 180, 0, 13, 28, 6, 96, 46, 162, 0, 13, 42, 180, 0, 13, 21, 4, 46, 167, 0, 11, 42]
abbrev dktX7_rights_6 : List UInt8 := dkwX7_rights_6 ++ dktX7_rights_7
def dkwX7_rights_5 : List UInt8 := [96, 46, 153, 0, 89, 42, 182, 0, 152, 16, 60, 160, 0, 6, 167, 0, 77, 42, 180, 0, 13, 21, 4, 46]
abbrev dktX7_rights_5 : List UInt8 := dkwX7_rights_5 ++ dktX7_rights_6
def dkwX7_rights_4 : List UInt8 := [180, 0, 13, 28, 46, 160, 0, 110, 42, 180, 0, 13, 21, 4, 46, 153, 0, 100, 42, 180, 0, 13, 28, 6]
abbrev dktX7_rights_4 : List UInt8 := dkwX7_rights_4 ++ dktX7_rights_5
def dkwX7_rights_3 : List UInt8 := [4, 46, 162, 0, 143, 16, 16, 16, 14, 29, 104, 96, 16, 7, 96, 54, 4, 42, 29, 3, 182, 0, 84, 42]
abbrev dktX7_rights_3 : List UInt8 := dkwX7_rights_3 ++ dktX7_rights_4
def dkwX7_rights_2 : List UInt8 := [17, 3, 232, 184, 0, 143, 42, 180, 0, 13, 28, 4, 96, 46, 104, 96, 79, 3, 62, 29, 42, 180, 0, 13]
abbrev dktX7_rights_2 : List UInt8 := dkwX7_rights_2 ++ dktX7_rights_3
def dkwX7_rights_1 : List UInt8 := [28, 6, 96, 92, 46, 42, 7, 16, 100, 27, 96, 42, 180, 0, 13, 3, 46, 3, 182, 0, 129, 3]
abbrev dktX7_rights_1 : List UInt8 := dkwX7_rights_1 ++ dktX7_rights_2
def dkwX7_rights_0 : List UInt8 := [3, 60, 27, 42, 180, 0, 13, 6, 46, 162, 0, 212, 17, 3, 160, 7, 27, 104, 96, 61, 42, 180, 0, 13]
abbrev dktX7_rights_0 : List UInt8 := dkwX7_rights_0 ++ dktX7_rights_1
theorem dksX7_rights_0 : cX7_rights.data.toList.drop 0 = dktX7_rights_0 := by decide +kernel
theorem dksX7_rights_1 : cX7_rights.data.toList.drop 24 = dktX7_rights_1 := dk_seg dksX7_rights_0 24 rfl rfl
theorem dksX7_rights_2 : cX7_rights.data.toList.drop 46 = dktX7_rights_2 := dk_seg dksX7_rights_1 22 rfl rfl
theorem dksX7_rights_3 : cX7_rights.data.toList.drop 70 = dktX7_rights_3 := dk_seg dksX7_rights_2 24 rfl rfl
theorem dksX7_rights_4 : cX7_rights.data.toList.drop 94 = dktX7_rights_4 := dk_seg dksX7_rights_3 24 rfl rfl
theorem dksX7_rights_5 : cX7_rights.data.toList.drop 118 = dktX7_rights_5 := dk_seg dksX7_rights_4 24 rfl rfl
theorem dksX7_rights_6 : cX7_rights.data.toList.drop 142 = dktX7_rights_6 := dk_seg dksX7_rights_5 24 rfl rfl
theorem dksX7_rights_7 : cX7_rights.data.toList.drop 164 = dktX7_rights_7 := dk_seg dksX7_rights_6 22 rfl rfl
theorem dksX7_rights_8 : cX7_rights.data.toList.drop 186 = dktX7_rights_8 := dk_seg dksX7_rights_7 22 rfl rfl
theorem dksX7_rights_9 : cX7_rights.data.toList.drop 209 = dktX7_rights_9 := dk_seg dksX7_rights_8 23 rfl rfl
theorem dX7_rights_0 : decode cX7_rights 0 = .ok (.iconst 0, 1) := dk_3 (dk_at dksX7_rights_0 0 rfl rfl)
theorem dX7_rights_1 : decode cX7_rights 1 = .ok (.istore_n 1, 1) := dk_60 (dk_at dksX7_rights_0 1 rfl rfl)
theorem dX7_rights_2 : decode cX7_rights 2 = .ok (.iload_n 1, 1) := dk_27 (dk_at dksX7_rights_0 2 rfl rfl)
theorem dX7_rights_3 : decode cX7_rights 3 = .ok (.aload_n 0, 1) := dk_42 (dk_at dksX7_rights_0 3 rfl rfl)
theorem dX7_rights_4 : decode cX7_rights 4 = .ok (.getfield 13, 3) := dk_180 0 13 (dk_at dksX7_rights_0 4 rfl rfl)
theorem dX7_rights_7 : decode cX7_rights 7 = .ok (.iconst 3, 1) := dk_6 (dk_at dksX7_rights_0 7 rfl rfl)
theorem dX7_rights_8 : decode cX7_rights 8 = .ok (.iaload, 1) := dk_46 (dk_at dksX7_rights_0 8 rfl rfl)
theorem dX7_rights_9 : decode cX7_rights 9 = .ok (.if_icmp .ge 212, 3) := dk_162 0 212 (dk_at dksX7_rights_0 9 rfl rfl)
theorem dX7_rights_12 : decode cX7_rights 12 = .ok (.sipush 928, 3) := dk_17 3 160 (dk_at dksX7_rights_0 12 rfl rfl)
theorem dX7_rights_15 : decode cX7_rights 15 = .ok (.iconst 4, 1) := dk_7 (dk_at dksX7_rights_0 15 rfl rfl)
theorem dX7_rights_16 : decode cX7_rights 16 = .ok (.iload_n 1, 1) := dk_27 (dk_at dksX7_rights_0 16 rfl rfl)
theorem dX7_rights_17 : decode cX7_rights 17 = .ok (.imul, 1) := dk_104 (dk_at dksX7_rights_0 17 rfl rfl)
theorem dX7_rights_18 : decode cX7_rights 18 = .ok (.iadd, 1) := dk_96 (dk_at dksX7_rights_0 18 rfl rfl)
theorem dX7_rights_19 : decode cX7_rights 19 = .ok (.istore_n 2, 1) := dk_61 (dk_at dksX7_rights_0 19 rfl rfl)
theorem dX7_rights_20 : decode cX7_rights 20 = .ok (.aload_n 0, 1) := dk_42 (dk_at dksX7_rights_0 20 rfl rfl)
theorem dX7_rights_21 : decode cX7_rights 21 = .ok (.getfield 13, 3) := dk_180 0 13 (dk_at dksX7_rights_0 21 rfl rfl)
theorem dX7_rights_24 : decode cX7_rights 24 = .ok (.iload_n 2, 1) := dk_28 (dk_at dksX7_rights_1 0 rfl rfl)
theorem dX7_rights_25 : decode cX7_rights 25 = .ok (.iconst 3, 1) := dk_6 (dk_at dksX7_rights_1 1 rfl rfl)
theorem dX7_rights_26 : decode cX7_rights 26 = .ok (.iadd, 1) := dk_96 (dk_at dksX7_rights_1 2 rfl rfl)
theorem dX7_rights_27 : decode cX7_rights 27 = .ok (.dup2, 1) := dk_92 (dk_at dksX7_rights_1 3 rfl rfl)
theorem dX7_rights_28 : decode cX7_rights 28 = .ok (.iaload, 1) := dk_46 (dk_at dksX7_rights_1 4 rfl rfl)
theorem dX7_rights_29 : decode cX7_rights 29 = .ok (.aload_n 0, 1) := dk_42 (dk_at dksX7_rights_1 5 rfl rfl)
theorem dX7_rights_30 : decode cX7_rights 30 = .ok (.iconst 4, 1) := dk_7 (dk_at dksX7_rights_1 6 rfl rfl)
theorem dX7_rights_31 : decode cX7_rights 31 = .ok (.bipush 100, 2) := dk_16 100 (dk_at dksX7_rights_1 7 rfl rfl)
theorem dX7_rights_33 : decode cX7_rights 33 = .ok (.iload_n 1, 1) := dk_27 (dk_at dksX7_rights_1 9 rfl rfl)
theorem dX7_rights_34 : decode cX7_rights 34 = .ok (.iadd, 1) := dk_96 (dk_at dksX7_rights_1 10 rfl rfl)
theorem dX7_rights_35 : decode cX7_rights 35 = .ok (.aload_n 0, 1) := dk_42 (dk_at dksX7_rights_1 11 rfl rfl)
theorem dX7_rights_36 : decode cX7_rights 36 = .ok (.getfield 13, 3) := dk_180 0 13 (dk_at dksX7_rights_1 12 rfl rfl)
theorem dX7_rights_39 : decode cX7_rights 39 = .ok (.iconst 0, 1) := dk_3 (dk_at dksX7_rights_1 15 rfl rfl)
theorem dX7_rights_40 : decode cX7_rights 40 = .ok (.iaload, 1) := dk_46 (dk_at dksX7_rights_1 16 rfl rfl)
theorem dX7_rights_41 : decode cX7_rights 41 = .ok (.iconst 0, 1) := dk_3 (dk_at dksX7_rights_1 17 rfl rfl)
theorem dX7_rights_42 : decode cX7_rights 42 = .ok (.invokevirtual 129, 3) := dk_182 0 129 (dk_at dksX7_rights_1 18 rfl rfl)
theorem dX7_rights_45 : decode cX7_rights 45 = .ok (.iconst 0, 1) := dk_3 (dk_at dksX7_rights_1 21 rfl rfl)
theorem dX7_rights_46 : decode cX7_rights 46 = .ok (.sipush 1000, 3) := dk_17 3 232 (dk_at dksX7_rights_2 0 rfl rfl)
theorem dX7_rights_49 : decode cX7_rights 49 = .ok (.invokestatic 143, 3) := dk_184 0 143 (dk_at dksX7_rights_2 3 rfl rfl)
theorem dX7_rights_52 : decode cX7_rights 52 = .ok (.aload_n 0, 1) := dk_42 (dk_at dksX7_rights_2 6 rfl rfl)
theorem dX7_rights_53 : decode cX7_rights 53 = .ok (.getfield 13, 3) := dk_180 0 13 (dk_at dksX7_rights_2 7 rfl rfl)
theorem dX7_rights_56 : decode cX7_rights 56 = .ok (.iload_n 2, 1) := dk_28 (dk_at dksX7_rights_2 10 rfl rfl)
theorem dX7_rights_57 : decode cX7_rights 57 = .ok (.iconst 1, 1) := dk_4 (dk_at dksX7_rights_2 11 rfl rfl)
theorem dX7_rights_58 : decode cX7_rights 58 = .ok (.iadd, 1) := dk_96 (dk_at dksX7_rights_2 12 rfl rfl)
theorem dX7_rights_59 : decode cX7_rights 59 = .ok (.iaload, 1) := dk_46 (dk_at dksX7_rights_2 13 rfl rfl)
theorem dX7_rights_60 : decode cX7_rights 60 = .ok (.imul, 1) := dk_104 (dk_at dksX7_rights_2 14 rfl rfl)
theorem dX7_rights_61 : decode cX7_rights 61 = .ok (.iadd, 1) := dk_96 (dk_at dksX7_rights_2 15 rfl rfl)
theorem dX7_rights_62 : decode cX7_rights 62 = .ok (.iastore, 1) := dk_79 (dk_at dksX7_rights_2 16 rfl rfl)
theorem dX7_rights_63 : decode cX7_rights 63 = .ok (.iconst 0, 1) := dk_3 (dk_at dksX7_rights_2 17 rfl rfl)
theorem dX7_rights_64 : decode cX7_rights 64 = .ok (.istore_n 3, 1) := dk_62 (dk_at dksX7_rights_2 18 rfl rfl)
theorem dX7_rights_65 : decode cX7_rights 65 = .ok (.iload_n 3, 1) := dk_29 (dk_at dksX7_rights_2 19 rfl rfl)
theorem dX7_rights_66 : decode cX7_rights 66 = .ok (.aload_n 0, 1) := dk_42 (dk_at dksX7_rights_2 20 rfl rfl)
theorem dX7_rights_67 : decode cX7_rights 67 = .ok (.getfield 13, 3) := dk_180 0 13 (dk_at dksX7_rights_2 21 rfl rfl)
theorem dX7_rights_70 : decode cX7_rights 70 = .ok (.iconst 1, 1) := dk_4 (dk_at dksX7_rights_3 0 rfl rfl)
theorem dX7_rights_71 : decode cX7_rights 71 = .ok (.iaload, 1) := dk_46 (dk_at dksX7_rights_3 1 rfl rfl)
theorem dX7_rights_72 : decode cX7_rights 72 = .ok (.if_icmp .ge 143, 3) := dk_162 0 143 (dk_at dksX7_rights_3 2 rfl rfl)
theorem dX7_rights_75 : decode cX7_rights 75 = .ok (.bipush 16, 2) := dk_16 16 (dk_at dksX7_rights_3 5 rfl rfl)
theorem dX7_rights_77 : decode cX7_rights 77 = .ok (.bipush 14, 2) := dk_16 14 (dk_at dksX7_rights_3 7 rfl rfl)
theorem dX7_rights_79 : decode cX7_rights 79 = .ok (.iload_n 3, 1) := dk_29 (dk_at dksX7_rights_3 9 rfl rfl)
theorem dX7_rights_80 : decode cX7_rights 80 = .ok (.imul, 1) := dk_104 (dk_at dksX7_rights_3 10 rfl rfl)
theorem dX7_rights_81 : decode cX7_rights 81 = .ok (.iadd, 1) := dk_96 (dk_at dksX7_rights_3 11 rfl rfl)
theorem dX7_rights_82 : decode cX7_rights 82 = .ok (.bipush 7, 2) := dk_16 7 (dk_at dksX7_rights_3 12 rfl rfl)
theorem dX7_rights_84 : decode cX7_rights 84 = .ok (.iadd, 1) := dk_96 (dk_at dksX7_rights_3 14 rfl rfl)
theorem dX7_rights_85 : decode cX7_rights 85 = .ok (.istore 4, 2) := dk_54 4 (dk_at dksX7_rights_3 15 rfl rfl)
theorem dX7_rights_87 : decode cX7_rights 87 = .ok (.aload_n 0, 1) := dk_42 (dk_at dksX7_rights_3 17 rfl rfl)
theorem dX7_rights_88 : decode cX7_rights 88 = .ok (.iload_n 3, 1) := dk_29 (dk_at dksX7_rights_3 18 rfl rfl)
theorem dX7_rights_89 : decode cX7_rights 89 = .ok (.iconst 0, 1) := dk_3 (dk_at dksX7_rights_3 19 rfl rfl)
theorem dX7_rights_90 : decode cX7_rights 90 = .ok (.invokevirtual 84, 3) := dk_182 0 84 (dk_at dksX7_rights_3 20 rfl rfl)
theorem dX7_rights_93 : decode cX7_rights 93 = .ok (.aload_n 0, 1) := dk_42 (dk_at dksX7_rights_3 23 rfl rfl)
theorem dX7_rights_94 : decode cX7_rights 94 = .ok (.getfield 13, 3) := dk_180 0 13 (dk_at dksX7_rights_4 0 rfl rfl)
theorem dX7_rights_97 : decode cX7_rights 97 = .ok (.iload_n 2, 1) := dk_28 (dk_at dksX7_rights_4 3 rfl rfl)
theorem dX7_rights_98 : decode cX7_rights 98 = .ok (.iaload, 1) := dk_46 (dk_at dksX7_rights_4 4 rfl rfl)
theorem dX7_rights_99 : decode cX7_rights 99 = .ok (.if_icmp .ne 110, 3) := dk_160 0 110 (dk_at dksX7_rights_4 5 rfl rfl)
theorem dX7_rights_102 : decode cX7_rights 102 = .ok (.aload_n 0, 1) := dk_42 (dk_at dksX7_rights_4 8 rfl rfl)
theorem dX7_rights_103 : decode cX7_rights 103 = .ok (.getfield 13, 3) := dk_180 0 13 (dk_at dksX7_rights_4 9 rfl rfl)
theorem dX7_rights_106 : decode cX7_rights 106 = .ok (.iload 4, 2) := dk_21 4 (dk_at dksX7_rights_4 12 rfl rfl)
theorem dX7_rights_108 : decode cX7_rights 108 = .ok (.iaload, 1) := dk_46 (dk_at dksX7_rights_4 14 rfl rfl)
theorem dX7_rights_109 : decode cX7_rights 109 = .ok (.ifCond .eq 100, 3) := dk_153 0 100 (dk_at dksX7_rights_4 15 rfl rfl)
theorem dX7_rights_112 : decode cX7_rights 112 = .ok (.aload_n 0, 1) := dk_42 (dk_at dksX7_rights_4 18 rfl rfl)
theorem dX7_rights_113 : decode cX7_rights 113 = .ok (.getfield 13, 3) := dk_180 0 13 (dk_at dksX7_rights_4 19 rfl rfl)
theorem dX7_rights_116 : decode cX7_rights 116 = .ok (.iload_n 2, 1) := dk_28 (dk_at dksX7_rights_4 22 rfl rfl)
theorem dX7_rights_117 : decode cX7_rights 117 = .ok (.iconst 3, 1) := dk_6 (dk_at dksX7_rights_4 23 rfl rfl)
theorem dX7_rights_118 : decode cX7_rights 118 = .ok (.iadd, 1) := dk_96 (dk_at dksX7_rights_5 0 rfl rfl)
theorem dX7_rights_119 : decode cX7_rights 119 = .ok (.iaload, 1) := dk_46 (dk_at dksX7_rights_5 1 rfl rfl)
theorem dX7_rights_120 : decode cX7_rights 120 = .ok (.ifCond .eq 89, 3) := dk_153 0 89 (dk_at dksX7_rights_5 2 rfl rfl)
theorem dX7_rights_123 : decode cX7_rights 123 = .ok (.aload_n 0, 1) := dk_42 (dk_at dksX7_rights_5 5 rfl rfl)
theorem dX7_rights_124 : decode cX7_rights 124 = .ok (.invokevirtual 152, 3) := dk_182 0 152 (dk_at dksX7_rights_5 6 rfl rfl)
theorem dX7_rights_127 : decode cX7_rights 127 = .ok (.bipush 60, 2) := dk_16 60 (dk_at dksX7_rights_5 9 rfl rfl)
theorem dX7_rights_129 : decode cX7_rights 129 = .ok (.if_icmp .ne 6, 3) := dk_160 0 6 (dk_at dksX7_rights_5 11 rfl rfl)
theorem dX7_rights_132 : decode cX7_rights 132 = .ok (.goto 77, 3) := dk_167 0 77 (dk_at dksX7_rights_5 14 rfl rfl)
theorem dX7_rights_135 : decode cX7_rights 135 = .ok (.aload_n 0, 1) := dk_42 (dk_at dksX7_rights_5 17 rfl rfl)
theorem dX7_rights_136 : decode cX7_rights 136 = .ok (.getfield 13, 3) := dk_180 0 13 (dk_at dksX7_rights_5 18 rfl rfl)
theorem dX7_rights_139 : decode cX7_rights 139 = .ok (.iload 4, 2) := dk_21 4 (dk_at dksX7_rights_5 21 rfl rfl)
theorem dX7_rights_141 : decode cX7_rights 141 = .ok (.iaload, 1) := dk_46 (dk_at dksX7_rights_5 23 rfl rfl)
theorem dX7_rights_142 : decode cX7_rights 142 = .ok (.aload_n 0, 1) := dk_42 (dk_at dksX7_rights_6 0 rfl rfl)
theorem dX7_rights_143 : decode cX7_rights 143 = .ok (.getfield 13, 3) := dk_180 0 13 (dk_at dksX7_rights_6 1 rfl rfl)
theorem dX7_rights_146 : decode cX7_rights 146 = .ok (.iload_n 2, 1) := dk_28 (dk_at dksX7_rights_6 4 rfl rfl)
theorem dX7_rights_147 : decode cX7_rights 147 = .ok (.iconst 3, 1) := dk_6 (dk_at dksX7_rights_6 5 rfl rfl)
theorem dX7_rights_148 : decode cX7_rights 148 = .ok (.iadd, 1) := dk_96 (dk_at dksX7_rights_6 6 rfl rfl)
theorem dX7_rights_149 : decode cX7_rights 149 = .ok (.iaload, 1) := dk_46 (dk_at dksX7_rights_6 7 rfl rfl)
theorem dX7_rights_150 : decode cX7_rights 150 = .ok (.if_icmp .ge 13, 3) := dk_162 0 13 (dk_at dksX7_rights_6 8 rfl rfl)
theorem dX7_rights_153 : decode cX7_rights 153 = .ok (.aload_n 0, 1) := dk_42 (dk_at dksX7_rights_6 11 rfl rfl)
theorem dX7_rights_154 : decode cX7_rights 154 = .ok (.getfield 13, 3) := dk_180 0 13 (dk_at dksX7_rights_6 12 rfl rfl)
theorem dX7_rights_157 : decode cX7_rights 157 = .ok (.iload 4, 2) := dk_21 4 (dk_at dksX7_rights_6 15 rfl rfl)
theorem dX7_rights_159 : decode cX7_rights 159 = .ok (.iaload, 1) := dk_46 (dk_at dksX7_rights_6 17 rfl rfl)
theorem dX7_rights_160 : decode cX7_rights 160 = .ok (.goto 11, 3) := dk_167 0 11 (dk_at dksX7_rights_6 18 rfl rfl)
theorem dX7_rights_163 : decode cX7_rights 163 = .ok (.aload_n 0, 1) := dk_42 (dk_at dksX7_rights_6 21 rfl rfl)
theorem dX7_rights_164 : decode cX7_rights 164 = .ok (.getfield 13, 3) := dk_180 0 13 (dk_at dksX7_rights_7 0 rfl rfl)
theorem dX7_rights_167 : decode cX7_rights 167 = .ok (.iload_n 2, 1) := dk_28 (dk_at dksX7_rights_7 3 rfl rfl)
theorem dX7_rights_168 : decode cX7_rights 168 = .ok (.iconst 3, 1) := dk_6 (dk_at dksX7_rights_7 4 rfl rfl)
theorem dX7_rights_169 : decode cX7_rights 169 = .ok (.iadd, 1) := dk_96 (dk_at dksX7_rights_7 5 rfl rfl)
theorem dX7_rights_170 : decode cX7_rights 170 = .ok (.iaload, 1) := dk_46 (dk_at dksX7_rights_7 6 rfl rfl)
theorem dX7_rights_171 : decode cX7_rights 171 = .ok (.istore 5, 2) := dk_54 5 (dk_at dksX7_rights_7 7 rfl rfl)
theorem dX7_rights_173 : decode cX7_rights 173 = .ok (.aload_n 0, 1) := dk_42 (dk_at dksX7_rights_7 9 rfl rfl)
theorem dX7_rights_174 : decode cX7_rights 174 = .ok (.getfield 13, 3) := dk_180 0 13 (dk_at dksX7_rights_7 10 rfl rfl)
theorem dX7_rights_177 : decode cX7_rights 177 = .ok (.iload 4, 2) := dk_21 4 (dk_at dksX7_rights_7 13 rfl rfl)
theorem dX7_rights_179 : decode cX7_rights 179 = .ok (.dup2, 1) := dk_92 (dk_at dksX7_rights_7 15 rfl rfl)
theorem dX7_rights_180 : decode cX7_rights 180 = .ok (.iaload, 1) := dk_46 (dk_at dksX7_rights_7 16 rfl rfl)
theorem dX7_rights_181 : decode cX7_rights 181 = .ok (.iload 5, 2) := dk_21 5 (dk_at dksX7_rights_7 17 rfl rfl)
theorem dX7_rights_183 : decode cX7_rights 183 = .ok (.isub, 1) := dk_100 (dk_at dksX7_rights_7 19 rfl rfl)
theorem dX7_rights_184 : decode cX7_rights 184 = .ok (.iastore, 1) := dk_79 (dk_at dksX7_rights_7 20 rfl rfl)
theorem dX7_rights_185 : decode cX7_rights 185 = .ok (.aload_n 0, 1) := dk_42 (dk_at dksX7_rights_7 21 rfl rfl)
theorem dX7_rights_186 : decode cX7_rights 186 = .ok (.getfield 13, 3) := dk_180 0 13 (dk_at dksX7_rights_8 0 rfl rfl)
theorem dX7_rights_189 : decode cX7_rights 189 = .ok (.iload_n 2, 1) := dk_28 (dk_at dksX7_rights_8 3 rfl rfl)
theorem dX7_rights_190 : decode cX7_rights 190 = .ok (.iconst 3, 1) := dk_6 (dk_at dksX7_rights_8 4 rfl rfl)
theorem dX7_rights_191 : decode cX7_rights 191 = .ok (.iadd, 1) := dk_96 (dk_at dksX7_rights_8 5 rfl rfl)
theorem dX7_rights_192 : decode cX7_rights 192 = .ok (.dup2, 1) := dk_92 (dk_at dksX7_rights_8 6 rfl rfl)
theorem dX7_rights_193 : decode cX7_rights 193 = .ok (.iaload, 1) := dk_46 (dk_at dksX7_rights_8 7 rfl rfl)
theorem dX7_rights_194 : decode cX7_rights 194 = .ok (.iload 5, 2) := dk_21 5 (dk_at dksX7_rights_8 8 rfl rfl)
theorem dX7_rights_196 : decode cX7_rights 196 = .ok (.isub, 1) := dk_100 (dk_at dksX7_rights_8 10 rfl rfl)
theorem dX7_rights_197 : decode cX7_rights 197 = .ok (.iastore, 1) := dk_79 (dk_at dksX7_rights_8 11 rfl rfl)
theorem dX7_rights_198 : decode cX7_rights 198 = .ok (.aload_n 0, 1) := dk_42 (dk_at dksX7_rights_8 12 rfl rfl)
theorem dX7_rights_199 : decode cX7_rights 199 = .ok (.iconst 1, 1) := dk_4 (dk_at dksX7_rights_8 13 rfl rfl)
theorem dX7_rights_200 : decode cX7_rights 200 = .ok (.iload 5, 2) := dk_21 5 (dk_at dksX7_rights_8 14 rfl rfl)
theorem dX7_rights_202 : decode cX7_rights 202 = .ok (.iload_n 3, 1) := dk_29 (dk_at dksX7_rights_8 16 rfl rfl)
theorem dX7_rights_203 : decode cX7_rights 203 = .ok (.iload_n 1, 1) := dk_27 (dk_at dksX7_rights_8 17 rfl rfl)
theorem dX7_rights_204 : decode cX7_rights 204 = .ok (.invokevirtual 162, 3) := dk_182 0 162 (dk_at dksX7_rights_8 18 rfl rfl)
theorem dX7_rights_207 : decode cX7_rights 207 = .ok (.istore 6, 2) := dk_54 6 (dk_at dksX7_rights_8 21 rfl rfl)
theorem dX7_rights_209 : decode cX7_rights 209 = .ok (.iinc 3 1, 3) := dk_132 3 1 (dk_at dksX7_rights_9 0 rfl rfl)
theorem dX7_rights_212 : decode cX7_rights 212 = .ok (.goto (-147), 3) := dk_167 255 109 (dk_at dksX7_rights_9 3 rfl rfl)
theorem dX7_rights_215 : decode cX7_rights 215 = .ok (.iinc 1 1, 3) := dk_132 1 1 (dk_at dksX7_rights_9 6 rfl rfl)
theorem dX7_rights_218 : decode cX7_rights 218 = .ok (.goto (-216), 3) := dk_167 255 40 (dk_at dksX7_rights_9 9 rfl rfl)
theorem dX7_rights_221 : decode cX7_rights 221 = .ok (.return_, 1) := dk_177 (dk_at dksX7_rights_9 12 rfl rfl)
abbrev cX7_obey : ByteArray := prog_19_method_83_code
def yX7_obey : MethodName := ⟨RX7, "obey", "()V"⟩
def dkwX7_obey_7 : List UInt8 := [46, 42, 28, 7, 182, 0, 84, 100, 79, 132, 1, 1, 167, 255, 78, 42, 180, 0, 13, 8, 3, 79, 177]
abbrev dktX7_obey_7 : List UInt8 := dkwX7_obey_7 ++ []
def dkwX7_obey_6 : List UInt8 := [42, 180, 0, 13, 3, 46, 79, 42, 180, 0, 13, 17, 13, 118, 6, 42, 27, 5, 182, 1, 79, 104, 96, 92]
abbrev dktX7_obey_6 : List UInt8 := dkwX7_obey_6 ++ dktX7_obey_7
def dkwX7_obey_5 : List UInt8 := [29, 16, 6, 96, 16, 60, 79, 42, 180, 0, 13, 29, 8, 96, 4, 79, 42, 180, 0, 13, 29, 16, 10, 96]
abbrev dktX7_obey_5 : List UInt8 := dkwX7_obey_5 ++ dktX7_obey_6
def dkwX7_obey_4 : List UInt8 := [182, 0, 126, 153, 0, 78, 42, 180, 0, 13, 29, 5, 96, 42, 27, 5, 182, 1, 79, 79, 42, 180, 0, 13]
abbrev dktX7_obey_4 : List UInt8 := dkwX7_obey_4 ++ dktX7_obey_5
def dkwX7_obey_3 : List UInt8 := [160, 0, 22, 42, 28, 42, 28, 42, 27, 5, 182, 1, 79, 182, 1, 106, 182, 1, 109, 167, 0, 86, 42, 28]
abbrev dktX7_obey_3 : List UInt8 := dkwX7_obey_3 ++ dktX7_obey_4
def dkwX7_obey_2 : List UInt8 := [180, 0, 13, 29, 16, 9, 96, 42, 180, 0, 13, 3, 46, 79, 167, 0, 115, 42, 27, 4, 182, 1, 79, 4]
abbrev dktX7_obey_2 : List UInt8 := dkwX7_obey_2 ++ dktX7_obey_3
def dkwX7_obey_1 : List UInt8 := [104, 96, 62, 42, 27, 4, 182, 1, 79, 154, 0, 32, 42, 28, 42, 28, 3, 182, 1, 106, 182, 1, 109, 42]
abbrev dktX7_obey_1 : List UInt8 := dkwX7_obey_1 ++ dktX7_obey_2
def dkwX7_obey_0 : List UInt8 := [3, 60, 27, 42, 180, 0, 13, 8, 46, 162, 0, 174, 42, 27, 3, 182, 1, 79, 61, 16, 16, 16, 14, 28]
abbrev dktX7_obey_0 : List UInt8 := dkwX7_obey_0 ++ dktX7_obey_1
theorem dksX7_obey_0 : cX7_obey.data.toList.drop 0 = dktX7_obey_0 := by decide +kernel
theorem dksX7_obey_1 : cX7_obey.data.toList.drop 24 = dktX7_obey_1 := dk_seg dksX7_obey_0 24 rfl rfl
theorem dksX7_obey_2 : cX7_obey.data.toList.drop 48 = dktX7_obey_2 := dk_seg dksX7_obey_1 24 rfl rfl
theorem dksX7_obey_3 : cX7_obey.data.toList.drop 72 = dktX7_obey_3 := dk_seg dksX7_obey_2 24 rfl rfl
theorem dksX7_obey_4 : cX7_obey.data.toList.drop 96 = dktX7_obey_4 := dk_seg dksX7_obey_3 24 rfl rfl
theorem dksX7_obey_5 : cX7_obey.data.toList.drop 120 = dktX7_obey_5 := dk_seg dksX7_obey_4 24 rfl rfl
theorem dksX7_obey_6 : cX7_obey.data.toList.drop 144 = dktX7_obey_6 := dk_seg dksX7_obey_5 24 rfl rfl
theorem dksX7_obey_7 : cX7_obey.data.toList.drop 168 = dktX7_obey_7 := dk_seg dksX7_obey_6 24 rfl rfl
theorem dX7_obey_0 : decode cX7_obey 0 = .ok (.iconst 0, 1) := dk_3 (dk_at dksX7_obey_0 0 rfl rfl)
theorem dX7_obey_1 : decode cX7_obey 1 = .ok (.istore_n 1, 1) := dk_60 (dk_at dksX7_obey_0 1 rfl rfl)
theorem dX7_obey_2 : decode cX7_obey 2 = .ok (.iload_n 1, 1) := dk_27 (dk_at dksX7_obey_0 2 rfl rfl)
theorem dX7_obey_3 : decode cX7_obey 3 = .ok (.aload_n 0, 1) := dk_42 (dk_at dksX7_obey_0 3 rfl rfl)
theorem dX7_obey_4 : decode cX7_obey 4 = .ok (.getfield 13, 3) := dk_180 0 13 (dk_at dksX7_obey_0 4 rfl rfl)
theorem dX7_obey_7 : decode cX7_obey 7 = .ok (.iconst 5, 1) := dk_8 (dk_at dksX7_obey_0 7 rfl rfl)
theorem dX7_obey_8 : decode cX7_obey 8 = .ok (.iaload, 1) := dk_46 (dk_at dksX7_obey_0 8 rfl rfl)
theorem dX7_obey_9 : decode cX7_obey 9 = .ok (.if_icmp .ge 174, 3) := dk_162 0 174 (dk_at dksX7_obey_0 9 rfl rfl)
theorem dX7_obey_12 : decode cX7_obey 12 = .ok (.aload_n 0, 1) := dk_42 (dk_at dksX7_obey_0 12 rfl rfl)
theorem dX7_obey_13 : decode cX7_obey 13 = .ok (.iload_n 1, 1) := dk_27 (dk_at dksX7_obey_0 13 rfl rfl)
theorem dX7_obey_14 : decode cX7_obey 14 = .ok (.iconst 0, 1) := dk_3 (dk_at dksX7_obey_0 14 rfl rfl)
theorem dX7_obey_15 : decode cX7_obey 15 = .ok (.invokevirtual 335, 3) := dk_182 1 79 (dk_at dksX7_obey_0 15 rfl rfl)
theorem dX7_obey_18 : decode cX7_obey 18 = .ok (.istore_n 2, 1) := dk_61 (dk_at dksX7_obey_0 18 rfl rfl)
theorem dX7_obey_19 : decode cX7_obey 19 = .ok (.bipush 16, 2) := dk_16 16 (dk_at dksX7_obey_0 19 rfl rfl)
theorem dX7_obey_21 : decode cX7_obey 21 = .ok (.bipush 14, 2) := dk_16 14 (dk_at dksX7_obey_0 21 rfl rfl)
theorem dX7_obey_23 : decode cX7_obey 23 = .ok (.iload_n 2, 1) := dk_28 (dk_at dksX7_obey_0 23 rfl rfl)
theorem dX7_obey_24 : decode cX7_obey 24 = .ok (.imul, 1) := dk_104 (dk_at dksX7_obey_1 0 rfl rfl)
theorem dX7_obey_25 : decode cX7_obey 25 = .ok (.iadd, 1) := dk_96 (dk_at dksX7_obey_1 1 rfl rfl)
theorem dX7_obey_26 : decode cX7_obey 26 = .ok (.istore_n 3, 1) := dk_62 (dk_at dksX7_obey_1 2 rfl rfl)
theorem dX7_obey_27 : decode cX7_obey 27 = .ok (.aload_n 0, 1) := dk_42 (dk_at dksX7_obey_1 3 rfl rfl)
theorem dX7_obey_28 : decode cX7_obey 28 = .ok (.iload_n 1, 1) := dk_27 (dk_at dksX7_obey_1 4 rfl rfl)
theorem dX7_obey_29 : decode cX7_obey 29 = .ok (.iconst 1, 1) := dk_4 (dk_at dksX7_obey_1 5 rfl rfl)
theorem dX7_obey_30 : decode cX7_obey 30 = .ok (.invokevirtual 335, 3) := dk_182 1 79 (dk_at dksX7_obey_1 6 rfl rfl)
theorem dX7_obey_33 : decode cX7_obey 33 = .ok (.ifCond .ne 32, 3) := dk_154 0 32 (dk_at dksX7_obey_1 9 rfl rfl)
theorem dX7_obey_36 : decode cX7_obey 36 = .ok (.aload_n 0, 1) := dk_42 (dk_at dksX7_obey_1 12 rfl rfl)
theorem dX7_obey_37 : decode cX7_obey 37 = .ok (.iload_n 2, 1) := dk_28 (dk_at dksX7_obey_1 13 rfl rfl)
theorem dX7_obey_38 : decode cX7_obey 38 = .ok (.aload_n 0, 1) := dk_42 (dk_at dksX7_obey_1 14 rfl rfl)
theorem dX7_obey_39 : decode cX7_obey 39 = .ok (.iload_n 2, 1) := dk_28 (dk_at dksX7_obey_1 15 rfl rfl)
theorem dX7_obey_40 : decode cX7_obey 40 = .ok (.iconst 0, 1) := dk_3 (dk_at dksX7_obey_1 16 rfl rfl)
theorem dX7_obey_41 : decode cX7_obey 41 = .ok (.invokevirtual 362, 3) := dk_182 1 106 (dk_at dksX7_obey_1 17 rfl rfl)
theorem dX7_obey_44 : decode cX7_obey 44 = .ok (.invokevirtual 365, 3) := dk_182 1 109 (dk_at dksX7_obey_1 20 rfl rfl)
theorem dX7_obey_47 : decode cX7_obey 47 = .ok (.aload_n 0, 1) := dk_42 (dk_at dksX7_obey_1 23 rfl rfl)
theorem dX7_obey_48 : decode cX7_obey 48 = .ok (.getfield 13, 3) := dk_180 0 13 (dk_at dksX7_obey_2 0 rfl rfl)
theorem dX7_obey_51 : decode cX7_obey 51 = .ok (.iload_n 3, 1) := dk_29 (dk_at dksX7_obey_2 3 rfl rfl)
theorem dX7_obey_52 : decode cX7_obey 52 = .ok (.bipush 9, 2) := dk_16 9 (dk_at dksX7_obey_2 4 rfl rfl)
theorem dX7_obey_54 : decode cX7_obey 54 = .ok (.iadd, 1) := dk_96 (dk_at dksX7_obey_2 6 rfl rfl)
theorem dX7_obey_55 : decode cX7_obey 55 = .ok (.aload_n 0, 1) := dk_42 (dk_at dksX7_obey_2 7 rfl rfl)
theorem dX7_obey_56 : decode cX7_obey 56 = .ok (.getfield 13, 3) := dk_180 0 13 (dk_at dksX7_obey_2 8 rfl rfl)
theorem dX7_obey_59 : decode cX7_obey 59 = .ok (.iconst 0, 1) := dk_3 (dk_at dksX7_obey_2 11 rfl rfl)
theorem dX7_obey_60 : decode cX7_obey 60 = .ok (.iaload, 1) := dk_46 (dk_at dksX7_obey_2 12 rfl rfl)
theorem dX7_obey_61 : decode cX7_obey 61 = .ok (.iastore, 1) := dk_79 (dk_at dksX7_obey_2 13 rfl rfl)
theorem dX7_obey_62 : decode cX7_obey 62 = .ok (.goto 115, 3) := dk_167 0 115 (dk_at dksX7_obey_2 14 rfl rfl)
theorem dX7_obey_65 : decode cX7_obey 65 = .ok (.aload_n 0, 1) := dk_42 (dk_at dksX7_obey_2 17 rfl rfl)
theorem dX7_obey_66 : decode cX7_obey 66 = .ok (.iload_n 1, 1) := dk_27 (dk_at dksX7_obey_2 18 rfl rfl)
theorem dX7_obey_67 : decode cX7_obey 67 = .ok (.iconst 1, 1) := dk_4 (dk_at dksX7_obey_2 19 rfl rfl)
theorem dX7_obey_68 : decode cX7_obey 68 = .ok (.invokevirtual 335, 3) := dk_182 1 79 (dk_at dksX7_obey_2 20 rfl rfl)
theorem dX7_obey_71 : decode cX7_obey 71 = .ok (.iconst 1, 1) := dk_4 (dk_at dksX7_obey_2 23 rfl rfl)
theorem dX7_obey_72 : decode cX7_obey 72 = .ok (.if_icmp .ne 22, 3) := dk_160 0 22 (dk_at dksX7_obey_3 0 rfl rfl)
theorem dX7_obey_75 : decode cX7_obey 75 = .ok (.aload_n 0, 1) := dk_42 (dk_at dksX7_obey_3 3 rfl rfl)
theorem dX7_obey_76 : decode cX7_obey 76 = .ok (.iload_n 2, 1) := dk_28 (dk_at dksX7_obey_3 4 rfl rfl)
theorem dX7_obey_77 : decode cX7_obey 77 = .ok (.aload_n 0, 1) := dk_42 (dk_at dksX7_obey_3 5 rfl rfl)
theorem dX7_obey_78 : decode cX7_obey 78 = .ok (.iload_n 2, 1) := dk_28 (dk_at dksX7_obey_3 6 rfl rfl)
theorem dX7_obey_79 : decode cX7_obey 79 = .ok (.aload_n 0, 1) := dk_42 (dk_at dksX7_obey_3 7 rfl rfl)
theorem dX7_obey_80 : decode cX7_obey 80 = .ok (.iload_n 1, 1) := dk_27 (dk_at dksX7_obey_3 8 rfl rfl)
theorem dX7_obey_81 : decode cX7_obey 81 = .ok (.iconst 2, 1) := dk_5 (dk_at dksX7_obey_3 9 rfl rfl)
theorem dX7_obey_82 : decode cX7_obey 82 = .ok (.invokevirtual 335, 3) := dk_182 1 79 (dk_at dksX7_obey_3 10 rfl rfl)
theorem dX7_obey_85 : decode cX7_obey 85 = .ok (.invokevirtual 362, 3) := dk_182 1 106 (dk_at dksX7_obey_3 13 rfl rfl)
theorem dX7_obey_88 : decode cX7_obey 88 = .ok (.invokevirtual 365, 3) := dk_182 1 109 (dk_at dksX7_obey_3 16 rfl rfl)
theorem dX7_obey_91 : decode cX7_obey 91 = .ok (.goto 86, 3) := dk_167 0 86 (dk_at dksX7_obey_3 19 rfl rfl)
theorem dX7_obey_94 : decode cX7_obey 94 = .ok (.aload_n 0, 1) := dk_42 (dk_at dksX7_obey_3 22 rfl rfl)
theorem dX7_obey_95 : decode cX7_obey 95 = .ok (.iload_n 2, 1) := dk_28 (dk_at dksX7_obey_3 23 rfl rfl)
theorem dX7_obey_96 : decode cX7_obey 96 = .ok (.invokevirtual 126, 3) := dk_182 0 126 (dk_at dksX7_obey_4 0 rfl rfl)
theorem dX7_obey_99 : decode cX7_obey 99 = .ok (.ifCond .eq 78, 3) := dk_153 0 78 (dk_at dksX7_obey_4 3 rfl rfl)
theorem dX7_obey_102 : decode cX7_obey 102 = .ok (.aload_n 0, 1) := dk_42 (dk_at dksX7_obey_4 6 rfl rfl)
theorem dX7_obey_103 : decode cX7_obey 103 = .ok (.getfield 13, 3) := dk_180 0 13 (dk_at dksX7_obey_4 7 rfl rfl)
theorem dX7_obey_106 : decode cX7_obey 106 = .ok (.iload_n 3, 1) := dk_29 (dk_at dksX7_obey_4 10 rfl rfl)
theorem dX7_obey_107 : decode cX7_obey 107 = .ok (.iconst 2, 1) := dk_5 (dk_at dksX7_obey_4 11 rfl rfl)
theorem dX7_obey_108 : decode cX7_obey 108 = .ok (.iadd, 1) := dk_96 (dk_at dksX7_obey_4 12 rfl rfl)
theorem dX7_obey_109 : decode cX7_obey 109 = .ok (.aload_n 0, 1) := dk_42 (dk_at dksX7_obey_4 13 rfl rfl)
theorem dX7_obey_110 : decode cX7_obey 110 = .ok (.iload_n 1, 1) := dk_27 (dk_at dksX7_obey_4 14 rfl rfl)
theorem dX7_obey_111 : decode cX7_obey 111 = .ok (.iconst 2, 1) := dk_5 (dk_at dksX7_obey_4 15 rfl rfl)
theorem dX7_obey_112 : decode cX7_obey 112 = .ok (.invokevirtual 335, 3) := dk_182 1 79 (dk_at dksX7_obey_4 16 rfl rfl)
theorem dX7_obey_115 : decode cX7_obey 115 = .ok (.iastore, 1) := dk_79 (dk_at dksX7_obey_4 19 rfl rfl)
theorem dX7_obey_116 : decode cX7_obey 116 = .ok (.aload_n 0, 1) := dk_42 (dk_at dksX7_obey_4 20 rfl rfl)
theorem dX7_obey_117 : decode cX7_obey 117 = .ok (.getfield 13, 3) := dk_180 0 13 (dk_at dksX7_obey_4 21 rfl rfl)
theorem dX7_obey_120 : decode cX7_obey 120 = .ok (.iload_n 3, 1) := dk_29 (dk_at dksX7_obey_5 0 rfl rfl)
theorem dX7_obey_121 : decode cX7_obey 121 = .ok (.bipush 6, 2) := dk_16 6 (dk_at dksX7_obey_5 1 rfl rfl)
theorem dX7_obey_123 : decode cX7_obey 123 = .ok (.iadd, 1) := dk_96 (dk_at dksX7_obey_5 3 rfl rfl)
theorem dX7_obey_124 : decode cX7_obey 124 = .ok (.bipush 60, 2) := dk_16 60 (dk_at dksX7_obey_5 4 rfl rfl)
theorem dX7_obey_126 : decode cX7_obey 126 = .ok (.iastore, 1) := dk_79 (dk_at dksX7_obey_5 6 rfl rfl)
theorem dX7_obey_127 : decode cX7_obey 127 = .ok (.aload_n 0, 1) := dk_42 (dk_at dksX7_obey_5 7 rfl rfl)
theorem dX7_obey_128 : decode cX7_obey 128 = .ok (.getfield 13, 3) := dk_180 0 13 (dk_at dksX7_obey_5 8 rfl rfl)
theorem dX7_obey_131 : decode cX7_obey 131 = .ok (.iload_n 3, 1) := dk_29 (dk_at dksX7_obey_5 11 rfl rfl)
theorem dX7_obey_132 : decode cX7_obey 132 = .ok (.iconst 5, 1) := dk_8 (dk_at dksX7_obey_5 12 rfl rfl)
theorem dX7_obey_133 : decode cX7_obey 133 = .ok (.iadd, 1) := dk_96 (dk_at dksX7_obey_5 13 rfl rfl)
theorem dX7_obey_134 : decode cX7_obey 134 = .ok (.iconst 1, 1) := dk_4 (dk_at dksX7_obey_5 14 rfl rfl)
theorem dX7_obey_135 : decode cX7_obey 135 = .ok (.iastore, 1) := dk_79 (dk_at dksX7_obey_5 15 rfl rfl)
theorem dX7_obey_136 : decode cX7_obey 136 = .ok (.aload_n 0, 1) := dk_42 (dk_at dksX7_obey_5 16 rfl rfl)
theorem dX7_obey_137 : decode cX7_obey 137 = .ok (.getfield 13, 3) := dk_180 0 13 (dk_at dksX7_obey_5 17 rfl rfl)
theorem dX7_obey_140 : decode cX7_obey 140 = .ok (.iload_n 3, 1) := dk_29 (dk_at dksX7_obey_5 20 rfl rfl)
theorem dX7_obey_141 : decode cX7_obey 141 = .ok (.bipush 10, 2) := dk_16 10 (dk_at dksX7_obey_5 21 rfl rfl)
theorem dX7_obey_143 : decode cX7_obey 143 = .ok (.iadd, 1) := dk_96 (dk_at dksX7_obey_5 23 rfl rfl)
theorem dX7_obey_144 : decode cX7_obey 144 = .ok (.aload_n 0, 1) := dk_42 (dk_at dksX7_obey_6 0 rfl rfl)
theorem dX7_obey_145 : decode cX7_obey 145 = .ok (.getfield 13, 3) := dk_180 0 13 (dk_at dksX7_obey_6 1 rfl rfl)
theorem dX7_obey_148 : decode cX7_obey 148 = .ok (.iconst 0, 1) := dk_3 (dk_at dksX7_obey_6 4 rfl rfl)
theorem dX7_obey_149 : decode cX7_obey 149 = .ok (.iaload, 1) := dk_46 (dk_at dksX7_obey_6 5 rfl rfl)
theorem dX7_obey_150 : decode cX7_obey 150 = .ok (.iastore, 1) := dk_79 (dk_at dksX7_obey_6 6 rfl rfl)
theorem dX7_obey_151 : decode cX7_obey 151 = .ok (.aload_n 0, 1) := dk_42 (dk_at dksX7_obey_6 7 rfl rfl)
theorem dX7_obey_152 : decode cX7_obey 152 = .ok (.getfield 13, 3) := dk_180 0 13 (dk_at dksX7_obey_6 8 rfl rfl)
theorem dX7_obey_155 : decode cX7_obey 155 = .ok (.sipush 3446, 3) := dk_17 13 118 (dk_at dksX7_obey_6 11 rfl rfl)
theorem dX7_obey_158 : decode cX7_obey 158 = .ok (.iconst 3, 1) := dk_6 (dk_at dksX7_obey_6 14 rfl rfl)
theorem dX7_obey_159 : decode cX7_obey 159 = .ok (.aload_n 0, 1) := dk_42 (dk_at dksX7_obey_6 15 rfl rfl)
theorem dX7_obey_160 : decode cX7_obey 160 = .ok (.iload_n 1, 1) := dk_27 (dk_at dksX7_obey_6 16 rfl rfl)
theorem dX7_obey_161 : decode cX7_obey 161 = .ok (.iconst 2, 1) := dk_5 (dk_at dksX7_obey_6 17 rfl rfl)
theorem dX7_obey_162 : decode cX7_obey 162 = .ok (.invokevirtual 335, 3) := dk_182 1 79 (dk_at dksX7_obey_6 18 rfl rfl)
theorem dX7_obey_165 : decode cX7_obey 165 = .ok (.imul, 1) := dk_104 (dk_at dksX7_obey_6 21 rfl rfl)
theorem dX7_obey_166 : decode cX7_obey 166 = .ok (.iadd, 1) := dk_96 (dk_at dksX7_obey_6 22 rfl rfl)
theorem dX7_obey_167 : decode cX7_obey 167 = .ok (.dup2, 1) := dk_92 (dk_at dksX7_obey_6 23 rfl rfl)
theorem dX7_obey_168 : decode cX7_obey 168 = .ok (.iaload, 1) := dk_46 (dk_at dksX7_obey_7 0 rfl rfl)
theorem dX7_obey_169 : decode cX7_obey 169 = .ok (.aload_n 0, 1) := dk_42 (dk_at dksX7_obey_7 1 rfl rfl)
theorem dX7_obey_170 : decode cX7_obey 170 = .ok (.iload_n 2, 1) := dk_28 (dk_at dksX7_obey_7 2 rfl rfl)
theorem dX7_obey_171 : decode cX7_obey 171 = .ok (.iconst 4, 1) := dk_7 (dk_at dksX7_obey_7 3 rfl rfl)
theorem dX7_obey_172 : decode cX7_obey 172 = .ok (.invokevirtual 84, 3) := dk_182 0 84 (dk_at dksX7_obey_7 4 rfl rfl)
theorem dX7_obey_175 : decode cX7_obey 175 = .ok (.isub, 1) := dk_100 (dk_at dksX7_obey_7 7 rfl rfl)
theorem dX7_obey_176 : decode cX7_obey 176 = .ok (.iastore, 1) := dk_79 (dk_at dksX7_obey_7 8 rfl rfl)
theorem dX7_obey_177 : decode cX7_obey 177 = .ok (.iinc 1 1, 3) := dk_132 1 1 (dk_at dksX7_obey_7 9 rfl rfl)
theorem dX7_obey_180 : decode cX7_obey 180 = .ok (.goto (-178), 3) := dk_167 255 78 (dk_at dksX7_obey_7 12 rfl rfl)
theorem dX7_obey_183 : decode cX7_obey 183 = .ok (.aload_n 0, 1) := dk_42 (dk_at dksX7_obey_7 15 rfl rfl)
theorem dX7_obey_184 : decode cX7_obey 184 = .ok (.getfield 13, 3) := dk_180 0 13 (dk_at dksX7_obey_7 16 rfl rfl)
theorem dX7_obey_187 : decode cX7_obey 187 = .ok (.iconst 5, 1) := dk_8 (dk_at dksX7_obey_7 19 rfl rfl)
theorem dX7_obey_188 : decode cX7_obey 188 = .ok (.iconst 0, 1) := dk_3 (dk_at dksX7_obey_7 20 rfl rfl)
theorem dX7_obey_189 : decode cX7_obey 189 = .ok (.iastore, 1) := dk_79 (dk_at dksX7_obey_7 21 rfl rfl)
theorem dX7_obey_190 : decode cX7_obey 190 = .ok (.return_, 1) := dk_177 (dk_at dksX7_obey_7 22 rfl rfl)
abbrev cX7_thins : ByteArray := prog_19_method_15_code
def yX7_thins : MethodName := ⟨RX7, "thins", "(II)I"⟩
def dkwX7_thins_2 : List UInt8 := [100, 172]
abbrev dktX7_thins_2 : List UInt8 := dkwX7_thins_2 ++ []
def dkwX7_thins_1 : List UInt8 := [154, 0, 18, 42, 180, 0, 13, 16, 16, 16, 14, 27, 104, 96, 8, 96, 3, 79, 29, 42, 27, 182, 0, 115]
abbrev dktX7_thins_1 : List UInt8 := dkwX7_thins_1 ++ dktX7_thins_2
def dkwX7_thins_0 : List UInt8 := [42, 27, 182, 0, 115, 62, 42, 180, 0, 13, 16, 16, 16, 14, 27, 104, 96, 16, 6, 96, 28, 79, 28]
abbrev dktX7_thins_0 : List UInt8 := dkwX7_thins_0 ++ dktX7_thins_1
theorem dksX7_thins_0 : cX7_thins.data.toList.drop 0 = dktX7_thins_0 := by decide +kernel
theorem dksX7_thins_1 : cX7_thins.data.toList.drop 23 = dktX7_thins_1 := dk_seg dksX7_thins_0 23 rfl rfl
theorem dksX7_thins_2 : cX7_thins.data.toList.drop 47 = dktX7_thins_2 := dk_seg dksX7_thins_1 24 rfl rfl
theorem dX7_thins_0 : decode cX7_thins 0 = .ok (.aload_n 0, 1) := dk_42 (dk_at dksX7_thins_0 0 rfl rfl)
theorem dX7_thins_1 : decode cX7_thins 1 = .ok (.iload_n 1, 1) := dk_27 (dk_at dksX7_thins_0 1 rfl rfl)
theorem dX7_thins_2 : decode cX7_thins 2 = .ok (.invokevirtual 115, 3) := dk_182 0 115 (dk_at dksX7_thins_0 2 rfl rfl)
theorem dX7_thins_5 : decode cX7_thins 5 = .ok (.istore_n 3, 1) := dk_62 (dk_at dksX7_thins_0 5 rfl rfl)
theorem dX7_thins_6 : decode cX7_thins 6 = .ok (.aload_n 0, 1) := dk_42 (dk_at dksX7_thins_0 6 rfl rfl)
theorem dX7_thins_7 : decode cX7_thins 7 = .ok (.getfield 13, 3) := dk_180 0 13 (dk_at dksX7_thins_0 7 rfl rfl)
theorem dX7_thins_10 : decode cX7_thins 10 = .ok (.bipush 16, 2) := dk_16 16 (dk_at dksX7_thins_0 10 rfl rfl)
theorem dX7_thins_12 : decode cX7_thins 12 = .ok (.bipush 14, 2) := dk_16 14 (dk_at dksX7_thins_0 12 rfl rfl)
theorem dX7_thins_14 : decode cX7_thins 14 = .ok (.iload_n 1, 1) := dk_27 (dk_at dksX7_thins_0 14 rfl rfl)
theorem dX7_thins_15 : decode cX7_thins 15 = .ok (.imul, 1) := dk_104 (dk_at dksX7_thins_0 15 rfl rfl)
theorem dX7_thins_16 : decode cX7_thins 16 = .ok (.iadd, 1) := dk_96 (dk_at dksX7_thins_0 16 rfl rfl)
theorem dX7_thins_17 : decode cX7_thins 17 = .ok (.bipush 6, 2) := dk_16 6 (dk_at dksX7_thins_0 17 rfl rfl)
theorem dX7_thins_19 : decode cX7_thins 19 = .ok (.iadd, 1) := dk_96 (dk_at dksX7_thins_0 19 rfl rfl)
theorem dX7_thins_20 : decode cX7_thins 20 = .ok (.iload_n 2, 1) := dk_28 (dk_at dksX7_thins_0 20 rfl rfl)
theorem dX7_thins_21 : decode cX7_thins 21 = .ok (.iastore, 1) := dk_79 (dk_at dksX7_thins_0 21 rfl rfl)
theorem dX7_thins_22 : decode cX7_thins 22 = .ok (.iload_n 2, 1) := dk_28 (dk_at dksX7_thins_0 22 rfl rfl)
theorem dX7_thins_23 : decode cX7_thins 23 = .ok (.ifCond .ne 18, 3) := dk_154 0 18 (dk_at dksX7_thins_1 0 rfl rfl)
theorem dX7_thins_26 : decode cX7_thins 26 = .ok (.aload_n 0, 1) := dk_42 (dk_at dksX7_thins_1 3 rfl rfl)
theorem dX7_thins_27 : decode cX7_thins 27 = .ok (.getfield 13, 3) := dk_180 0 13 (dk_at dksX7_thins_1 4 rfl rfl)
theorem dX7_thins_30 : decode cX7_thins 30 = .ok (.bipush 16, 2) := dk_16 16 (dk_at dksX7_thins_1 7 rfl rfl)
theorem dX7_thins_32 : decode cX7_thins 32 = .ok (.bipush 14, 2) := dk_16 14 (dk_at dksX7_thins_1 9 rfl rfl)
theorem dX7_thins_34 : decode cX7_thins 34 = .ok (.iload_n 1, 1) := dk_27 (dk_at dksX7_thins_1 11 rfl rfl)
theorem dX7_thins_35 : decode cX7_thins 35 = .ok (.imul, 1) := dk_104 (dk_at dksX7_thins_1 12 rfl rfl)
theorem dX7_thins_36 : decode cX7_thins 36 = .ok (.iadd, 1) := dk_96 (dk_at dksX7_thins_1 13 rfl rfl)
theorem dX7_thins_37 : decode cX7_thins 37 = .ok (.iconst 5, 1) := dk_8 (dk_at dksX7_thins_1 14 rfl rfl)
theorem dX7_thins_38 : decode cX7_thins 38 = .ok (.iadd, 1) := dk_96 (dk_at dksX7_thins_1 15 rfl rfl)
theorem dX7_thins_39 : decode cX7_thins 39 = .ok (.iconst 0, 1) := dk_3 (dk_at dksX7_thins_1 16 rfl rfl)
theorem dX7_thins_40 : decode cX7_thins 40 = .ok (.iastore, 1) := dk_79 (dk_at dksX7_thins_1 17 rfl rfl)
theorem dX7_thins_41 : decode cX7_thins 41 = .ok (.iload_n 3, 1) := dk_29 (dk_at dksX7_thins_1 18 rfl rfl)
theorem dX7_thins_42 : decode cX7_thins 42 = .ok (.aload_n 0, 1) := dk_42 (dk_at dksX7_thins_1 19 rfl rfl)
theorem dX7_thins_43 : decode cX7_thins 43 = .ok (.iload_n 1, 1) := dk_27 (dk_at dksX7_thins_1 20 rfl rfl)
theorem dX7_thins_44 : decode cX7_thins 44 = .ok (.invokevirtual 115, 3) := dk_182 0 115 (dk_at dksX7_thins_1 21 rfl rfl)
theorem dX7_thins_47 : decode cX7_thins 47 = .ok (.isub, 1) := dk_100 (dk_at dksX7_thins_2 0 rfl rfl)
theorem dX7_thins_48 : decode cX7_thins 48 = .ok (.ireturn, 1) := dk_172 (dk_at dksX7_thins_2 1 rfl rfl)
abbrev cX7_lots : ByteArray := prog_19_method_82_code
def yX7_lots : MethodName := ⟨RX7, "lots", "(II)V"⟩
def dkwX7_lots_2 : List UInt8 := [182, 0, 162, 62, 177]
abbrev dktX7_lots_2 : List UInt8 := dkwX7_lots_2 ++ []
def dkwX7_lots_1 : List UInt8 := [160, 0, 17, 42, 180, 0, 17, 7, 92, 47, 28, 133, 97, 80, 167, 0, 12, 42, 3, 28, 27, 2]
abbrev dktX7_lots_1 : List UInt8 := dkwX7_lots_1 ++ dktX7_lots_2
def dkwX7_lots_0 : List UInt8 := [42, 180, 0, 17, 3, 92, 47, 28, 133, 97, 80, 28, 154, 0, 4, 177, 42, 182, 0, 152, 16, 60]
abbrev dktX7_lots_0 : List UInt8 := dkwX7_lots_0 ++ dktX7_lots_1
theorem dksX7_lots_0 : cX7_lots.data.toList.drop 0 = dktX7_lots_0 := by decide +kernel
theorem dksX7_lots_1 : cX7_lots.data.toList.drop 22 = dktX7_lots_1 := dk_seg dksX7_lots_0 22 rfl rfl
theorem dksX7_lots_2 : cX7_lots.data.toList.drop 44 = dktX7_lots_2 := dk_seg dksX7_lots_1 22 rfl rfl
theorem dX7_lots_0 : decode cX7_lots 0 = .ok (.aload_n 0, 1) := dk_42 (dk_at dksX7_lots_0 0 rfl rfl)
theorem dX7_lots_1 : decode cX7_lots 1 = .ok (.getfield 17, 3) := dk_180 0 17 (dk_at dksX7_lots_0 1 rfl rfl)
theorem dX7_lots_4 : decode cX7_lots 4 = .ok (.iconst 0, 1) := dk_3 (dk_at dksX7_lots_0 4 rfl rfl)
theorem dX7_lots_5 : decode cX7_lots 5 = .ok (.dup2, 1) := dk_92 (dk_at dksX7_lots_0 5 rfl rfl)
theorem dX7_lots_6 : decode cX7_lots 6 = .ok (.laload, 1) := dk_47 (dk_at dksX7_lots_0 6 rfl rfl)
theorem dX7_lots_7 : decode cX7_lots 7 = .ok (.iload_n 2, 1) := dk_28 (dk_at dksX7_lots_0 7 rfl rfl)
theorem dX7_lots_8 : decode cX7_lots 8 = .ok (.i2l, 1) := dk_133 (dk_at dksX7_lots_0 8 rfl rfl)
theorem dX7_lots_9 : decode cX7_lots 9 = .ok (.ladd, 1) := dk_97 (dk_at dksX7_lots_0 9 rfl rfl)
theorem dX7_lots_10 : decode cX7_lots 10 = .ok (.lastore, 1) := dk_80 (dk_at dksX7_lots_0 10 rfl rfl)
theorem dX7_lots_11 : decode cX7_lots 11 = .ok (.iload_n 2, 1) := dk_28 (dk_at dksX7_lots_0 11 rfl rfl)
theorem dX7_lots_12 : decode cX7_lots 12 = .ok (.ifCond .ne 4, 3) := dk_154 0 4 (dk_at dksX7_lots_0 12 rfl rfl)
theorem dX7_lots_15 : decode cX7_lots 15 = .ok (.return_, 1) := dk_177 (dk_at dksX7_lots_0 15 rfl rfl)
theorem dX7_lots_16 : decode cX7_lots 16 = .ok (.aload_n 0, 1) := dk_42 (dk_at dksX7_lots_0 16 rfl rfl)
theorem dX7_lots_17 : decode cX7_lots 17 = .ok (.invokevirtual 152, 3) := dk_182 0 152 (dk_at dksX7_lots_0 17 rfl rfl)
theorem dX7_lots_20 : decode cX7_lots 20 = .ok (.bipush 60, 2) := dk_16 60 (dk_at dksX7_lots_0 20 rfl rfl)
theorem dX7_lots_22 : decode cX7_lots 22 = .ok (.if_icmp .ne 17, 3) := dk_160 0 17 (dk_at dksX7_lots_1 0 rfl rfl)
theorem dX7_lots_25 : decode cX7_lots 25 = .ok (.aload_n 0, 1) := dk_42 (dk_at dksX7_lots_1 3 rfl rfl)
theorem dX7_lots_26 : decode cX7_lots 26 = .ok (.getfield 17, 3) := dk_180 0 17 (dk_at dksX7_lots_1 4 rfl rfl)
theorem dX7_lots_29 : decode cX7_lots 29 = .ok (.iconst 4, 1) := dk_7 (dk_at dksX7_lots_1 7 rfl rfl)
theorem dX7_lots_30 : decode cX7_lots 30 = .ok (.dup2, 1) := dk_92 (dk_at dksX7_lots_1 8 rfl rfl)
theorem dX7_lots_31 : decode cX7_lots 31 = .ok (.laload, 1) := dk_47 (dk_at dksX7_lots_1 9 rfl rfl)
theorem dX7_lots_32 : decode cX7_lots 32 = .ok (.iload_n 2, 1) := dk_28 (dk_at dksX7_lots_1 10 rfl rfl)
theorem dX7_lots_33 : decode cX7_lots 33 = .ok (.i2l, 1) := dk_133 (dk_at dksX7_lots_1 11 rfl rfl)
theorem dX7_lots_34 : decode cX7_lots 34 = .ok (.ladd, 1) := dk_97 (dk_at dksX7_lots_1 12 rfl rfl)
theorem dX7_lots_35 : decode cX7_lots 35 = .ok (.lastore, 1) := dk_80 (dk_at dksX7_lots_1 13 rfl rfl)
theorem dX7_lots_36 : decode cX7_lots 36 = .ok (.goto 12, 3) := dk_167 0 12 (dk_at dksX7_lots_1 14 rfl rfl)
theorem dX7_lots_39 : decode cX7_lots 39 = .ok (.aload_n 0, 1) := dk_42 (dk_at dksX7_lots_1 17 rfl rfl)
theorem dX7_lots_40 : decode cX7_lots 40 = .ok (.iconst 0, 1) := dk_3 (dk_at dksX7_lots_1 18 rfl rfl)
theorem dX7_lots_41 : decode cX7_lots 41 = .ok (.iload_n 2, 1) := dk_28 (dk_at dksX7_lots_1 19 rfl rfl)
theorem dX7_lots_42 : decode cX7_lots 42 = .ok (.iload_n 1, 1) := dk_27 (dk_at dksX7_lots_1 20 rfl rfl)
theorem dX7_lots_43 : decode cX7_lots 43 = .ok (.iconst (-1), 1) := dk_2 (dk_at dksX7_lots_1 21 rfl rfl)
theorem dX7_lots_44 : decode cX7_lots 44 = .ok (.invokevirtual 162, 3) := dk_182 0 162 (dk_at dksX7_lots_2 0 rfl rfl)
theorem dX7_lots_47 : decode cX7_lots 47 = .ok (.istore_n 3, 1) := dk_62 (dk_at dksX7_lots_2 3 rfl rfl)
theorem dX7_lots_48 : decode cX7_lots 48 = .ok (.return_, 1) := dk_177 (dk_at dksX7_lots_2 4 rfl rfl)
abbrev cX7_blows : ByteArray := prog_19_method_84_code
def yX7_blows : MethodName := ⟨RX7, "blows", "()V"⟩
def dkwX7_blows_12 : List UInt8 := [16, 14, 28, 104, 96, 16, 7, 96, 92, 46, 29, 96, 79, 132, 2, 1, 167, 255, 181, 177]
abbrev dktX7_blows_12 : List UInt8 := dkwX7_blows_12 ++ []
def dkwX7_blows_11 : List UInt8 := [28, 46, 100, 182, 1, 106, 62, 42, 180, 0, 17, 6, 92, 47, 29, 133, 97, 80, 42, 180, 0, 13, 16, 16]
abbrev dktX7_blows_11 : List UInt8 := dkwX7_blows_11 ++ dktX7_blows_12
def dkwX7_blows_10 : List UInt8 := [180, 0, 33, 28, 46, 154, 0, 6, 167, 0, 53, 42, 28, 42, 28, 16, 6, 182, 0, 84, 42, 180, 0, 33]
abbrev dktX7_blows_10 : List UInt8 := dkwX7_blows_10 ++ dktX7_blows_11
def dkwX7_blows_9 : List UInt8 := [182, 0, 84, 79, 132, 2, 1, 167, 255, 57, 3, 61, 28, 42, 180, 0, 13, 4, 46, 162, 0, 71, 42]
abbrev dktX7_blows_9 : List UInt8 := dkwX7_blows_9 ++ dktX7_blows_10
def dkwX7_blows_8 : List UInt8 := [28, 21, 4, 42, 28, 16, 6, 182, 0, 84, 162, 0, 8, 21, 4, 167, 0, 10, 42, 28, 16, 6]
abbrev dktX7_blows_8 : List UInt8 := dkwX7_blows_8 ++ dktX7_blows_9
def dkwX7_blows_7 : List UInt8 := [167, 0, 4, 5, 104, 29, 153, 0, 7, 5, 167, 0, 4, 4, 104, 16, 100, 108, 54, 4, 42, 180, 0, 33]
abbrev dktX7_blows_7 : List UInt8 := dkwX7_blows_7 ++ dktX7_blows_8
def dkwX7_blows_6 : List UInt8 := [28, 5, 182, 0, 84, 4, 160, 0, 7, 7, 167, 0, 18, 42, 28, 5, 182, 0, 84, 5, 160, 0, 7, 6]
abbrev dktX7_blows_6 : List UInt8 := dkwX7_blows_6 ++ dktX7_blows_7
def dkwX7_blows_5 : List UInt8 := [3, 62, 132, 4, 1, 167, 255, 201, 27, 42, 28, 5, 182, 0, 84, 154, 0, 8, 16, 6, 167, 0, 32, 42]
abbrev dktX7_blows_5 : List UInt8 := dkwX7_blows_5 ++ dktX7_blows_6
def dkwX7_blows_4 : List UInt8 := [21, 4, 182, 0, 126, 154, 0, 15, 42, 21, 4, 8, 182, 0, 84, 16, 20, 162, 0, 7, 4, 167, 0, 4]
abbrev dktX7_blows_4 : List UInt8 := dkwX7_blows_4 ++ dktX7_blows_5
def dkwX7_blows_3 : List UInt8 := [42, 180, 0, 13, 4, 46, 162, 0, 50, 29, 154, 0, 34, 42, 28, 21, 4, 182, 0, 122, 153, 0, 28, 42]
abbrev dktX7_blows_3 : List UInt8 := dkwX7_blows_3 ++ dktX7_blows_4
def dkwX7_blows_2 : List UInt8 := [28, 8, 182, 0, 84, 16, 40, 161, 0, 163, 27, 157, 0, 6, 167, 0, 156, 3, 62, 3, 54, 4, 21, 4]
abbrev dktX7_blows_2 : List UInt8 := dkwX7_blows_2 ++ dktX7_blows_3
def dkwX7_blows_1 : List UInt8 := [180, 0, 13, 4, 46, 162, 0, 195, 42, 180, 0, 33, 28, 3, 79, 42, 28, 182, 0, 126, 154, 0, 174, 42]
abbrev dktX7_blows_1 : List UInt8 := dkwX7_blows_1 ++ dktX7_blows_2
def dkwX7_blows_0 : List UInt8 := [42, 180, 0, 13, 17, 13, 130, 42, 180, 0, 13, 3, 46, 16, 100, 112, 96, 46, 60, 3, 61, 28, 42]
abbrev dktX7_blows_0 : List UInt8 := dkwX7_blows_0 ++ dktX7_blows_1
theorem dksX7_blows_0 : cX7_blows.data.toList.drop 0 = dktX7_blows_0 := by decide +kernel
theorem dksX7_blows_1 : cX7_blows.data.toList.drop 23 = dktX7_blows_1 := dk_seg dksX7_blows_0 23 rfl rfl
theorem dksX7_blows_2 : cX7_blows.data.toList.drop 47 = dktX7_blows_2 := dk_seg dksX7_blows_1 24 rfl rfl
theorem dksX7_blows_3 : cX7_blows.data.toList.drop 71 = dktX7_blows_3 := dk_seg dksX7_blows_2 24 rfl rfl
theorem dksX7_blows_4 : cX7_blows.data.toList.drop 95 = dktX7_blows_4 := dk_seg dksX7_blows_3 24 rfl rfl
theorem dksX7_blows_5 : cX7_blows.data.toList.drop 119 = dktX7_blows_5 := dk_seg dksX7_blows_4 24 rfl rfl
theorem dksX7_blows_6 : cX7_blows.data.toList.drop 143 = dktX7_blows_6 := dk_seg dksX7_blows_5 24 rfl rfl
theorem dksX7_blows_7 : cX7_blows.data.toList.drop 167 = dktX7_blows_7 := dk_seg dksX7_blows_6 24 rfl rfl
theorem dksX7_blows_8 : cX7_blows.data.toList.drop 191 = dktX7_blows_8 := dk_seg dksX7_blows_7 24 rfl rfl
theorem dksX7_blows_9 : cX7_blows.data.toList.drop 213 = dktX7_blows_9 := dk_seg dksX7_blows_8 22 rfl rfl
theorem dksX7_blows_10 : cX7_blows.data.toList.drop 236 = dktX7_blows_10 := dk_seg dksX7_blows_9 23 rfl rfl
theorem dksX7_blows_11 : cX7_blows.data.toList.drop 260 = dktX7_blows_11 := dk_seg dksX7_blows_10 24 rfl rfl
theorem dksX7_blows_12 : cX7_blows.data.toList.drop 284 = dktX7_blows_12 := dk_seg dksX7_blows_11 24 rfl rfl
theorem dX7_blows_0 : decode cX7_blows 0 = .ok (.aload_n 0, 1) := dk_42 (dk_at dksX7_blows_0 0 rfl rfl)
theorem dX7_blows_1 : decode cX7_blows 1 = .ok (.getfield 13, 3) := dk_180 0 13 (dk_at dksX7_blows_0 1 rfl rfl)
theorem dX7_blows_4 : decode cX7_blows 4 = .ok (.sipush 3458, 3) := dk_17 13 130 (dk_at dksX7_blows_0 4 rfl rfl)
theorem dX7_blows_7 : decode cX7_blows 7 = .ok (.aload_n 0, 1) := dk_42 (dk_at dksX7_blows_0 7 rfl rfl)
theorem dX7_blows_8 : decode cX7_blows 8 = .ok (.getfield 13, 3) := dk_180 0 13 (dk_at dksX7_blows_0 8 rfl rfl)
theorem dX7_blows_11 : decode cX7_blows 11 = .ok (.iconst 0, 1) := dk_3 (dk_at dksX7_blows_0 11 rfl rfl)
theorem dX7_blows_12 : decode cX7_blows 12 = .ok (.iaload, 1) := dk_46 (dk_at dksX7_blows_0 12 rfl rfl)
theorem dX7_blows_13 : decode cX7_blows 13 = .ok (.bipush 100, 2) := dk_16 100 (dk_at dksX7_blows_0 13 rfl rfl)
theorem dX7_blows_15 : decode cX7_blows 15 = .ok (.irem, 1) := dk_112 (dk_at dksX7_blows_0 15 rfl rfl)
theorem dX7_blows_16 : decode cX7_blows 16 = .ok (.iadd, 1) := dk_96 (dk_at dksX7_blows_0 16 rfl rfl)
theorem dX7_blows_17 : decode cX7_blows 17 = .ok (.iaload, 1) := dk_46 (dk_at dksX7_blows_0 17 rfl rfl)
theorem dX7_blows_18 : decode cX7_blows 18 = .ok (.istore_n 1, 1) := dk_60 (dk_at dksX7_blows_0 18 rfl rfl)
theorem dX7_blows_19 : decode cX7_blows 19 = .ok (.iconst 0, 1) := dk_3 (dk_at dksX7_blows_0 19 rfl rfl)
theorem dX7_blows_20 : decode cX7_blows 20 = .ok (.istore_n 2, 1) := dk_61 (dk_at dksX7_blows_0 20 rfl rfl)
theorem dX7_blows_21 : decode cX7_blows 21 = .ok (.iload_n 2, 1) := dk_28 (dk_at dksX7_blows_0 21 rfl rfl)
theorem dX7_blows_22 : decode cX7_blows 22 = .ok (.aload_n 0, 1) := dk_42 (dk_at dksX7_blows_0 22 rfl rfl)
theorem dX7_blows_23 : decode cX7_blows 23 = .ok (.getfield 13, 3) := dk_180 0 13 (dk_at dksX7_blows_1 0 rfl rfl)
theorem dX7_blows_26 : decode cX7_blows 26 = .ok (.iconst 1, 1) := dk_4 (dk_at dksX7_blows_1 3 rfl rfl)
theorem dX7_blows_27 : decode cX7_blows 27 = .ok (.iaload, 1) := dk_46 (dk_at dksX7_blows_1 4 rfl rfl)
theorem dX7_blows_28 : decode cX7_blows 28 = .ok (.if_icmp .ge 195, 3) := dk_162 0 195 (dk_at dksX7_blows_1 5 rfl rfl)
theorem dX7_blows_31 : decode cX7_blows 31 = .ok (.aload_n 0, 1) := dk_42 (dk_at dksX7_blows_1 8 rfl rfl)
theorem dX7_blows_32 : decode cX7_blows 32 = .ok (.getfield 33, 3) := dk_180 0 33 (dk_at dksX7_blows_1 9 rfl rfl)
theorem dX7_blows_35 : decode cX7_blows 35 = .ok (.iload_n 2, 1) := dk_28 (dk_at dksX7_blows_1 12 rfl rfl)
theorem dX7_blows_36 : decode cX7_blows 36 = .ok (.iconst 0, 1) := dk_3 (dk_at dksX7_blows_1 13 rfl rfl)
theorem dX7_blows_37 : decode cX7_blows 37 = .ok (.iastore, 1) := dk_79 (dk_at dksX7_blows_1 14 rfl rfl)
theorem dX7_blows_38 : decode cX7_blows 38 = .ok (.aload_n 0, 1) := dk_42 (dk_at dksX7_blows_1 15 rfl rfl)
theorem dX7_blows_39 : decode cX7_blows 39 = .ok (.iload_n 2, 1) := dk_28 (dk_at dksX7_blows_1 16 rfl rfl)
theorem dX7_blows_40 : decode cX7_blows 40 = .ok (.invokevirtual 126, 3) := dk_182 0 126 (dk_at dksX7_blows_1 17 rfl rfl)
theorem dX7_blows_43 : decode cX7_blows 43 = .ok (.ifCond .ne 174, 3) := dk_154 0 174 (dk_at dksX7_blows_1 20 rfl rfl)
theorem dX7_blows_46 : decode cX7_blows 46 = .ok (.aload_n 0, 1) := dk_42 (dk_at dksX7_blows_1 23 rfl rfl)
theorem dX7_blows_47 : decode cX7_blows 47 = .ok (.iload_n 2, 1) := dk_28 (dk_at dksX7_blows_2 0 rfl rfl)
theorem dX7_blows_48 : decode cX7_blows 48 = .ok (.iconst 5, 1) := dk_8 (dk_at dksX7_blows_2 1 rfl rfl)
theorem dX7_blows_49 : decode cX7_blows 49 = .ok (.invokevirtual 84, 3) := dk_182 0 84 (dk_at dksX7_blows_2 2 rfl rfl)
theorem dX7_blows_52 : decode cX7_blows 52 = .ok (.bipush 40, 2) := dk_16 40 (dk_at dksX7_blows_2 5 rfl rfl)
theorem dX7_blows_54 : decode cX7_blows 54 = .ok (.if_icmp .lt 163, 3) := dk_161 0 163 (dk_at dksX7_blows_2 7 rfl rfl)
theorem dX7_blows_57 : decode cX7_blows 57 = .ok (.iload_n 1, 1) := dk_27 (dk_at dksX7_blows_2 10 rfl rfl)
theorem dX7_blows_58 : decode cX7_blows 58 = .ok (.ifCond .gt 6, 3) := dk_157 0 6 (dk_at dksX7_blows_2 11 rfl rfl)
theorem dX7_blows_61 : decode cX7_blows 61 = .ok (.goto 156, 3) := dk_167 0 156 (dk_at dksX7_blows_2 14 rfl rfl)
theorem dX7_blows_64 : decode cX7_blows 64 = .ok (.iconst 0, 1) := dk_3 (dk_at dksX7_blows_2 17 rfl rfl)
theorem dX7_blows_65 : decode cX7_blows 65 = .ok (.istore_n 3, 1) := dk_62 (dk_at dksX7_blows_2 18 rfl rfl)
theorem dX7_blows_66 : decode cX7_blows 66 = .ok (.iconst 0, 1) := dk_3 (dk_at dksX7_blows_2 19 rfl rfl)
theorem dX7_blows_67 : decode cX7_blows 67 = .ok (.istore 4, 2) := dk_54 4 (dk_at dksX7_blows_2 20 rfl rfl)
theorem dX7_blows_69 : decode cX7_blows 69 = .ok (.iload 4, 2) := dk_21 4 (dk_at dksX7_blows_2 22 rfl rfl)
theorem dX7_blows_71 : decode cX7_blows 71 = .ok (.aload_n 0, 1) := dk_42 (dk_at dksX7_blows_3 0 rfl rfl)
theorem dX7_blows_72 : decode cX7_blows 72 = .ok (.getfield 13, 3) := dk_180 0 13 (dk_at dksX7_blows_3 1 rfl rfl)
theorem dX7_blows_75 : decode cX7_blows 75 = .ok (.iconst 1, 1) := dk_4 (dk_at dksX7_blows_3 4 rfl rfl)
theorem dX7_blows_76 : decode cX7_blows 76 = .ok (.iaload, 1) := dk_46 (dk_at dksX7_blows_3 5 rfl rfl)
theorem dX7_blows_77 : decode cX7_blows 77 = .ok (.if_icmp .ge 50, 3) := dk_162 0 50 (dk_at dksX7_blows_3 6 rfl rfl)
theorem dX7_blows_80 : decode cX7_blows 80 = .ok (.iload_n 3, 1) := dk_29 (dk_at dksX7_blows_3 9 rfl rfl)
theorem dX7_blows_81 : decode cX7_blows 81 = .ok (.ifCond .ne 34, 3) := dk_154 0 34 (dk_at dksX7_blows_3 10 rfl rfl)
theorem dX7_blows_84 : decode cX7_blows 84 = .ok (.aload_n 0, 1) := dk_42 (dk_at dksX7_blows_3 13 rfl rfl)
theorem dX7_blows_85 : decode cX7_blows 85 = .ok (.iload_n 2, 1) := dk_28 (dk_at dksX7_blows_3 14 rfl rfl)
theorem dX7_blows_86 : decode cX7_blows 86 = .ok (.iload 4, 2) := dk_21 4 (dk_at dksX7_blows_3 15 rfl rfl)
theorem dX7_blows_88 : decode cX7_blows 88 = .ok (.invokevirtual 122, 3) := dk_182 0 122 (dk_at dksX7_blows_3 17 rfl rfl)
theorem dX7_blows_91 : decode cX7_blows 91 = .ok (.ifCond .eq 28, 3) := dk_153 0 28 (dk_at dksX7_blows_3 20 rfl rfl)
theorem dX7_blows_94 : decode cX7_blows 94 = .ok (.aload_n 0, 1) := dk_42 (dk_at dksX7_blows_3 23 rfl rfl)
theorem dX7_blows_95 : decode cX7_blows 95 = .ok (.iload 4, 2) := dk_21 4 (dk_at dksX7_blows_4 0 rfl rfl)
theorem dX7_blows_97 : decode cX7_blows 97 = .ok (.invokevirtual 126, 3) := dk_182 0 126 (dk_at dksX7_blows_4 2 rfl rfl)
theorem dX7_blows_100 : decode cX7_blows 100 = .ok (.ifCond .ne 15, 3) := dk_154 0 15 (dk_at dksX7_blows_4 5 rfl rfl)
theorem dX7_blows_103 : decode cX7_blows 103 = .ok (.aload_n 0, 1) := dk_42 (dk_at dksX7_blows_4 8 rfl rfl)
theorem dX7_blows_104 : decode cX7_blows 104 = .ok (.iload 4, 2) := dk_21 4 (dk_at dksX7_blows_4 9 rfl rfl)
theorem dX7_blows_106 : decode cX7_blows 106 = .ok (.iconst 5, 1) := dk_8 (dk_at dksX7_blows_4 11 rfl rfl)
theorem dX7_blows_107 : decode cX7_blows 107 = .ok (.invokevirtual 84, 3) := dk_182 0 84 (dk_at dksX7_blows_4 12 rfl rfl)
theorem dX7_blows_110 : decode cX7_blows 110 = .ok (.bipush 20, 2) := dk_16 20 (dk_at dksX7_blows_4 15 rfl rfl)
theorem dX7_blows_112 : decode cX7_blows 112 = .ok (.if_icmp .ge 7, 3) := dk_162 0 7 (dk_at dksX7_blows_4 17 rfl rfl)
theorem dX7_blows_115 : decode cX7_blows 115 = .ok (.iconst 1, 1) := dk_4 (dk_at dksX7_blows_4 20 rfl rfl)
theorem dX7_blows_116 : decode cX7_blows 116 = .ok (.goto 4, 3) := dk_167 0 4 (dk_at dksX7_blows_4 21 rfl rfl)
theorem dX7_blows_119 : decode cX7_blows 119 = .ok (.iconst 0, 1) := dk_3 (dk_at dksX7_blows_5 0 rfl rfl)
theorem dX7_blows_120 : decode cX7_blows 120 = .ok (.istore_n 3, 1) := dk_62 (dk_at dksX7_blows_5 1 rfl rfl)
theorem dX7_blows_121 : decode cX7_blows 121 = .ok (.iinc 4 1, 3) := dk_132 4 1 (dk_at dksX7_blows_5 2 rfl rfl)
theorem dX7_blows_124 : decode cX7_blows 124 = .ok (.goto (-55), 3) := dk_167 255 201 (dk_at dksX7_blows_5 5 rfl rfl)
theorem dX7_blows_127 : decode cX7_blows 127 = .ok (.iload_n 1, 1) := dk_27 (dk_at dksX7_blows_5 8 rfl rfl)
theorem dX7_blows_128 : decode cX7_blows 128 = .ok (.aload_n 0, 1) := dk_42 (dk_at dksX7_blows_5 9 rfl rfl)
theorem dX7_blows_129 : decode cX7_blows 129 = .ok (.iload_n 2, 1) := dk_28 (dk_at dksX7_blows_5 10 rfl rfl)
theorem dX7_blows_130 : decode cX7_blows 130 = .ok (.iconst 2, 1) := dk_5 (dk_at dksX7_blows_5 11 rfl rfl)
theorem dX7_blows_131 : decode cX7_blows 131 = .ok (.invokevirtual 84, 3) := dk_182 0 84 (dk_at dksX7_blows_5 12 rfl rfl)
theorem dX7_blows_134 : decode cX7_blows 134 = .ok (.ifCond .ne 8, 3) := dk_154 0 8 (dk_at dksX7_blows_5 15 rfl rfl)
theorem dX7_blows_137 : decode cX7_blows 137 = .ok (.bipush 6, 2) := dk_16 6 (dk_at dksX7_blows_5 18 rfl rfl)
theorem dX7_blows_139 : decode cX7_blows 139 = .ok (.goto 32, 3) := dk_167 0 32 (dk_at dksX7_blows_5 20 rfl rfl)
theorem dX7_blows_142 : decode cX7_blows 142 = .ok (.aload_n 0, 1) := dk_42 (dk_at dksX7_blows_5 23 rfl rfl)
theorem dX7_blows_143 : decode cX7_blows 143 = .ok (.iload_n 2, 1) := dk_28 (dk_at dksX7_blows_6 0 rfl rfl)
theorem dX7_blows_144 : decode cX7_blows 144 = .ok (.iconst 2, 1) := dk_5 (dk_at dksX7_blows_6 1 rfl rfl)
theorem dX7_blows_145 : decode cX7_blows 145 = .ok (.invokevirtual 84, 3) := dk_182 0 84 (dk_at dksX7_blows_6 2 rfl rfl)
theorem dX7_blows_148 : decode cX7_blows 148 = .ok (.iconst 1, 1) := dk_4 (dk_at dksX7_blows_6 5 rfl rfl)
theorem dX7_blows_149 : decode cX7_blows 149 = .ok (.if_icmp .ne 7, 3) := dk_160 0 7 (dk_at dksX7_blows_6 6 rfl rfl)
theorem dX7_blows_152 : decode cX7_blows 152 = .ok (.iconst 4, 1) := dk_7 (dk_at dksX7_blows_6 9 rfl rfl)
theorem dX7_blows_153 : decode cX7_blows 153 = .ok (.goto 18, 3) := dk_167 0 18 (dk_at dksX7_blows_6 10 rfl rfl)
theorem dX7_blows_156 : decode cX7_blows 156 = .ok (.aload_n 0, 1) := dk_42 (dk_at dksX7_blows_6 13 rfl rfl)
theorem dX7_blows_157 : decode cX7_blows 157 = .ok (.iload_n 2, 1) := dk_28 (dk_at dksX7_blows_6 14 rfl rfl)
theorem dX7_blows_158 : decode cX7_blows 158 = .ok (.iconst 2, 1) := dk_5 (dk_at dksX7_blows_6 15 rfl rfl)
theorem dX7_blows_159 : decode cX7_blows 159 = .ok (.invokevirtual 84, 3) := dk_182 0 84 (dk_at dksX7_blows_6 16 rfl rfl)
theorem dX7_blows_162 : decode cX7_blows 162 = .ok (.iconst 2, 1) := dk_5 (dk_at dksX7_blows_6 19 rfl rfl)
theorem dX7_blows_163 : decode cX7_blows 163 = .ok (.if_icmp .ne 7, 3) := dk_160 0 7 (dk_at dksX7_blows_6 20 rfl rfl)
theorem dX7_blows_166 : decode cX7_blows 166 = .ok (.iconst 3, 1) := dk_6 (dk_at dksX7_blows_6 23 rfl rfl)
theorem dX7_blows_167 : decode cX7_blows 167 = .ok (.goto 4, 3) := dk_167 0 4 (dk_at dksX7_blows_7 0 rfl rfl)
theorem dX7_blows_170 : decode cX7_blows 170 = .ok (.iconst 2, 1) := dk_5 (dk_at dksX7_blows_7 3 rfl rfl)
theorem dX7_blows_171 : decode cX7_blows 171 = .ok (.imul, 1) := dk_104 (dk_at dksX7_blows_7 4 rfl rfl)
theorem dX7_blows_172 : decode cX7_blows 172 = .ok (.iload_n 3, 1) := dk_29 (dk_at dksX7_blows_7 5 rfl rfl)
theorem dX7_blows_173 : decode cX7_blows 173 = .ok (.ifCond .eq 7, 3) := dk_153 0 7 (dk_at dksX7_blows_7 6 rfl rfl)
theorem dX7_blows_176 : decode cX7_blows 176 = .ok (.iconst 2, 1) := dk_5 (dk_at dksX7_blows_7 9 rfl rfl)
theorem dX7_blows_177 : decode cX7_blows 177 = .ok (.goto 4, 3) := dk_167 0 4 (dk_at dksX7_blows_7 10 rfl rfl)
theorem dX7_blows_180 : decode cX7_blows 180 = .ok (.iconst 1, 1) := dk_4 (dk_at dksX7_blows_7 13 rfl rfl)
theorem dX7_blows_181 : decode cX7_blows 181 = .ok (.imul, 1) := dk_104 (dk_at dksX7_blows_7 14 rfl rfl)
theorem dX7_blows_182 : decode cX7_blows 182 = .ok (.bipush 100, 2) := dk_16 100 (dk_at dksX7_blows_7 15 rfl rfl)
theorem dX7_blows_184 : decode cX7_blows 184 = .ok (.idiv, 1) := dk_108 (dk_at dksX7_blows_7 17 rfl rfl)
theorem dX7_blows_185 : decode cX7_blows 185 = .ok (.istore 4, 2) := dk_54 4 (dk_at dksX7_blows_7 18 rfl rfl)
theorem dX7_blows_187 : decode cX7_blows 187 = .ok (.aload_n 0, 1) := dk_42 (dk_at dksX7_blows_7 20 rfl rfl)
theorem dX7_blows_188 : decode cX7_blows 188 = .ok (.getfield 33, 3) := dk_180 0 33 (dk_at dksX7_blows_7 21 rfl rfl)
theorem dX7_blows_191 : decode cX7_blows 191 = .ok (.iload_n 2, 1) := dk_28 (dk_at dksX7_blows_8 0 rfl rfl)
theorem dX7_blows_192 : decode cX7_blows 192 = .ok (.iload 4, 2) := dk_21 4 (dk_at dksX7_blows_8 1 rfl rfl)
theorem dX7_blows_194 : decode cX7_blows 194 = .ok (.aload_n 0, 1) := dk_42 (dk_at dksX7_blows_8 3 rfl rfl)
theorem dX7_blows_195 : decode cX7_blows 195 = .ok (.iload_n 2, 1) := dk_28 (dk_at dksX7_blows_8 4 rfl rfl)
theorem dX7_blows_196 : decode cX7_blows 196 = .ok (.bipush 6, 2) := dk_16 6 (dk_at dksX7_blows_8 5 rfl rfl)
theorem dX7_blows_198 : decode cX7_blows 198 = .ok (.invokevirtual 84, 3) := dk_182 0 84 (dk_at dksX7_blows_8 7 rfl rfl)
theorem dX7_blows_201 : decode cX7_blows 201 = .ok (.if_icmp .ge 8, 3) := dk_162 0 8 (dk_at dksX7_blows_8 10 rfl rfl)
theorem dX7_blows_204 : decode cX7_blows 204 = .ok (.iload 4, 2) := dk_21 4 (dk_at dksX7_blows_8 13 rfl rfl)
theorem dX7_blows_206 : decode cX7_blows 206 = .ok (.goto 10, 3) := dk_167 0 10 (dk_at dksX7_blows_8 15 rfl rfl)
theorem dX7_blows_209 : decode cX7_blows 209 = .ok (.aload_n 0, 1) := dk_42 (dk_at dksX7_blows_8 18 rfl rfl)
theorem dX7_blows_210 : decode cX7_blows 210 = .ok (.iload_n 2, 1) := dk_28 (dk_at dksX7_blows_8 19 rfl rfl)
theorem dX7_blows_211 : decode cX7_blows 211 = .ok (.bipush 6, 2) := dk_16 6 (dk_at dksX7_blows_8 20 rfl rfl)
theorem dX7_blows_213 : decode cX7_blows 213 = .ok (.invokevirtual 84, 3) := dk_182 0 84 (dk_at dksX7_blows_9 0 rfl rfl)
theorem dX7_blows_216 : decode cX7_blows 216 = .ok (.iastore, 1) := dk_79 (dk_at dksX7_blows_9 3 rfl rfl)
theorem dX7_blows_217 : decode cX7_blows 217 = .ok (.iinc 2 1, 3) := dk_132 2 1 (dk_at dksX7_blows_9 4 rfl rfl)
theorem dX7_blows_220 : decode cX7_blows 220 = .ok (.goto (-199), 3) := dk_167 255 57 (dk_at dksX7_blows_9 7 rfl rfl)
theorem dX7_blows_223 : decode cX7_blows 223 = .ok (.iconst 0, 1) := dk_3 (dk_at dksX7_blows_9 10 rfl rfl)
theorem dX7_blows_224 : decode cX7_blows 224 = .ok (.istore_n 2, 1) := dk_61 (dk_at dksX7_blows_9 11 rfl rfl)
theorem dX7_blows_225 : decode cX7_blows 225 = .ok (.iload_n 2, 1) := dk_28 (dk_at dksX7_blows_9 12 rfl rfl)
theorem dX7_blows_226 : decode cX7_blows 226 = .ok (.aload_n 0, 1) := dk_42 (dk_at dksX7_blows_9 13 rfl rfl)
theorem dX7_blows_227 : decode cX7_blows 227 = .ok (.getfield 13, 3) := dk_180 0 13 (dk_at dksX7_blows_9 14 rfl rfl)
theorem dX7_blows_230 : decode cX7_blows 230 = .ok (.iconst 1, 1) := dk_4 (dk_at dksX7_blows_9 17 rfl rfl)
theorem dX7_blows_231 : decode cX7_blows 231 = .ok (.iaload, 1) := dk_46 (dk_at dksX7_blows_9 18 rfl rfl)
theorem dX7_blows_232 : decode cX7_blows 232 = .ok (.if_icmp .ge 71, 3) := dk_162 0 71 (dk_at dksX7_blows_9 19 rfl rfl)
theorem dX7_blows_235 : decode cX7_blows 235 = .ok (.aload_n 0, 1) := dk_42 (dk_at dksX7_blows_9 22 rfl rfl)
theorem dX7_blows_236 : decode cX7_blows 236 = .ok (.getfield 33, 3) := dk_180 0 33 (dk_at dksX7_blows_10 0 rfl rfl)
theorem dX7_blows_239 : decode cX7_blows 239 = .ok (.iload_n 2, 1) := dk_28 (dk_at dksX7_blows_10 3 rfl rfl)
theorem dX7_blows_240 : decode cX7_blows 240 = .ok (.iaload, 1) := dk_46 (dk_at dksX7_blows_10 4 rfl rfl)
theorem dX7_blows_241 : decode cX7_blows 241 = .ok (.ifCond .ne 6, 3) := dk_154 0 6 (dk_at dksX7_blows_10 5 rfl rfl)
theorem dX7_blows_244 : decode cX7_blows 244 = .ok (.goto 53, 3) := dk_167 0 53 (dk_at dksX7_blows_10 8 rfl rfl)
theorem dX7_blows_247 : decode cX7_blows 247 = .ok (.aload_n 0, 1) := dk_42 (dk_at dksX7_blows_10 11 rfl rfl)
theorem dX7_blows_248 : decode cX7_blows 248 = .ok (.iload_n 2, 1) := dk_28 (dk_at dksX7_blows_10 12 rfl rfl)
theorem dX7_blows_249 : decode cX7_blows 249 = .ok (.aload_n 0, 1) := dk_42 (dk_at dksX7_blows_10 13 rfl rfl)
theorem dX7_blows_250 : decode cX7_blows 250 = .ok (.iload_n 2, 1) := dk_28 (dk_at dksX7_blows_10 14 rfl rfl)
theorem dX7_blows_251 : decode cX7_blows 251 = .ok (.bipush 6, 2) := dk_16 6 (dk_at dksX7_blows_10 15 rfl rfl)
theorem dX7_blows_253 : decode cX7_blows 253 = .ok (.invokevirtual 84, 3) := dk_182 0 84 (dk_at dksX7_blows_10 17 rfl rfl)
theorem dX7_blows_256 : decode cX7_blows 256 = .ok (.aload_n 0, 1) := dk_42 (dk_at dksX7_blows_10 20 rfl rfl)
theorem dX7_blows_257 : decode cX7_blows 257 = .ok (.getfield 33, 3) := dk_180 0 33 (dk_at dksX7_blows_10 21 rfl rfl)
theorem dX7_blows_260 : decode cX7_blows 260 = .ok (.iload_n 2, 1) := dk_28 (dk_at dksX7_blows_11 0 rfl rfl)
theorem dX7_blows_261 : decode cX7_blows 261 = .ok (.iaload, 1) := dk_46 (dk_at dksX7_blows_11 1 rfl rfl)
theorem dX7_blows_262 : decode cX7_blows 262 = .ok (.isub, 1) := dk_100 (dk_at dksX7_blows_11 2 rfl rfl)
theorem dX7_blows_263 : decode cX7_blows 263 = .ok (.invokevirtual 362, 3) := dk_182 1 106 (dk_at dksX7_blows_11 3 rfl rfl)
theorem dX7_blows_266 : decode cX7_blows 266 = .ok (.istore_n 3, 1) := dk_62 (dk_at dksX7_blows_11 6 rfl rfl)
theorem dX7_blows_267 : decode cX7_blows 267 = .ok (.aload_n 0, 1) := dk_42 (dk_at dksX7_blows_11 7 rfl rfl)
theorem dX7_blows_268 : decode cX7_blows 268 = .ok (.getfield 17, 3) := dk_180 0 17 (dk_at dksX7_blows_11 8 rfl rfl)
theorem dX7_blows_271 : decode cX7_blows 271 = .ok (.iconst 3, 1) := dk_6 (dk_at dksX7_blows_11 11 rfl rfl)
theorem dX7_blows_272 : decode cX7_blows 272 = .ok (.dup2, 1) := dk_92 (dk_at dksX7_blows_11 12 rfl rfl)
theorem dX7_blows_273 : decode cX7_blows 273 = .ok (.laload, 1) := dk_47 (dk_at dksX7_blows_11 13 rfl rfl)
theorem dX7_blows_274 : decode cX7_blows 274 = .ok (.iload_n 3, 1) := dk_29 (dk_at dksX7_blows_11 14 rfl rfl)
theorem dX7_blows_275 : decode cX7_blows 275 = .ok (.i2l, 1) := dk_133 (dk_at dksX7_blows_11 15 rfl rfl)
theorem dX7_blows_276 : decode cX7_blows 276 = .ok (.ladd, 1) := dk_97 (dk_at dksX7_blows_11 16 rfl rfl)
theorem dX7_blows_277 : decode cX7_blows 277 = .ok (.lastore, 1) := dk_80 (dk_at dksX7_blows_11 17 rfl rfl)
theorem dX7_blows_278 : decode cX7_blows 278 = .ok (.aload_n 0, 1) := dk_42 (dk_at dksX7_blows_11 18 rfl rfl)
theorem dX7_blows_279 : decode cX7_blows 279 = .ok (.getfield 13, 3) := dk_180 0 13 (dk_at dksX7_blows_11 19 rfl rfl)
theorem dX7_blows_282 : decode cX7_blows 282 = .ok (.bipush 16, 2) := dk_16 16 (dk_at dksX7_blows_11 22 rfl rfl)
theorem dX7_blows_284 : decode cX7_blows 284 = .ok (.bipush 14, 2) := dk_16 14 (dk_at dksX7_blows_12 0 rfl rfl)
theorem dX7_blows_286 : decode cX7_blows 286 = .ok (.iload_n 2, 1) := dk_28 (dk_at dksX7_blows_12 2 rfl rfl)
theorem dX7_blows_287 : decode cX7_blows 287 = .ok (.imul, 1) := dk_104 (dk_at dksX7_blows_12 3 rfl rfl)
theorem dX7_blows_288 : decode cX7_blows 288 = .ok (.iadd, 1) := dk_96 (dk_at dksX7_blows_12 4 rfl rfl)
theorem dX7_blows_289 : decode cX7_blows 289 = .ok (.bipush 7, 2) := dk_16 7 (dk_at dksX7_blows_12 5 rfl rfl)
theorem dX7_blows_291 : decode cX7_blows 291 = .ok (.iadd, 1) := dk_96 (dk_at dksX7_blows_12 7 rfl rfl)
theorem dX7_blows_292 : decode cX7_blows 292 = .ok (.dup2, 1) := dk_92 (dk_at dksX7_blows_12 8 rfl rfl)
theorem dX7_blows_293 : decode cX7_blows 293 = .ok (.iaload, 1) := dk_46 (dk_at dksX7_blows_12 9 rfl rfl)
theorem dX7_blows_294 : decode cX7_blows 294 = .ok (.iload_n 3, 1) := dk_29 (dk_at dksX7_blows_12 10 rfl rfl)
theorem dX7_blows_295 : decode cX7_blows 295 = .ok (.iadd, 1) := dk_96 (dk_at dksX7_blows_12 11 rfl rfl)
theorem dX7_blows_296 : decode cX7_blows 296 = .ok (.iastore, 1) := dk_79 (dk_at dksX7_blows_12 12 rfl rfl)
theorem dX7_blows_297 : decode cX7_blows 297 = .ok (.iinc 2 1, 3) := dk_132 2 1 (dk_at dksX7_blows_12 13 rfl rfl)
theorem dX7_blows_300 : decode cX7_blows 300 = .ok (.goto (-75), 3) := dk_167 255 181 (dk_at dksX7_blows_12 16 rfl rfl)
theorem dX7_blows_303 : decode cX7_blows 303 = .ok (.return_, 1) := dk_177 (dk_at dksX7_blows_12 19 rfl rfl)
abbrev cX7_eats : ByteArray := prog_19_method_85_code
def yX7_eats : MethodName := ⟨RX7, "eats", "()V"⟩
def dkwX7_eats_9 : List UInt8 := [167, 0, 4, 3, 182, 1, 106, 133, 97, 80, 132, 1, 1, 167, 255, 166, 177]
abbrev dktX7_eats_9 : List UInt8 := dkwX7_eats_9 ++ []
def dkwX7_eats_8 : List UInt8 := [42, 27, 28, 42, 27, 16, 6, 182, 0, 84, 162, 0, 15, 42, 27, 16, 6, 182, 0, 84, 28, 100]
abbrev dktX7_eats_8 : List UInt8 := dkwX7_eats_8 ++ dktX7_eats_9
def dkwX7_eats_7 : List UInt8 := [42, 180, 0, 33, 27, 46, 16, 100, 108, 61, 28, 154, 0, 6, 167, 0, 42, 42, 180, 0, 17, 8, 92, 47]
abbrev dktX7_eats_7 : List UInt8 := dkwX7_eats_7 ++ dktX7_eats_8
def dkwX7_eats_6 : List UInt8 := [162, 0, 86, 42, 180, 0, 13, 16, 16, 16, 14, 27, 104, 96, 16, 8, 96, 42, 180, 0, 33, 27, 46, 79]
abbrev dktX7_eats_6 : List UInt8 := dkwX7_eats_6 ++ dktX7_eats_7
def dkwX7_eats_5 : List UInt8 := [96, 3, 17, 3, 232, 184, 0, 143, 79, 132, 1, 1, 167, 255, 128, 3, 60, 27, 42, 180, 0, 13, 4, 46]
abbrev dktX7_eats_5 : List UInt8 := dkwX7_eats_5 ++ dktX7_eats_6
def dkwX7_eats_4 : List UInt8 := [5, 108, 42, 27, 16, 7, 182, 0, 84, 16, 10, 42, 27, 7, 182, 0, 84, 104, 108, 96, 28, 16, 8, 108]
abbrev dktX7_eats_4 : List UInt8 := dkwX7_eats_4 ++ dktX7_eats_5
def dkwX7_eats_3 : List UInt8 := [167, 0, 4, 3, 96, 61, 132, 3, 1, 167, 255, 220, 42, 180, 0, 33, 27, 42, 27, 16, 8, 182, 0, 84]
abbrev dktX7_eats_3 : List UInt8 := dkwX7_eats_3 ++ dktX7_eats_4
def dkwX7_eats_2 : List UInt8 := [4, 46, 162, 0, 32, 28, 42, 27, 29, 182, 0, 122, 153, 0, 13, 42, 29, 16, 8, 182, 0, 84]
abbrev dktX7_eats_2 : List UInt8 := dkwX7_eats_2 ++ dktX7_eats_3
def dkwX7_eats_1 : List UInt8 := [154, 0, 103, 42, 27, 5, 182, 0, 84, 153, 0, 6, 167, 0, 91, 3, 61, 3, 62, 29, 42, 180, 0, 13]
abbrev dktX7_eats_1 : List UInt8 := dkwX7_eats_1 ++ dktX7_eats_2
def dkwX7_eats_0 : List UInt8 := [3, 60, 27, 42, 180, 0, 13, 4, 46, 162, 0, 124, 42, 180, 0, 33, 27, 3, 79, 42, 27, 182, 0, 126]
abbrev dktX7_eats_0 : List UInt8 := dkwX7_eats_0 ++ dktX7_eats_1
theorem dksX7_eats_0 : cX7_eats.data.toList.drop 0 = dktX7_eats_0 := by decide +kernel
theorem dksX7_eats_1 : cX7_eats.data.toList.drop 24 = dktX7_eats_1 := dk_seg dksX7_eats_0 24 rfl rfl
theorem dksX7_eats_2 : cX7_eats.data.toList.drop 48 = dktX7_eats_2 := dk_seg dksX7_eats_1 24 rfl rfl
theorem dksX7_eats_3 : cX7_eats.data.toList.drop 70 = dktX7_eats_3 := dk_seg dksX7_eats_2 22 rfl rfl
theorem dksX7_eats_4 : cX7_eats.data.toList.drop 94 = dktX7_eats_4 := dk_seg dksX7_eats_3 24 rfl rfl
theorem dksX7_eats_5 : cX7_eats.data.toList.drop 118 = dktX7_eats_5 := dk_seg dksX7_eats_4 24 rfl rfl
theorem dksX7_eats_6 : cX7_eats.data.toList.drop 142 = dktX7_eats_6 := dk_seg dksX7_eats_5 24 rfl rfl
theorem dksX7_eats_7 : cX7_eats.data.toList.drop 166 = dktX7_eats_7 := dk_seg dksX7_eats_6 24 rfl rfl
theorem dksX7_eats_8 : cX7_eats.data.toList.drop 190 = dktX7_eats_8 := dk_seg dksX7_eats_7 24 rfl rfl
theorem dksX7_eats_9 : cX7_eats.data.toList.drop 212 = dktX7_eats_9 := dk_seg dksX7_eats_8 22 rfl rfl
theorem dX7_eats_0 : decode cX7_eats 0 = .ok (.iconst 0, 1) := dk_3 (dk_at dksX7_eats_0 0 rfl rfl)
theorem dX7_eats_1 : decode cX7_eats 1 = .ok (.istore_n 1, 1) := dk_60 (dk_at dksX7_eats_0 1 rfl rfl)
theorem dX7_eats_2 : decode cX7_eats 2 = .ok (.iload_n 1, 1) := dk_27 (dk_at dksX7_eats_0 2 rfl rfl)
theorem dX7_eats_3 : decode cX7_eats 3 = .ok (.aload_n 0, 1) := dk_42 (dk_at dksX7_eats_0 3 rfl rfl)
theorem dX7_eats_4 : decode cX7_eats 4 = .ok (.getfield 13, 3) := dk_180 0 13 (dk_at dksX7_eats_0 4 rfl rfl)
theorem dX7_eats_7 : decode cX7_eats 7 = .ok (.iconst 1, 1) := dk_4 (dk_at dksX7_eats_0 7 rfl rfl)
theorem dX7_eats_8 : decode cX7_eats 8 = .ok (.iaload, 1) := dk_46 (dk_at dksX7_eats_0 8 rfl rfl)
theorem dX7_eats_9 : decode cX7_eats 9 = .ok (.if_icmp .ge 124, 3) := dk_162 0 124 (dk_at dksX7_eats_0 9 rfl rfl)
theorem dX7_eats_12 : decode cX7_eats 12 = .ok (.aload_n 0, 1) := dk_42 (dk_at dksX7_eats_0 12 rfl rfl)
theorem dX7_eats_13 : decode cX7_eats 13 = .ok (.getfield 33, 3) := dk_180 0 33 (dk_at dksX7_eats_0 13 rfl rfl)
theorem dX7_eats_16 : decode cX7_eats 16 = .ok (.iload_n 1, 1) := dk_27 (dk_at dksX7_eats_0 16 rfl rfl)
theorem dX7_eats_17 : decode cX7_eats 17 = .ok (.iconst 0, 1) := dk_3 (dk_at dksX7_eats_0 17 rfl rfl)
theorem dX7_eats_18 : decode cX7_eats 18 = .ok (.iastore, 1) := dk_79 (dk_at dksX7_eats_0 18 rfl rfl)
theorem dX7_eats_19 : decode cX7_eats 19 = .ok (.aload_n 0, 1) := dk_42 (dk_at dksX7_eats_0 19 rfl rfl)
theorem dX7_eats_20 : decode cX7_eats 20 = .ok (.iload_n 1, 1) := dk_27 (dk_at dksX7_eats_0 20 rfl rfl)
theorem dX7_eats_21 : decode cX7_eats 21 = .ok (.invokevirtual 126, 3) := dk_182 0 126 (dk_at dksX7_eats_0 21 rfl rfl)
theorem dX7_eats_24 : decode cX7_eats 24 = .ok (.ifCond .ne 103, 3) := dk_154 0 103 (dk_at dksX7_eats_1 0 rfl rfl)
theorem dX7_eats_27 : decode cX7_eats 27 = .ok (.aload_n 0, 1) := dk_42 (dk_at dksX7_eats_1 3 rfl rfl)
theorem dX7_eats_28 : decode cX7_eats 28 = .ok (.iload_n 1, 1) := dk_27 (dk_at dksX7_eats_1 4 rfl rfl)
theorem dX7_eats_29 : decode cX7_eats 29 = .ok (.iconst 2, 1) := dk_5 (dk_at dksX7_eats_1 5 rfl rfl)
theorem dX7_eats_30 : decode cX7_eats 30 = .ok (.invokevirtual 84, 3) := dk_182 0 84 (dk_at dksX7_eats_1 6 rfl rfl)
theorem dX7_eats_33 : decode cX7_eats 33 = .ok (.ifCond .eq 6, 3) := dk_153 0 6 (dk_at dksX7_eats_1 9 rfl rfl)
theorem dX7_eats_36 : decode cX7_eats 36 = .ok (.goto 91, 3) := dk_167 0 91 (dk_at dksX7_eats_1 12 rfl rfl)
theorem dX7_eats_39 : decode cX7_eats 39 = .ok (.iconst 0, 1) := dk_3 (dk_at dksX7_eats_1 15 rfl rfl)
theorem dX7_eats_40 : decode cX7_eats 40 = .ok (.istore_n 2, 1) := dk_61 (dk_at dksX7_eats_1 16 rfl rfl)
theorem dX7_eats_41 : decode cX7_eats 41 = .ok (.iconst 0, 1) := dk_3 (dk_at dksX7_eats_1 17 rfl rfl)
theorem dX7_eats_42 : decode cX7_eats 42 = .ok (.istore_n 3, 1) := dk_62 (dk_at dksX7_eats_1 18 rfl rfl)
theorem dX7_eats_43 : decode cX7_eats 43 = .ok (.iload_n 3, 1) := dk_29 (dk_at dksX7_eats_1 19 rfl rfl)
theorem dX7_eats_44 : decode cX7_eats 44 = .ok (.aload_n 0, 1) := dk_42 (dk_at dksX7_eats_1 20 rfl rfl)
theorem dX7_eats_45 : decode cX7_eats 45 = .ok (.getfield 13, 3) := dk_180 0 13 (dk_at dksX7_eats_1 21 rfl rfl)
theorem dX7_eats_48 : decode cX7_eats 48 = .ok (.iconst 1, 1) := dk_4 (dk_at dksX7_eats_2 0 rfl rfl)
theorem dX7_eats_49 : decode cX7_eats 49 = .ok (.iaload, 1) := dk_46 (dk_at dksX7_eats_2 1 rfl rfl)
theorem dX7_eats_50 : decode cX7_eats 50 = .ok (.if_icmp .ge 32, 3) := dk_162 0 32 (dk_at dksX7_eats_2 2 rfl rfl)
theorem dX7_eats_53 : decode cX7_eats 53 = .ok (.iload_n 2, 1) := dk_28 (dk_at dksX7_eats_2 5 rfl rfl)
theorem dX7_eats_54 : decode cX7_eats 54 = .ok (.aload_n 0, 1) := dk_42 (dk_at dksX7_eats_2 6 rfl rfl)
theorem dX7_eats_55 : decode cX7_eats 55 = .ok (.iload_n 1, 1) := dk_27 (dk_at dksX7_eats_2 7 rfl rfl)
theorem dX7_eats_56 : decode cX7_eats 56 = .ok (.iload_n 3, 1) := dk_29 (dk_at dksX7_eats_2 8 rfl rfl)
theorem dX7_eats_57 : decode cX7_eats 57 = .ok (.invokevirtual 122, 3) := dk_182 0 122 (dk_at dksX7_eats_2 9 rfl rfl)
theorem dX7_eats_60 : decode cX7_eats 60 = .ok (.ifCond .eq 13, 3) := dk_153 0 13 (dk_at dksX7_eats_2 12 rfl rfl)
theorem dX7_eats_63 : decode cX7_eats 63 = .ok (.aload_n 0, 1) := dk_42 (dk_at dksX7_eats_2 15 rfl rfl)
theorem dX7_eats_64 : decode cX7_eats 64 = .ok (.iload_n 3, 1) := dk_29 (dk_at dksX7_eats_2 16 rfl rfl)
theorem dX7_eats_65 : decode cX7_eats 65 = .ok (.bipush 8, 2) := dk_16 8 (dk_at dksX7_eats_2 17 rfl rfl)
theorem dX7_eats_67 : decode cX7_eats 67 = .ok (.invokevirtual 84, 3) := dk_182 0 84 (dk_at dksX7_eats_2 19 rfl rfl)
theorem dX7_eats_70 : decode cX7_eats 70 = .ok (.goto 4, 3) := dk_167 0 4 (dk_at dksX7_eats_3 0 rfl rfl)
theorem dX7_eats_73 : decode cX7_eats 73 = .ok (.iconst 0, 1) := dk_3 (dk_at dksX7_eats_3 3 rfl rfl)
theorem dX7_eats_74 : decode cX7_eats 74 = .ok (.iadd, 1) := dk_96 (dk_at dksX7_eats_3 4 rfl rfl)
theorem dX7_eats_75 : decode cX7_eats 75 = .ok (.istore_n 2, 1) := dk_61 (dk_at dksX7_eats_3 5 rfl rfl)
theorem dX7_eats_76 : decode cX7_eats 76 = .ok (.iinc 3 1, 3) := dk_132 3 1 (dk_at dksX7_eats_3 6 rfl rfl)
theorem dX7_eats_79 : decode cX7_eats 79 = .ok (.goto (-36), 3) := dk_167 255 220 (dk_at dksX7_eats_3 9 rfl rfl)
theorem dX7_eats_82 : decode cX7_eats 82 = .ok (.aload_n 0, 1) := dk_42 (dk_at dksX7_eats_3 12 rfl rfl)
theorem dX7_eats_83 : decode cX7_eats 83 = .ok (.getfield 33, 3) := dk_180 0 33 (dk_at dksX7_eats_3 13 rfl rfl)
theorem dX7_eats_86 : decode cX7_eats 86 = .ok (.iload_n 1, 1) := dk_27 (dk_at dksX7_eats_3 16 rfl rfl)
theorem dX7_eats_87 : decode cX7_eats 87 = .ok (.aload_n 0, 1) := dk_42 (dk_at dksX7_eats_3 17 rfl rfl)
theorem dX7_eats_88 : decode cX7_eats 88 = .ok (.iload_n 1, 1) := dk_27 (dk_at dksX7_eats_3 18 rfl rfl)
theorem dX7_eats_89 : decode cX7_eats 89 = .ok (.bipush 8, 2) := dk_16 8 (dk_at dksX7_eats_3 19 rfl rfl)
theorem dX7_eats_91 : decode cX7_eats 91 = .ok (.invokevirtual 84, 3) := dk_182 0 84 (dk_at dksX7_eats_3 21 rfl rfl)
theorem dX7_eats_94 : decode cX7_eats 94 = .ok (.iconst 2, 1) := dk_5 (dk_at dksX7_eats_4 0 rfl rfl)
theorem dX7_eats_95 : decode cX7_eats 95 = .ok (.idiv, 1) := dk_108 (dk_at dksX7_eats_4 1 rfl rfl)
theorem dX7_eats_96 : decode cX7_eats 96 = .ok (.aload_n 0, 1) := dk_42 (dk_at dksX7_eats_4 2 rfl rfl)
theorem dX7_eats_97 : decode cX7_eats 97 = .ok (.iload_n 1, 1) := dk_27 (dk_at dksX7_eats_4 3 rfl rfl)
theorem dX7_eats_98 : decode cX7_eats 98 = .ok (.bipush 7, 2) := dk_16 7 (dk_at dksX7_eats_4 4 rfl rfl)
theorem dX7_eats_100 : decode cX7_eats 100 = .ok (.invokevirtual 84, 3) := dk_182 0 84 (dk_at dksX7_eats_4 6 rfl rfl)
theorem dX7_eats_103 : decode cX7_eats 103 = .ok (.bipush 10, 2) := dk_16 10 (dk_at dksX7_eats_4 9 rfl rfl)
theorem dX7_eats_105 : decode cX7_eats 105 = .ok (.aload_n 0, 1) := dk_42 (dk_at dksX7_eats_4 11 rfl rfl)
theorem dX7_eats_106 : decode cX7_eats 106 = .ok (.iload_n 1, 1) := dk_27 (dk_at dksX7_eats_4 12 rfl rfl)
theorem dX7_eats_107 : decode cX7_eats 107 = .ok (.iconst 4, 1) := dk_7 (dk_at dksX7_eats_4 13 rfl rfl)
theorem dX7_eats_108 : decode cX7_eats 108 = .ok (.invokevirtual 84, 3) := dk_182 0 84 (dk_at dksX7_eats_4 14 rfl rfl)
theorem dX7_eats_111 : decode cX7_eats 111 = .ok (.imul, 1) := dk_104 (dk_at dksX7_eats_4 17 rfl rfl)
theorem dX7_eats_112 : decode cX7_eats 112 = .ok (.idiv, 1) := dk_108 (dk_at dksX7_eats_4 18 rfl rfl)
theorem dX7_eats_113 : decode cX7_eats 113 = .ok (.iadd, 1) := dk_96 (dk_at dksX7_eats_4 19 rfl rfl)
theorem dX7_eats_114 : decode cX7_eats 114 = .ok (.iload_n 2, 1) := dk_28 (dk_at dksX7_eats_4 20 rfl rfl)
theorem dX7_eats_115 : decode cX7_eats 115 = .ok (.bipush 8, 2) := dk_16 8 (dk_at dksX7_eats_4 21 rfl rfl)
theorem dX7_eats_117 : decode cX7_eats 117 = .ok (.idiv, 1) := dk_108 (dk_at dksX7_eats_4 23 rfl rfl)
theorem dX7_eats_118 : decode cX7_eats 118 = .ok (.iadd, 1) := dk_96 (dk_at dksX7_eats_5 0 rfl rfl)
theorem dX7_eats_119 : decode cX7_eats 119 = .ok (.iconst 0, 1) := dk_3 (dk_at dksX7_eats_5 1 rfl rfl)
theorem dX7_eats_120 : decode cX7_eats 120 = .ok (.sipush 1000, 3) := dk_17 3 232 (dk_at dksX7_eats_5 2 rfl rfl)
theorem dX7_eats_123 : decode cX7_eats 123 = .ok (.invokestatic 143, 3) := dk_184 0 143 (dk_at dksX7_eats_5 5 rfl rfl)
theorem dX7_eats_126 : decode cX7_eats 126 = .ok (.iastore, 1) := dk_79 (dk_at dksX7_eats_5 8 rfl rfl)
theorem dX7_eats_127 : decode cX7_eats 127 = .ok (.iinc 1 1, 3) := dk_132 1 1 (dk_at dksX7_eats_5 9 rfl rfl)
theorem dX7_eats_130 : decode cX7_eats 130 = .ok (.goto (-128), 3) := dk_167 255 128 (dk_at dksX7_eats_5 12 rfl rfl)
theorem dX7_eats_133 : decode cX7_eats 133 = .ok (.iconst 0, 1) := dk_3 (dk_at dksX7_eats_5 15 rfl rfl)
theorem dX7_eats_134 : decode cX7_eats 134 = .ok (.istore_n 1, 1) := dk_60 (dk_at dksX7_eats_5 16 rfl rfl)
theorem dX7_eats_135 : decode cX7_eats 135 = .ok (.iload_n 1, 1) := dk_27 (dk_at dksX7_eats_5 17 rfl rfl)
theorem dX7_eats_136 : decode cX7_eats 136 = .ok (.aload_n 0, 1) := dk_42 (dk_at dksX7_eats_5 18 rfl rfl)
theorem dX7_eats_137 : decode cX7_eats 137 = .ok (.getfield 13, 3) := dk_180 0 13 (dk_at dksX7_eats_5 19 rfl rfl)
theorem dX7_eats_140 : decode cX7_eats 140 = .ok (.iconst 1, 1) := dk_4 (dk_at dksX7_eats_5 22 rfl rfl)
theorem dX7_eats_141 : decode cX7_eats 141 = .ok (.iaload, 1) := dk_46 (dk_at dksX7_eats_5 23 rfl rfl)
theorem dX7_eats_142 : decode cX7_eats 142 = .ok (.if_icmp .ge 86, 3) := dk_162 0 86 (dk_at dksX7_eats_6 0 rfl rfl)
theorem dX7_eats_145 : decode cX7_eats 145 = .ok (.aload_n 0, 1) := dk_42 (dk_at dksX7_eats_6 3 rfl rfl)
theorem dX7_eats_146 : decode cX7_eats 146 = .ok (.getfield 13, 3) := dk_180 0 13 (dk_at dksX7_eats_6 4 rfl rfl)
theorem dX7_eats_149 : decode cX7_eats 149 = .ok (.bipush 16, 2) := dk_16 16 (dk_at dksX7_eats_6 7 rfl rfl)
theorem dX7_eats_151 : decode cX7_eats 151 = .ok (.bipush 14, 2) := dk_16 14 (dk_at dksX7_eats_6 9 rfl rfl)
theorem dX7_eats_153 : decode cX7_eats 153 = .ok (.iload_n 1, 1) := dk_27 (dk_at dksX7_eats_6 11 rfl rfl)
theorem dX7_eats_154 : decode cX7_eats 154 = .ok (.imul, 1) := dk_104 (dk_at dksX7_eats_6 12 rfl rfl)
theorem dX7_eats_155 : decode cX7_eats 155 = .ok (.iadd, 1) := dk_96 (dk_at dksX7_eats_6 13 rfl rfl)
theorem dX7_eats_156 : decode cX7_eats 156 = .ok (.bipush 8, 2) := dk_16 8 (dk_at dksX7_eats_6 14 rfl rfl)
theorem dX7_eats_158 : decode cX7_eats 158 = .ok (.iadd, 1) := dk_96 (dk_at dksX7_eats_6 16 rfl rfl)
theorem dX7_eats_159 : decode cX7_eats 159 = .ok (.aload_n 0, 1) := dk_42 (dk_at dksX7_eats_6 17 rfl rfl)
theorem dX7_eats_160 : decode cX7_eats 160 = .ok (.getfield 33, 3) := dk_180 0 33 (dk_at dksX7_eats_6 18 rfl rfl)
theorem dX7_eats_163 : decode cX7_eats 163 = .ok (.iload_n 1, 1) := dk_27 (dk_at dksX7_eats_6 21 rfl rfl)
theorem dX7_eats_164 : decode cX7_eats 164 = .ok (.iaload, 1) := dk_46 (dk_at dksX7_eats_6 22 rfl rfl)
theorem dX7_eats_165 : decode cX7_eats 165 = .ok (.iastore, 1) := dk_79 (dk_at dksX7_eats_6 23 rfl rfl)
theorem dX7_eats_166 : decode cX7_eats 166 = .ok (.aload_n 0, 1) := dk_42 (dk_at dksX7_eats_7 0 rfl rfl)
theorem dX7_eats_167 : decode cX7_eats 167 = .ok (.getfield 33, 3) := dk_180 0 33 (dk_at dksX7_eats_7 1 rfl rfl)
theorem dX7_eats_170 : decode cX7_eats 170 = .ok (.iload_n 1, 1) := dk_27 (dk_at dksX7_eats_7 4 rfl rfl)
theorem dX7_eats_171 : decode cX7_eats 171 = .ok (.iaload, 1) := dk_46 (dk_at dksX7_eats_7 5 rfl rfl)
theorem dX7_eats_172 : decode cX7_eats 172 = .ok (.bipush 100, 2) := dk_16 100 (dk_at dksX7_eats_7 6 rfl rfl)
theorem dX7_eats_174 : decode cX7_eats 174 = .ok (.idiv, 1) := dk_108 (dk_at dksX7_eats_7 8 rfl rfl)
theorem dX7_eats_175 : decode cX7_eats 175 = .ok (.istore_n 2, 1) := dk_61 (dk_at dksX7_eats_7 9 rfl rfl)
theorem dX7_eats_176 : decode cX7_eats 176 = .ok (.iload_n 2, 1) := dk_28 (dk_at dksX7_eats_7 10 rfl rfl)
theorem dX7_eats_177 : decode cX7_eats 177 = .ok (.ifCond .ne 6, 3) := dk_154 0 6 (dk_at dksX7_eats_7 11 rfl rfl)
theorem dX7_eats_180 : decode cX7_eats 180 = .ok (.goto 42, 3) := dk_167 0 42 (dk_at dksX7_eats_7 14 rfl rfl)
theorem dX7_eats_183 : decode cX7_eats 183 = .ok (.aload_n 0, 1) := dk_42 (dk_at dksX7_eats_7 17 rfl rfl)
theorem dX7_eats_184 : decode cX7_eats 184 = .ok (.getfield 17, 3) := dk_180 0 17 (dk_at dksX7_eats_7 18 rfl rfl)
theorem dX7_eats_187 : decode cX7_eats 187 = .ok (.iconst 5, 1) := dk_8 (dk_at dksX7_eats_7 21 rfl rfl)
theorem dX7_eats_188 : decode cX7_eats 188 = .ok (.dup2, 1) := dk_92 (dk_at dksX7_eats_7 22 rfl rfl)
theorem dX7_eats_189 : decode cX7_eats 189 = .ok (.laload, 1) := dk_47 (dk_at dksX7_eats_7 23 rfl rfl)
theorem dX7_eats_190 : decode cX7_eats 190 = .ok (.aload_n 0, 1) := dk_42 (dk_at dksX7_eats_8 0 rfl rfl)
theorem dX7_eats_191 : decode cX7_eats 191 = .ok (.iload_n 1, 1) := dk_27 (dk_at dksX7_eats_8 1 rfl rfl)
theorem dX7_eats_192 : decode cX7_eats 192 = .ok (.iload_n 2, 1) := dk_28 (dk_at dksX7_eats_8 2 rfl rfl)
theorem dX7_eats_193 : decode cX7_eats 193 = .ok (.aload_n 0, 1) := dk_42 (dk_at dksX7_eats_8 3 rfl rfl)
theorem dX7_eats_194 : decode cX7_eats 194 = .ok (.iload_n 1, 1) := dk_27 (dk_at dksX7_eats_8 4 rfl rfl)
theorem dX7_eats_195 : decode cX7_eats 195 = .ok (.bipush 6, 2) := dk_16 6 (dk_at dksX7_eats_8 5 rfl rfl)
theorem dX7_eats_197 : decode cX7_eats 197 = .ok (.invokevirtual 84, 3) := dk_182 0 84 (dk_at dksX7_eats_8 7 rfl rfl)
theorem dX7_eats_200 : decode cX7_eats 200 = .ok (.if_icmp .ge 15, 3) := dk_162 0 15 (dk_at dksX7_eats_8 10 rfl rfl)
theorem dX7_eats_203 : decode cX7_eats 203 = .ok (.aload_n 0, 1) := dk_42 (dk_at dksX7_eats_8 13 rfl rfl)
theorem dX7_eats_204 : decode cX7_eats 204 = .ok (.iload_n 1, 1) := dk_27 (dk_at dksX7_eats_8 14 rfl rfl)
theorem dX7_eats_205 : decode cX7_eats 205 = .ok (.bipush 6, 2) := dk_16 6 (dk_at dksX7_eats_8 15 rfl rfl)
theorem dX7_eats_207 : decode cX7_eats 207 = .ok (.invokevirtual 84, 3) := dk_182 0 84 (dk_at dksX7_eats_8 17 rfl rfl)
theorem dX7_eats_210 : decode cX7_eats 210 = .ok (.iload_n 2, 1) := dk_28 (dk_at dksX7_eats_8 20 rfl rfl)
theorem dX7_eats_211 : decode cX7_eats 211 = .ok (.isub, 1) := dk_100 (dk_at dksX7_eats_8 21 rfl rfl)
theorem dX7_eats_212 : decode cX7_eats 212 = .ok (.goto 4, 3) := dk_167 0 4 (dk_at dksX7_eats_9 0 rfl rfl)
theorem dX7_eats_215 : decode cX7_eats 215 = .ok (.iconst 0, 1) := dk_3 (dk_at dksX7_eats_9 3 rfl rfl)
theorem dX7_eats_216 : decode cX7_eats 216 = .ok (.invokevirtual 362, 3) := dk_182 1 106 (dk_at dksX7_eats_9 4 rfl rfl)
theorem dX7_eats_219 : decode cX7_eats 219 = .ok (.i2l, 1) := dk_133 (dk_at dksX7_eats_9 7 rfl rfl)
theorem dX7_eats_220 : decode cX7_eats 220 = .ok (.ladd, 1) := dk_97 (dk_at dksX7_eats_9 8 rfl rfl)
theorem dX7_eats_221 : decode cX7_eats 221 = .ok (.lastore, 1) := dk_80 (dk_at dksX7_eats_9 9 rfl rfl)
theorem dX7_eats_222 : decode cX7_eats 222 = .ok (.iinc 1 1, 3) := dk_132 1 1 (dk_at dksX7_eats_9 10 rfl rfl)
theorem dX7_eats_225 : decode cX7_eats 225 = .ok (.goto (-90), 3) := dk_167 255 166 (dk_at dksX7_eats_9 13 rfl rfl)
theorem dX7_eats_228 : decode cX7_eats 228 = .ok (.return_, 1) := dk_177 (dk_at dksX7_eats_9 16 rfl rfl)
abbrev cX7_rotsAndGrows : ByteArray := prog_19_method_86_code
def yX7_rotsAndGrows : MethodName := ⟨RX7, "rotsAndGrows", "()V"⟩
def dkwX7_rotsAndGrows_6 : List UInt8 := [162, 0, 16, 42, 180, 0, 13, 28, 16, 6, 96, 92, 46, 4, 96, 79, 132, 1, 1, 167, 255, 98, 177]
abbrev dktX7_rotsAndGrows_6 : List UInt8 := dkwX7_rotsAndGrows_6 ++ []
def dkwX7_rotsAndGrows_5 : List UInt8 := [180, 0, 13, 28, 16, 6, 96, 46, 16, 100, 162, 0, 29, 42, 180, 0, 13, 28, 8, 96, 46, 16, 100]
abbrev dktX7_rotsAndGrows_5 : List UInt8 := dkwX7_rotsAndGrows_5 ++ dktX7_rotsAndGrows_6
def dkwX7_rotsAndGrows_4 : List UInt8 := [8, 96, 46, 17, 1, 144, 162, 0, 15, 42, 180, 0, 13, 28, 8, 96, 92, 46, 4, 96, 79, 42]
abbrev dktX7_rotsAndGrows_4 : List UInt8 := dkwX7_rotsAndGrows_4 ++ dktX7_rotsAndGrows_5
def dkwX7_rotsAndGrows_3 : List UInt8 := [42, 27, 16, 10, 182, 0, 84, 42, 180, 0, 13, 3, 46, 160, 0, 6, 167, 0, 69, 42, 180, 0, 13, 28]
abbrev dktX7_rotsAndGrows_3 : List UInt8 := dkwX7_rotsAndGrows_3 ++ dktX7_rotsAndGrows_4
def dkwX7_rotsAndGrows_2 : List UInt8 := [133, 97, 80, 42, 180, 0, 13, 28, 16, 7, 96, 92, 46, 5, 108, 79, 42, 27, 182, 0, 126, 154, 0, 88]
abbrev dktX7_rotsAndGrows_2 : List UInt8 := dkwX7_rotsAndGrows_2 ++ dktX7_rotsAndGrows_3
def dkwX7_rotsAndGrows_1 : List UInt8 := [7, 92, 47, 42, 180, 0, 13, 28, 16, 7, 96, 46, 42, 180, 0, 13, 28, 16, 7, 96, 46, 5, 108, 100]
abbrev dktX7_rotsAndGrows_1 : List UInt8 := dkwX7_rotsAndGrows_1 ++ dktX7_rotsAndGrows_2
def dkwX7_rotsAndGrows_0 : List UInt8 := [3, 60, 27, 42, 180, 0, 13, 4, 46, 162, 0, 154, 16, 16, 16, 14, 27, 104, 96, 61, 42, 180, 0, 17]
abbrev dktX7_rotsAndGrows_0 : List UInt8 := dkwX7_rotsAndGrows_0 ++ dktX7_rotsAndGrows_1
theorem dksX7_rotsAndGrows_0 : cX7_rotsAndGrows.data.toList.drop 0 = dktX7_rotsAndGrows_0 := by decide +kernel
theorem dksX7_rotsAndGrows_1 : cX7_rotsAndGrows.data.toList.drop 24 = dktX7_rotsAndGrows_1 := dk_seg dksX7_rotsAndGrows_0 24 rfl rfl
theorem dksX7_rotsAndGrows_2 : cX7_rotsAndGrows.data.toList.drop 48 = dktX7_rotsAndGrows_2 := dk_seg dksX7_rotsAndGrows_1 24 rfl rfl
theorem dksX7_rotsAndGrows_3 : cX7_rotsAndGrows.data.toList.drop 72 = dktX7_rotsAndGrows_3 := dk_seg dksX7_rotsAndGrows_2 24 rfl rfl
theorem dksX7_rotsAndGrows_4 : cX7_rotsAndGrows.data.toList.drop 96 = dktX7_rotsAndGrows_4 := dk_seg dksX7_rotsAndGrows_3 24 rfl rfl
theorem dksX7_rotsAndGrows_5 : cX7_rotsAndGrows.data.toList.drop 118 = dktX7_rotsAndGrows_5 := dk_seg dksX7_rotsAndGrows_4 22 rfl rfl
theorem dksX7_rotsAndGrows_6 : cX7_rotsAndGrows.data.toList.drop 141 = dktX7_rotsAndGrows_6 := dk_seg dksX7_rotsAndGrows_5 23 rfl rfl
theorem dX7_rotsAndGrows_0 : decode cX7_rotsAndGrows 0 = .ok (.iconst 0, 1) := dk_3 (dk_at dksX7_rotsAndGrows_0 0 rfl rfl)
theorem dX7_rotsAndGrows_1 : decode cX7_rotsAndGrows 1 = .ok (.istore_n 1, 1) := dk_60 (dk_at dksX7_rotsAndGrows_0 1 rfl rfl)
theorem dX7_rotsAndGrows_2 : decode cX7_rotsAndGrows 2 = .ok (.iload_n 1, 1) := dk_27 (dk_at dksX7_rotsAndGrows_0 2 rfl rfl)
theorem dX7_rotsAndGrows_3 : decode cX7_rotsAndGrows 3 = .ok (.aload_n 0, 1) := dk_42 (dk_at dksX7_rotsAndGrows_0 3 rfl rfl)
theorem dX7_rotsAndGrows_4 : decode cX7_rotsAndGrows 4 = .ok (.getfield 13, 3) := dk_180 0 13 (dk_at dksX7_rotsAndGrows_0 4 rfl rfl)
theorem dX7_rotsAndGrows_7 : decode cX7_rotsAndGrows 7 = .ok (.iconst 1, 1) := dk_4 (dk_at dksX7_rotsAndGrows_0 7 rfl rfl)
theorem dX7_rotsAndGrows_8 : decode cX7_rotsAndGrows 8 = .ok (.iaload, 1) := dk_46 (dk_at dksX7_rotsAndGrows_0 8 rfl rfl)
theorem dX7_rotsAndGrows_9 : decode cX7_rotsAndGrows 9 = .ok (.if_icmp .ge 154, 3) := dk_162 0 154 (dk_at dksX7_rotsAndGrows_0 9 rfl rfl)
theorem dX7_rotsAndGrows_12 : decode cX7_rotsAndGrows 12 = .ok (.bipush 16, 2) := dk_16 16 (dk_at dksX7_rotsAndGrows_0 12 rfl rfl)
theorem dX7_rotsAndGrows_14 : decode cX7_rotsAndGrows 14 = .ok (.bipush 14, 2) := dk_16 14 (dk_at dksX7_rotsAndGrows_0 14 rfl rfl)
theorem dX7_rotsAndGrows_16 : decode cX7_rotsAndGrows 16 = .ok (.iload_n 1, 1) := dk_27 (dk_at dksX7_rotsAndGrows_0 16 rfl rfl)
theorem dX7_rotsAndGrows_17 : decode cX7_rotsAndGrows 17 = .ok (.imul, 1) := dk_104 (dk_at dksX7_rotsAndGrows_0 17 rfl rfl)
theorem dX7_rotsAndGrows_18 : decode cX7_rotsAndGrows 18 = .ok (.iadd, 1) := dk_96 (dk_at dksX7_rotsAndGrows_0 18 rfl rfl)
theorem dX7_rotsAndGrows_19 : decode cX7_rotsAndGrows 19 = .ok (.istore_n 2, 1) := dk_61 (dk_at dksX7_rotsAndGrows_0 19 rfl rfl)
theorem dX7_rotsAndGrows_20 : decode cX7_rotsAndGrows 20 = .ok (.aload_n 0, 1) := dk_42 (dk_at dksX7_rotsAndGrows_0 20 rfl rfl)
theorem dX7_rotsAndGrows_21 : decode cX7_rotsAndGrows 21 = .ok (.getfield 17, 3) := dk_180 0 17 (dk_at dksX7_rotsAndGrows_0 21 rfl rfl)
theorem dX7_rotsAndGrows_24 : decode cX7_rotsAndGrows 24 = .ok (.iconst 4, 1) := dk_7 (dk_at dksX7_rotsAndGrows_1 0 rfl rfl)
theorem dX7_rotsAndGrows_25 : decode cX7_rotsAndGrows 25 = .ok (.dup2, 1) := dk_92 (dk_at dksX7_rotsAndGrows_1 1 rfl rfl)
theorem dX7_rotsAndGrows_26 : decode cX7_rotsAndGrows 26 = .ok (.laload, 1) := dk_47 (dk_at dksX7_rotsAndGrows_1 2 rfl rfl)
theorem dX7_rotsAndGrows_27 : decode cX7_rotsAndGrows 27 = .ok (.aload_n 0, 1) := dk_42 (dk_at dksX7_rotsAndGrows_1 3 rfl rfl)
theorem dX7_rotsAndGrows_28 : decode cX7_rotsAndGrows 28 = .ok (.getfield 13, 3) := dk_180 0 13 (dk_at dksX7_rotsAndGrows_1 4 rfl rfl)
theorem dX7_rotsAndGrows_31 : decode cX7_rotsAndGrows 31 = .ok (.iload_n 2, 1) := dk_28 (dk_at dksX7_rotsAndGrows_1 7 rfl rfl)
theorem dX7_rotsAndGrows_32 : decode cX7_rotsAndGrows 32 = .ok (.bipush 7, 2) := dk_16 7 (dk_at dksX7_rotsAndGrows_1 8 rfl rfl)
theorem dX7_rotsAndGrows_34 : decode cX7_rotsAndGrows 34 = .ok (.iadd, 1) := dk_96 (dk_at dksX7_rotsAndGrows_1 10 rfl rfl)
theorem dX7_rotsAndGrows_35 : decode cX7_rotsAndGrows 35 = .ok (.iaload, 1) := dk_46 (dk_at dksX7_rotsAndGrows_1 11 rfl rfl)
theorem dX7_rotsAndGrows_36 : decode cX7_rotsAndGrows 36 = .ok (.aload_n 0, 1) := dk_42 (dk_at dksX7_rotsAndGrows_1 12 rfl rfl)
theorem dX7_rotsAndGrows_37 : decode cX7_rotsAndGrows 37 = .ok (.getfield 13, 3) := dk_180 0 13 (dk_at dksX7_rotsAndGrows_1 13 rfl rfl)
theorem dX7_rotsAndGrows_40 : decode cX7_rotsAndGrows 40 = .ok (.iload_n 2, 1) := dk_28 (dk_at dksX7_rotsAndGrows_1 16 rfl rfl)
theorem dX7_rotsAndGrows_41 : decode cX7_rotsAndGrows 41 = .ok (.bipush 7, 2) := dk_16 7 (dk_at dksX7_rotsAndGrows_1 17 rfl rfl)
theorem dX7_rotsAndGrows_43 : decode cX7_rotsAndGrows 43 = .ok (.iadd, 1) := dk_96 (dk_at dksX7_rotsAndGrows_1 19 rfl rfl)
theorem dX7_rotsAndGrows_44 : decode cX7_rotsAndGrows 44 = .ok (.iaload, 1) := dk_46 (dk_at dksX7_rotsAndGrows_1 20 rfl rfl)
theorem dX7_rotsAndGrows_45 : decode cX7_rotsAndGrows 45 = .ok (.iconst 2, 1) := dk_5 (dk_at dksX7_rotsAndGrows_1 21 rfl rfl)
theorem dX7_rotsAndGrows_46 : decode cX7_rotsAndGrows 46 = .ok (.idiv, 1) := dk_108 (dk_at dksX7_rotsAndGrows_1 22 rfl rfl)
theorem dX7_rotsAndGrows_47 : decode cX7_rotsAndGrows 47 = .ok (.isub, 1) := dk_100 (dk_at dksX7_rotsAndGrows_1 23 rfl rfl)
theorem dX7_rotsAndGrows_48 : decode cX7_rotsAndGrows 48 = .ok (.i2l, 1) := dk_133 (dk_at dksX7_rotsAndGrows_2 0 rfl rfl)
theorem dX7_rotsAndGrows_49 : decode cX7_rotsAndGrows 49 = .ok (.ladd, 1) := dk_97 (dk_at dksX7_rotsAndGrows_2 1 rfl rfl)
theorem dX7_rotsAndGrows_50 : decode cX7_rotsAndGrows 50 = .ok (.lastore, 1) := dk_80 (dk_at dksX7_rotsAndGrows_2 2 rfl rfl)
theorem dX7_rotsAndGrows_51 : decode cX7_rotsAndGrows 51 = .ok (.aload_n 0, 1) := dk_42 (dk_at dksX7_rotsAndGrows_2 3 rfl rfl)
theorem dX7_rotsAndGrows_52 : decode cX7_rotsAndGrows 52 = .ok (.getfield 13, 3) := dk_180 0 13 (dk_at dksX7_rotsAndGrows_2 4 rfl rfl)
theorem dX7_rotsAndGrows_55 : decode cX7_rotsAndGrows 55 = .ok (.iload_n 2, 1) := dk_28 (dk_at dksX7_rotsAndGrows_2 7 rfl rfl)
theorem dX7_rotsAndGrows_56 : decode cX7_rotsAndGrows 56 = .ok (.bipush 7, 2) := dk_16 7 (dk_at dksX7_rotsAndGrows_2 8 rfl rfl)
theorem dX7_rotsAndGrows_58 : decode cX7_rotsAndGrows 58 = .ok (.iadd, 1) := dk_96 (dk_at dksX7_rotsAndGrows_2 10 rfl rfl)
theorem dX7_rotsAndGrows_59 : decode cX7_rotsAndGrows 59 = .ok (.dup2, 1) := dk_92 (dk_at dksX7_rotsAndGrows_2 11 rfl rfl)
theorem dX7_rotsAndGrows_60 : decode cX7_rotsAndGrows 60 = .ok (.iaload, 1) := dk_46 (dk_at dksX7_rotsAndGrows_2 12 rfl rfl)
theorem dX7_rotsAndGrows_61 : decode cX7_rotsAndGrows 61 = .ok (.iconst 2, 1) := dk_5 (dk_at dksX7_rotsAndGrows_2 13 rfl rfl)
theorem dX7_rotsAndGrows_62 : decode cX7_rotsAndGrows 62 = .ok (.idiv, 1) := dk_108 (dk_at dksX7_rotsAndGrows_2 14 rfl rfl)
theorem dX7_rotsAndGrows_63 : decode cX7_rotsAndGrows 63 = .ok (.iastore, 1) := dk_79 (dk_at dksX7_rotsAndGrows_2 15 rfl rfl)
theorem dX7_rotsAndGrows_64 : decode cX7_rotsAndGrows 64 = .ok (.aload_n 0, 1) := dk_42 (dk_at dksX7_rotsAndGrows_2 16 rfl rfl)
theorem dX7_rotsAndGrows_65 : decode cX7_rotsAndGrows 65 = .ok (.iload_n 1, 1) := dk_27 (dk_at dksX7_rotsAndGrows_2 17 rfl rfl)
theorem dX7_rotsAndGrows_66 : decode cX7_rotsAndGrows 66 = .ok (.invokevirtual 126, 3) := dk_182 0 126 (dk_at dksX7_rotsAndGrows_2 18 rfl rfl)
theorem dX7_rotsAndGrows_69 : decode cX7_rotsAndGrows 69 = .ok (.ifCond .ne 88, 3) := dk_154 0 88 (dk_at dksX7_rotsAndGrows_2 21 rfl rfl)
theorem dX7_rotsAndGrows_72 : decode cX7_rotsAndGrows 72 = .ok (.aload_n 0, 1) := dk_42 (dk_at dksX7_rotsAndGrows_3 0 rfl rfl)
theorem dX7_rotsAndGrows_73 : decode cX7_rotsAndGrows 73 = .ok (.iload_n 1, 1) := dk_27 (dk_at dksX7_rotsAndGrows_3 1 rfl rfl)
theorem dX7_rotsAndGrows_74 : decode cX7_rotsAndGrows 74 = .ok (.bipush 10, 2) := dk_16 10 (dk_at dksX7_rotsAndGrows_3 2 rfl rfl)
theorem dX7_rotsAndGrows_76 : decode cX7_rotsAndGrows 76 = .ok (.invokevirtual 84, 3) := dk_182 0 84 (dk_at dksX7_rotsAndGrows_3 4 rfl rfl)
theorem dX7_rotsAndGrows_79 : decode cX7_rotsAndGrows 79 = .ok (.aload_n 0, 1) := dk_42 (dk_at dksX7_rotsAndGrows_3 7 rfl rfl)
theorem dX7_rotsAndGrows_80 : decode cX7_rotsAndGrows 80 = .ok (.getfield 13, 3) := dk_180 0 13 (dk_at dksX7_rotsAndGrows_3 8 rfl rfl)
theorem dX7_rotsAndGrows_83 : decode cX7_rotsAndGrows 83 = .ok (.iconst 0, 1) := dk_3 (dk_at dksX7_rotsAndGrows_3 11 rfl rfl)
theorem dX7_rotsAndGrows_84 : decode cX7_rotsAndGrows 84 = .ok (.iaload, 1) := dk_46 (dk_at dksX7_rotsAndGrows_3 12 rfl rfl)
theorem dX7_rotsAndGrows_85 : decode cX7_rotsAndGrows 85 = .ok (.if_icmp .ne 6, 3) := dk_160 0 6 (dk_at dksX7_rotsAndGrows_3 13 rfl rfl)
theorem dX7_rotsAndGrows_88 : decode cX7_rotsAndGrows 88 = .ok (.goto 69, 3) := dk_167 0 69 (dk_at dksX7_rotsAndGrows_3 16 rfl rfl)
theorem dX7_rotsAndGrows_91 : decode cX7_rotsAndGrows 91 = .ok (.aload_n 0, 1) := dk_42 (dk_at dksX7_rotsAndGrows_3 19 rfl rfl)
theorem dX7_rotsAndGrows_92 : decode cX7_rotsAndGrows 92 = .ok (.getfield 13, 3) := dk_180 0 13 (dk_at dksX7_rotsAndGrows_3 20 rfl rfl)
theorem dX7_rotsAndGrows_95 : decode cX7_rotsAndGrows 95 = .ok (.iload_n 2, 1) := dk_28 (dk_at dksX7_rotsAndGrows_3 23 rfl rfl)
theorem dX7_rotsAndGrows_96 : decode cX7_rotsAndGrows 96 = .ok (.iconst 5, 1) := dk_8 (dk_at dksX7_rotsAndGrows_4 0 rfl rfl)
theorem dX7_rotsAndGrows_97 : decode cX7_rotsAndGrows 97 = .ok (.iadd, 1) := dk_96 (dk_at dksX7_rotsAndGrows_4 1 rfl rfl)
theorem dX7_rotsAndGrows_98 : decode cX7_rotsAndGrows 98 = .ok (.iaload, 1) := dk_46 (dk_at dksX7_rotsAndGrows_4 2 rfl rfl)
theorem dX7_rotsAndGrows_99 : decode cX7_rotsAndGrows 99 = .ok (.sipush 400, 3) := dk_17 1 144 (dk_at dksX7_rotsAndGrows_4 3 rfl rfl)
theorem dX7_rotsAndGrows_102 : decode cX7_rotsAndGrows 102 = .ok (.if_icmp .ge 15, 3) := dk_162 0 15 (dk_at dksX7_rotsAndGrows_4 6 rfl rfl)
theorem dX7_rotsAndGrows_105 : decode cX7_rotsAndGrows 105 = .ok (.aload_n 0, 1) := dk_42 (dk_at dksX7_rotsAndGrows_4 9 rfl rfl)
theorem dX7_rotsAndGrows_106 : decode cX7_rotsAndGrows 106 = .ok (.getfield 13, 3) := dk_180 0 13 (dk_at dksX7_rotsAndGrows_4 10 rfl rfl)
theorem dX7_rotsAndGrows_109 : decode cX7_rotsAndGrows 109 = .ok (.iload_n 2, 1) := dk_28 (dk_at dksX7_rotsAndGrows_4 13 rfl rfl)
theorem dX7_rotsAndGrows_110 : decode cX7_rotsAndGrows 110 = .ok (.iconst 5, 1) := dk_8 (dk_at dksX7_rotsAndGrows_4 14 rfl rfl)
theorem dX7_rotsAndGrows_111 : decode cX7_rotsAndGrows 111 = .ok (.iadd, 1) := dk_96 (dk_at dksX7_rotsAndGrows_4 15 rfl rfl)
theorem dX7_rotsAndGrows_112 : decode cX7_rotsAndGrows 112 = .ok (.dup2, 1) := dk_92 (dk_at dksX7_rotsAndGrows_4 16 rfl rfl)
theorem dX7_rotsAndGrows_113 : decode cX7_rotsAndGrows 113 = .ok (.iaload, 1) := dk_46 (dk_at dksX7_rotsAndGrows_4 17 rfl rfl)
theorem dX7_rotsAndGrows_114 : decode cX7_rotsAndGrows 114 = .ok (.iconst 1, 1) := dk_4 (dk_at dksX7_rotsAndGrows_4 18 rfl rfl)
theorem dX7_rotsAndGrows_115 : decode cX7_rotsAndGrows 115 = .ok (.iadd, 1) := dk_96 (dk_at dksX7_rotsAndGrows_4 19 rfl rfl)
theorem dX7_rotsAndGrows_116 : decode cX7_rotsAndGrows 116 = .ok (.iastore, 1) := dk_79 (dk_at dksX7_rotsAndGrows_4 20 rfl rfl)
theorem dX7_rotsAndGrows_117 : decode cX7_rotsAndGrows 117 = .ok (.aload_n 0, 1) := dk_42 (dk_at dksX7_rotsAndGrows_4 21 rfl rfl)
theorem dX7_rotsAndGrows_118 : decode cX7_rotsAndGrows 118 = .ok (.getfield 13, 3) := dk_180 0 13 (dk_at dksX7_rotsAndGrows_5 0 rfl rfl)
theorem dX7_rotsAndGrows_121 : decode cX7_rotsAndGrows 121 = .ok (.iload_n 2, 1) := dk_28 (dk_at dksX7_rotsAndGrows_5 3 rfl rfl)
theorem dX7_rotsAndGrows_122 : decode cX7_rotsAndGrows 122 = .ok (.bipush 6, 2) := dk_16 6 (dk_at dksX7_rotsAndGrows_5 4 rfl rfl)
theorem dX7_rotsAndGrows_124 : decode cX7_rotsAndGrows 124 = .ok (.iadd, 1) := dk_96 (dk_at dksX7_rotsAndGrows_5 6 rfl rfl)
theorem dX7_rotsAndGrows_125 : decode cX7_rotsAndGrows 125 = .ok (.iaload, 1) := dk_46 (dk_at dksX7_rotsAndGrows_5 7 rfl rfl)
theorem dX7_rotsAndGrows_126 : decode cX7_rotsAndGrows 126 = .ok (.bipush 100, 2) := dk_16 100 (dk_at dksX7_rotsAndGrows_5 8 rfl rfl)
theorem dX7_rotsAndGrows_128 : decode cX7_rotsAndGrows 128 = .ok (.if_icmp .ge 29, 3) := dk_162 0 29 (dk_at dksX7_rotsAndGrows_5 10 rfl rfl)
theorem dX7_rotsAndGrows_131 : decode cX7_rotsAndGrows 131 = .ok (.aload_n 0, 1) := dk_42 (dk_at dksX7_rotsAndGrows_5 13 rfl rfl)
theorem dX7_rotsAndGrows_132 : decode cX7_rotsAndGrows 132 = .ok (.getfield 13, 3) := dk_180 0 13 (dk_at dksX7_rotsAndGrows_5 14 rfl rfl)
theorem dX7_rotsAndGrows_135 : decode cX7_rotsAndGrows 135 = .ok (.iload_n 2, 1) := dk_28 (dk_at dksX7_rotsAndGrows_5 17 rfl rfl)
theorem dX7_rotsAndGrows_136 : decode cX7_rotsAndGrows 136 = .ok (.iconst 5, 1) := dk_8 (dk_at dksX7_rotsAndGrows_5 18 rfl rfl)
theorem dX7_rotsAndGrows_137 : decode cX7_rotsAndGrows 137 = .ok (.iadd, 1) := dk_96 (dk_at dksX7_rotsAndGrows_5 19 rfl rfl)
theorem dX7_rotsAndGrows_138 : decode cX7_rotsAndGrows 138 = .ok (.iaload, 1) := dk_46 (dk_at dksX7_rotsAndGrows_5 20 rfl rfl)
theorem dX7_rotsAndGrows_139 : decode cX7_rotsAndGrows 139 = .ok (.bipush 100, 2) := dk_16 100 (dk_at dksX7_rotsAndGrows_5 21 rfl rfl)
theorem dX7_rotsAndGrows_141 : decode cX7_rotsAndGrows 141 = .ok (.if_icmp .ge 16, 3) := dk_162 0 16 (dk_at dksX7_rotsAndGrows_6 0 rfl rfl)
theorem dX7_rotsAndGrows_144 : decode cX7_rotsAndGrows 144 = .ok (.aload_n 0, 1) := dk_42 (dk_at dksX7_rotsAndGrows_6 3 rfl rfl)
theorem dX7_rotsAndGrows_145 : decode cX7_rotsAndGrows 145 = .ok (.getfield 13, 3) := dk_180 0 13 (dk_at dksX7_rotsAndGrows_6 4 rfl rfl)
theorem dX7_rotsAndGrows_148 : decode cX7_rotsAndGrows 148 = .ok (.iload_n 2, 1) := dk_28 (dk_at dksX7_rotsAndGrows_6 7 rfl rfl)
theorem dX7_rotsAndGrows_149 : decode cX7_rotsAndGrows 149 = .ok (.bipush 6, 2) := dk_16 6 (dk_at dksX7_rotsAndGrows_6 8 rfl rfl)
theorem dX7_rotsAndGrows_151 : decode cX7_rotsAndGrows 151 = .ok (.iadd, 1) := dk_96 (dk_at dksX7_rotsAndGrows_6 10 rfl rfl)
theorem dX7_rotsAndGrows_152 : decode cX7_rotsAndGrows 152 = .ok (.dup2, 1) := dk_92 (dk_at dksX7_rotsAndGrows_6 11 rfl rfl)
theorem dX7_rotsAndGrows_153 : decode cX7_rotsAndGrows 153 = .ok (.iaload, 1) := dk_46 (dk_at dksX7_rotsAndGrows_6 12 rfl rfl)
theorem dX7_rotsAndGrows_154 : decode cX7_rotsAndGrows 154 = .ok (.iconst 1, 1) := dk_4 (dk_at dksX7_rotsAndGrows_6 13 rfl rfl)
theorem dX7_rotsAndGrows_155 : decode cX7_rotsAndGrows 155 = .ok (.iadd, 1) := dk_96 (dk_at dksX7_rotsAndGrows_6 14 rfl rfl)
theorem dX7_rotsAndGrows_156 : decode cX7_rotsAndGrows 156 = .ok (.iastore, 1) := dk_79 (dk_at dksX7_rotsAndGrows_6 15 rfl rfl)
theorem dX7_rotsAndGrows_157 : decode cX7_rotsAndGrows 157 = .ok (.iinc 1 1, 3) := dk_132 1 1 (dk_at dksX7_rotsAndGrows_6 16 rfl rfl)
theorem dX7_rotsAndGrows_160 : decode cX7_rotsAndGrows 160 = .ok (.goto (-158), 3) := dk_167 255 98 (dk_at dksX7_rotsAndGrows_6 19 rfl rfl)
theorem dX7_rotsAndGrows_163 : decode cX7_rotsAndGrows 163 = .ok (.return_, 1) := dk_177 (dk_at dksX7_rotsAndGrows_6 22 rfl rfl)
abbrev cX7_steals : ByteArray := prog_19_method_87_code
def yX7_steals : MethodName := ⟨RX7, "steals", "(I)V"⟩
def dkwX7_steals_8 : List UInt8 := [133, 97, 80, 28, 21, 4, 100, 61, 167, 255, 200, 132, 3, 1, 167, 255, 184, 177]
abbrev dktX7_steals_8 : List UInt8 := dkwX7_steals_8 ++ []
def dkwX7_steals_7 : List UInt8 := [42, 29, 16, 6, 182, 0, 84, 4, 100, 182, 1, 106, 54, 4, 42, 180, 0, 17, 16, 6, 92, 47, 21, 4]
abbrev dktX7_steals_7 : List UInt8 := dkwX7_steals_7 ++ dktX7_steals_8
def dkwX7_steals_6 : List UInt8 := [28, 158, 0, 58, 42, 29, 3, 182, 0, 84, 27, 160, 0, 48, 42, 29, 182, 0, 126, 154, 0, 40, 42, 29]
abbrev dktX7_steals_6 : List UInt8 := dkwX7_steals_6 ++ dktX7_steals_7
def dkwX7_steals_5 : List UInt8 := [80, 28, 21, 4, 100, 61, 132, 3, 1, 167, 255, 164, 3, 62, 29, 42, 180, 0, 13, 4, 46, 162, 0, 68]
abbrev dktX7_steals_5 : List UInt8 := dkwX7_steals_5 ++ dktX7_steals_6
def dkwX7_steals_4 : List UInt8 := [29, 104, 96, 16, 7, 96, 92, 46, 21, 4, 100, 79, 42, 180, 0, 17, 16, 6, 92, 47, 21, 4, 133, 97]
abbrev dktX7_steals_4 : List UInt8 := dkwX7_steals_4 ++ dktX7_steals_5
def dkwX7_steals_3 : List UInt8 := [162, 0, 13, 42, 29, 16, 7, 182, 0, 84, 167, 0, 4, 28, 54, 4, 42, 180, 0, 13, 16, 16, 16, 14]
abbrev dktX7_steals_3 : List UInt8 := dkwX7_steals_3 ++ dktX7_steals_4
def dkwX7_steals_2 : List UInt8 := [158, 0, 84, 42, 29, 3, 182, 0, 84, 27, 159, 0, 6, 167, 0, 65, 42, 29, 16, 7, 182, 0, 84, 28]
abbrev dktX7_steals_2 : List UInt8 := dkwX7_steals_2 ++ dktX7_steals_3
def dkwX7_steals_1 : List UInt8 := [5, 27, 104, 96, 4, 96, 46, 104, 100, 61, 3, 62, 29, 42, 180, 0, 13, 4, 46, 162, 0, 88, 28]
abbrev dktX7_steals_1 : List UInt8 := dkwX7_steals_1 ++ dktX7_steals_2
def dkwX7_steals_0 : List UInt8 := [16, 10, 42, 180, 0, 13, 17, 13, 230, 5, 27, 104, 96, 46, 104, 16, 50, 42, 180, 0, 13, 17, 13, 230]
abbrev dktX7_steals_0 : List UInt8 := dkwX7_steals_0 ++ dktX7_steals_1
theorem dksX7_steals_0 : cX7_steals.data.toList.drop 0 = dktX7_steals_0 := by decide +kernel
theorem dksX7_steals_1 : cX7_steals.data.toList.drop 24 = dktX7_steals_1 := dk_seg dksX7_steals_0 24 rfl rfl
theorem dksX7_steals_2 : cX7_steals.data.toList.drop 47 = dktX7_steals_2 := dk_seg dksX7_steals_1 23 rfl rfl
theorem dksX7_steals_3 : cX7_steals.data.toList.drop 71 = dktX7_steals_3 := dk_seg dksX7_steals_2 24 rfl rfl
theorem dksX7_steals_4 : cX7_steals.data.toList.drop 95 = dktX7_steals_4 := dk_seg dksX7_steals_3 24 rfl rfl
theorem dksX7_steals_5 : cX7_steals.data.toList.drop 119 = dktX7_steals_5 := dk_seg dksX7_steals_4 24 rfl rfl
theorem dksX7_steals_6 : cX7_steals.data.toList.drop 143 = dktX7_steals_6 := dk_seg dksX7_steals_5 24 rfl rfl
theorem dksX7_steals_7 : cX7_steals.data.toList.drop 167 = dktX7_steals_7 := dk_seg dksX7_steals_6 24 rfl rfl
theorem dksX7_steals_8 : cX7_steals.data.toList.drop 191 = dktX7_steals_8 := dk_seg dksX7_steals_7 24 rfl rfl
theorem dX7_steals_0 : decode cX7_steals 0 = .ok (.bipush 10, 2) := dk_16 10 (dk_at dksX7_steals_0 0 rfl rfl)
theorem dX7_steals_2 : decode cX7_steals 2 = .ok (.aload_n 0, 1) := dk_42 (dk_at dksX7_steals_0 2 rfl rfl)
theorem dX7_steals_3 : decode cX7_steals 3 = .ok (.getfield 13, 3) := dk_180 0 13 (dk_at dksX7_steals_0 3 rfl rfl)
theorem dX7_steals_6 : decode cX7_steals 6 = .ok (.sipush 3558, 3) := dk_17 13 230 (dk_at dksX7_steals_0 6 rfl rfl)
theorem dX7_steals_9 : decode cX7_steals 9 = .ok (.iconst 2, 1) := dk_5 (dk_at dksX7_steals_0 9 rfl rfl)
theorem dX7_steals_10 : decode cX7_steals 10 = .ok (.iload_n 1, 1) := dk_27 (dk_at dksX7_steals_0 10 rfl rfl)
theorem dX7_steals_11 : decode cX7_steals 11 = .ok (.imul, 1) := dk_104 (dk_at dksX7_steals_0 11 rfl rfl)
theorem dX7_steals_12 : decode cX7_steals 12 = .ok (.iadd, 1) := dk_96 (dk_at dksX7_steals_0 12 rfl rfl)
theorem dX7_steals_13 : decode cX7_steals 13 = .ok (.iaload, 1) := dk_46 (dk_at dksX7_steals_0 13 rfl rfl)
theorem dX7_steals_14 : decode cX7_steals 14 = .ok (.imul, 1) := dk_104 (dk_at dksX7_steals_0 14 rfl rfl)
theorem dX7_steals_15 : decode cX7_steals 15 = .ok (.bipush 50, 2) := dk_16 50 (dk_at dksX7_steals_0 15 rfl rfl)
theorem dX7_steals_17 : decode cX7_steals 17 = .ok (.aload_n 0, 1) := dk_42 (dk_at dksX7_steals_0 17 rfl rfl)
theorem dX7_steals_18 : decode cX7_steals 18 = .ok (.getfield 13, 3) := dk_180 0 13 (dk_at dksX7_steals_0 18 rfl rfl)
theorem dX7_steals_21 : decode cX7_steals 21 = .ok (.sipush 3558, 3) := dk_17 13 230 (dk_at dksX7_steals_0 21 rfl rfl)
theorem dX7_steals_24 : decode cX7_steals 24 = .ok (.iconst 2, 1) := dk_5 (dk_at dksX7_steals_1 0 rfl rfl)
theorem dX7_steals_25 : decode cX7_steals 25 = .ok (.iload_n 1, 1) := dk_27 (dk_at dksX7_steals_1 1 rfl rfl)
theorem dX7_steals_26 : decode cX7_steals 26 = .ok (.imul, 1) := dk_104 (dk_at dksX7_steals_1 2 rfl rfl)
theorem dX7_steals_27 : decode cX7_steals 27 = .ok (.iadd, 1) := dk_96 (dk_at dksX7_steals_1 3 rfl rfl)
theorem dX7_steals_28 : decode cX7_steals 28 = .ok (.iconst 1, 1) := dk_4 (dk_at dksX7_steals_1 4 rfl rfl)
theorem dX7_steals_29 : decode cX7_steals 29 = .ok (.iadd, 1) := dk_96 (dk_at dksX7_steals_1 5 rfl rfl)
theorem dX7_steals_30 : decode cX7_steals 30 = .ok (.iaload, 1) := dk_46 (dk_at dksX7_steals_1 6 rfl rfl)
theorem dX7_steals_31 : decode cX7_steals 31 = .ok (.imul, 1) := dk_104 (dk_at dksX7_steals_1 7 rfl rfl)
theorem dX7_steals_32 : decode cX7_steals 32 = .ok (.isub, 1) := dk_100 (dk_at dksX7_steals_1 8 rfl rfl)
theorem dX7_steals_33 : decode cX7_steals 33 = .ok (.istore_n 2, 1) := dk_61 (dk_at dksX7_steals_1 9 rfl rfl)
theorem dX7_steals_34 : decode cX7_steals 34 = .ok (.iconst 0, 1) := dk_3 (dk_at dksX7_steals_1 10 rfl rfl)
theorem dX7_steals_35 : decode cX7_steals 35 = .ok (.istore_n 3, 1) := dk_62 (dk_at dksX7_steals_1 11 rfl rfl)
theorem dX7_steals_36 : decode cX7_steals 36 = .ok (.iload_n 3, 1) := dk_29 (dk_at dksX7_steals_1 12 rfl rfl)
theorem dX7_steals_37 : decode cX7_steals 37 = .ok (.aload_n 0, 1) := dk_42 (dk_at dksX7_steals_1 13 rfl rfl)
theorem dX7_steals_38 : decode cX7_steals 38 = .ok (.getfield 13, 3) := dk_180 0 13 (dk_at dksX7_steals_1 14 rfl rfl)
theorem dX7_steals_41 : decode cX7_steals 41 = .ok (.iconst 1, 1) := dk_4 (dk_at dksX7_steals_1 17 rfl rfl)
theorem dX7_steals_42 : decode cX7_steals 42 = .ok (.iaload, 1) := dk_46 (dk_at dksX7_steals_1 18 rfl rfl)
theorem dX7_steals_43 : decode cX7_steals 43 = .ok (.if_icmp .ge 88, 3) := dk_162 0 88 (dk_at dksX7_steals_1 19 rfl rfl)
theorem dX7_steals_46 : decode cX7_steals 46 = .ok (.iload_n 2, 1) := dk_28 (dk_at dksX7_steals_1 22 rfl rfl)
theorem dX7_steals_47 : decode cX7_steals 47 = .ok (.ifCond .le 84, 3) := dk_158 0 84 (dk_at dksX7_steals_2 0 rfl rfl)
theorem dX7_steals_50 : decode cX7_steals 50 = .ok (.aload_n 0, 1) := dk_42 (dk_at dksX7_steals_2 3 rfl rfl)
theorem dX7_steals_51 : decode cX7_steals 51 = .ok (.iload_n 3, 1) := dk_29 (dk_at dksX7_steals_2 4 rfl rfl)
theorem dX7_steals_52 : decode cX7_steals 52 = .ok (.iconst 0, 1) := dk_3 (dk_at dksX7_steals_2 5 rfl rfl)
theorem dX7_steals_53 : decode cX7_steals 53 = .ok (.invokevirtual 84, 3) := dk_182 0 84 (dk_at dksX7_steals_2 6 rfl rfl)
theorem dX7_steals_56 : decode cX7_steals 56 = .ok (.iload_n 1, 1) := dk_27 (dk_at dksX7_steals_2 9 rfl rfl)
theorem dX7_steals_57 : decode cX7_steals 57 = .ok (.if_icmp .eq 6, 3) := dk_159 0 6 (dk_at dksX7_steals_2 10 rfl rfl)
theorem dX7_steals_60 : decode cX7_steals 60 = .ok (.goto 65, 3) := dk_167 0 65 (dk_at dksX7_steals_2 13 rfl rfl)
theorem dX7_steals_63 : decode cX7_steals 63 = .ok (.aload_n 0, 1) := dk_42 (dk_at dksX7_steals_2 16 rfl rfl)
theorem dX7_steals_64 : decode cX7_steals 64 = .ok (.iload_n 3, 1) := dk_29 (dk_at dksX7_steals_2 17 rfl rfl)
theorem dX7_steals_65 : decode cX7_steals 65 = .ok (.bipush 7, 2) := dk_16 7 (dk_at dksX7_steals_2 18 rfl rfl)
theorem dX7_steals_67 : decode cX7_steals 67 = .ok (.invokevirtual 84, 3) := dk_182 0 84 (dk_at dksX7_steals_2 20 rfl rfl)
theorem dX7_steals_70 : decode cX7_steals 70 = .ok (.iload_n 2, 1) := dk_28 (dk_at dksX7_steals_2 23 rfl rfl)
theorem dX7_steals_71 : decode cX7_steals 71 = .ok (.if_icmp .ge 13, 3) := dk_162 0 13 (dk_at dksX7_steals_3 0 rfl rfl)
theorem dX7_steals_74 : decode cX7_steals 74 = .ok (.aload_n 0, 1) := dk_42 (dk_at dksX7_steals_3 3 rfl rfl)
theorem dX7_steals_75 : decode cX7_steals 75 = .ok (.iload_n 3, 1) := dk_29 (dk_at dksX7_steals_3 4 rfl rfl)
theorem dX7_steals_76 : decode cX7_steals 76 = .ok (.bipush 7, 2) := dk_16 7 (dk_at dksX7_steals_3 5 rfl rfl)
theorem dX7_steals_78 : decode cX7_steals 78 = .ok (.invokevirtual 84, 3) := dk_182 0 84 (dk_at dksX7_steals_3 7 rfl rfl)
theorem dX7_steals_81 : decode cX7_steals 81 = .ok (.goto 4, 3) := dk_167 0 4 (dk_at dksX7_steals_3 10 rfl rfl)
theorem dX7_steals_84 : decode cX7_steals 84 = .ok (.iload_n 2, 1) := dk_28 (dk_at dksX7_steals_3 13 rfl rfl)
theorem dX7_steals_85 : decode cX7_steals 85 = .ok (.istore 4, 2) := dk_54 4 (dk_at dksX7_steals_3 14 rfl rfl)
theorem dX7_steals_87 : decode cX7_steals 87 = .ok (.aload_n 0, 1) := dk_42 (dk_at dksX7_steals_3 16 rfl rfl)
theorem dX7_steals_88 : decode cX7_steals 88 = .ok (.getfield 13, 3) := dk_180 0 13 (dk_at dksX7_steals_3 17 rfl rfl)
theorem dX7_steals_91 : decode cX7_steals 91 = .ok (.bipush 16, 2) := dk_16 16 (dk_at dksX7_steals_3 20 rfl rfl)
theorem dX7_steals_93 : decode cX7_steals 93 = .ok (.bipush 14, 2) := dk_16 14 (dk_at dksX7_steals_3 22 rfl rfl)
theorem dX7_steals_95 : decode cX7_steals 95 = .ok (.iload_n 3, 1) := dk_29 (dk_at dksX7_steals_4 0 rfl rfl)
theorem dX7_steals_96 : decode cX7_steals 96 = .ok (.imul, 1) := dk_104 (dk_at dksX7_steals_4 1 rfl rfl)
theorem dX7_steals_97 : decode cX7_steals 97 = .ok (.iadd, 1) := dk_96 (dk_at dksX7_steals_4 2 rfl rfl)
theorem dX7_steals_98 : decode cX7_steals 98 = .ok (.bipush 7, 2) := dk_16 7 (dk_at dksX7_steals_4 3 rfl rfl)
theorem dX7_steals_100 : decode cX7_steals 100 = .ok (.iadd, 1) := dk_96 (dk_at dksX7_steals_4 5 rfl rfl)
theorem dX7_steals_101 : decode cX7_steals 101 = .ok (.dup2, 1) := dk_92 (dk_at dksX7_steals_4 6 rfl rfl)
theorem dX7_steals_102 : decode cX7_steals 102 = .ok (.iaload, 1) := dk_46 (dk_at dksX7_steals_4 7 rfl rfl)
theorem dX7_steals_103 : decode cX7_steals 103 = .ok (.iload 4, 2) := dk_21 4 (dk_at dksX7_steals_4 8 rfl rfl)
theorem dX7_steals_105 : decode cX7_steals 105 = .ok (.isub, 1) := dk_100 (dk_at dksX7_steals_4 10 rfl rfl)
theorem dX7_steals_106 : decode cX7_steals 106 = .ok (.iastore, 1) := dk_79 (dk_at dksX7_steals_4 11 rfl rfl)
theorem dX7_steals_107 : decode cX7_steals 107 = .ok (.aload_n 0, 1) := dk_42 (dk_at dksX7_steals_4 12 rfl rfl)
theorem dX7_steals_108 : decode cX7_steals 108 = .ok (.getfield 17, 3) := dk_180 0 17 (dk_at dksX7_steals_4 13 rfl rfl)
theorem dX7_steals_111 : decode cX7_steals 111 = .ok (.bipush 6, 2) := dk_16 6 (dk_at dksX7_steals_4 16 rfl rfl)
theorem dX7_steals_113 : decode cX7_steals 113 = .ok (.dup2, 1) := dk_92 (dk_at dksX7_steals_4 18 rfl rfl)
theorem dX7_steals_114 : decode cX7_steals 114 = .ok (.laload, 1) := dk_47 (dk_at dksX7_steals_4 19 rfl rfl)
theorem dX7_steals_115 : decode cX7_steals 115 = .ok (.iload 4, 2) := dk_21 4 (dk_at dksX7_steals_4 20 rfl rfl)
theorem dX7_steals_117 : decode cX7_steals 117 = .ok (.i2l, 1) := dk_133 (dk_at dksX7_steals_4 22 rfl rfl)
theorem dX7_steals_118 : decode cX7_steals 118 = .ok (.ladd, 1) := dk_97 (dk_at dksX7_steals_4 23 rfl rfl)
theorem dX7_steals_119 : decode cX7_steals 119 = .ok (.lastore, 1) := dk_80 (dk_at dksX7_steals_5 0 rfl rfl)
theorem dX7_steals_120 : decode cX7_steals 120 = .ok (.iload_n 2, 1) := dk_28 (dk_at dksX7_steals_5 1 rfl rfl)
theorem dX7_steals_121 : decode cX7_steals 121 = .ok (.iload 4, 2) := dk_21 4 (dk_at dksX7_steals_5 2 rfl rfl)
theorem dX7_steals_123 : decode cX7_steals 123 = .ok (.isub, 1) := dk_100 (dk_at dksX7_steals_5 4 rfl rfl)
theorem dX7_steals_124 : decode cX7_steals 124 = .ok (.istore_n 2, 1) := dk_61 (dk_at dksX7_steals_5 5 rfl rfl)
theorem dX7_steals_125 : decode cX7_steals 125 = .ok (.iinc 3 1, 3) := dk_132 3 1 (dk_at dksX7_steals_5 6 rfl rfl)
theorem dX7_steals_128 : decode cX7_steals 128 = .ok (.goto (-92), 3) := dk_167 255 164 (dk_at dksX7_steals_5 9 rfl rfl)
theorem dX7_steals_131 : decode cX7_steals 131 = .ok (.iconst 0, 1) := dk_3 (dk_at dksX7_steals_5 12 rfl rfl)
theorem dX7_steals_132 : decode cX7_steals 132 = .ok (.istore_n 3, 1) := dk_62 (dk_at dksX7_steals_5 13 rfl rfl)
theorem dX7_steals_133 : decode cX7_steals 133 = .ok (.iload_n 3, 1) := dk_29 (dk_at dksX7_steals_5 14 rfl rfl)
theorem dX7_steals_134 : decode cX7_steals 134 = .ok (.aload_n 0, 1) := dk_42 (dk_at dksX7_steals_5 15 rfl rfl)
theorem dX7_steals_135 : decode cX7_steals 135 = .ok (.getfield 13, 3) := dk_180 0 13 (dk_at dksX7_steals_5 16 rfl rfl)
theorem dX7_steals_138 : decode cX7_steals 138 = .ok (.iconst 1, 1) := dk_4 (dk_at dksX7_steals_5 19 rfl rfl)
theorem dX7_steals_139 : decode cX7_steals 139 = .ok (.iaload, 1) := dk_46 (dk_at dksX7_steals_5 20 rfl rfl)
theorem dX7_steals_140 : decode cX7_steals 140 = .ok (.if_icmp .ge 68, 3) := dk_162 0 68 (dk_at dksX7_steals_5 21 rfl rfl)
theorem dX7_steals_143 : decode cX7_steals 143 = .ok (.iload_n 2, 1) := dk_28 (dk_at dksX7_steals_6 0 rfl rfl)
theorem dX7_steals_144 : decode cX7_steals 144 = .ok (.ifCond .le 58, 3) := dk_158 0 58 (dk_at dksX7_steals_6 1 rfl rfl)
theorem dX7_steals_147 : decode cX7_steals 147 = .ok (.aload_n 0, 1) := dk_42 (dk_at dksX7_steals_6 4 rfl rfl)
theorem dX7_steals_148 : decode cX7_steals 148 = .ok (.iload_n 3, 1) := dk_29 (dk_at dksX7_steals_6 5 rfl rfl)
theorem dX7_steals_149 : decode cX7_steals 149 = .ok (.iconst 0, 1) := dk_3 (dk_at dksX7_steals_6 6 rfl rfl)
theorem dX7_steals_150 : decode cX7_steals 150 = .ok (.invokevirtual 84, 3) := dk_182 0 84 (dk_at dksX7_steals_6 7 rfl rfl)
theorem dX7_steals_153 : decode cX7_steals 153 = .ok (.iload_n 1, 1) := dk_27 (dk_at dksX7_steals_6 10 rfl rfl)
theorem dX7_steals_154 : decode cX7_steals 154 = .ok (.if_icmp .ne 48, 3) := dk_160 0 48 (dk_at dksX7_steals_6 11 rfl rfl)
theorem dX7_steals_157 : decode cX7_steals 157 = .ok (.aload_n 0, 1) := dk_42 (dk_at dksX7_steals_6 14 rfl rfl)
theorem dX7_steals_158 : decode cX7_steals 158 = .ok (.iload_n 3, 1) := dk_29 (dk_at dksX7_steals_6 15 rfl rfl)
theorem dX7_steals_159 : decode cX7_steals 159 = .ok (.invokevirtual 126, 3) := dk_182 0 126 (dk_at dksX7_steals_6 16 rfl rfl)
theorem dX7_steals_162 : decode cX7_steals 162 = .ok (.ifCond .ne 40, 3) := dk_154 0 40 (dk_at dksX7_steals_6 19 rfl rfl)
theorem dX7_steals_165 : decode cX7_steals 165 = .ok (.aload_n 0, 1) := dk_42 (dk_at dksX7_steals_6 22 rfl rfl)
theorem dX7_steals_166 : decode cX7_steals 166 = .ok (.iload_n 3, 1) := dk_29 (dk_at dksX7_steals_6 23 rfl rfl)
theorem dX7_steals_167 : decode cX7_steals 167 = .ok (.aload_n 0, 1) := dk_42 (dk_at dksX7_steals_7 0 rfl rfl)
theorem dX7_steals_168 : decode cX7_steals 168 = .ok (.iload_n 3, 1) := dk_29 (dk_at dksX7_steals_7 1 rfl rfl)
theorem dX7_steals_169 : decode cX7_steals 169 = .ok (.bipush 6, 2) := dk_16 6 (dk_at dksX7_steals_7 2 rfl rfl)
theorem dX7_steals_171 : decode cX7_steals 171 = .ok (.invokevirtual 84, 3) := dk_182 0 84 (dk_at dksX7_steals_7 4 rfl rfl)
theorem dX7_steals_174 : decode cX7_steals 174 = .ok (.iconst 1, 1) := dk_4 (dk_at dksX7_steals_7 7 rfl rfl)
theorem dX7_steals_175 : decode cX7_steals 175 = .ok (.isub, 1) := dk_100 (dk_at dksX7_steals_7 8 rfl rfl)
theorem dX7_steals_176 : decode cX7_steals 176 = .ok (.invokevirtual 362, 3) := dk_182 1 106 (dk_at dksX7_steals_7 9 rfl rfl)
theorem dX7_steals_179 : decode cX7_steals 179 = .ok (.istore 4, 2) := dk_54 4 (dk_at dksX7_steals_7 12 rfl rfl)
theorem dX7_steals_181 : decode cX7_steals 181 = .ok (.aload_n 0, 1) := dk_42 (dk_at dksX7_steals_7 14 rfl rfl)
theorem dX7_steals_182 : decode cX7_steals 182 = .ok (.getfield 17, 3) := dk_180 0 17 (dk_at dksX7_steals_7 15 rfl rfl)
theorem dX7_steals_185 : decode cX7_steals 185 = .ok (.bipush 6, 2) := dk_16 6 (dk_at dksX7_steals_7 18 rfl rfl)
theorem dX7_steals_187 : decode cX7_steals 187 = .ok (.dup2, 1) := dk_92 (dk_at dksX7_steals_7 20 rfl rfl)
theorem dX7_steals_188 : decode cX7_steals 188 = .ok (.laload, 1) := dk_47 (dk_at dksX7_steals_7 21 rfl rfl)
theorem dX7_steals_189 : decode cX7_steals 189 = .ok (.iload 4, 2) := dk_21 4 (dk_at dksX7_steals_7 22 rfl rfl)
theorem dX7_steals_191 : decode cX7_steals 191 = .ok (.i2l, 1) := dk_133 (dk_at dksX7_steals_8 0 rfl rfl)
theorem dX7_steals_192 : decode cX7_steals 192 = .ok (.ladd, 1) := dk_97 (dk_at dksX7_steals_8 1 rfl rfl)
theorem dX7_steals_193 : decode cX7_steals 193 = .ok (.lastore, 1) := dk_80 (dk_at dksX7_steals_8 2 rfl rfl)
theorem dX7_steals_194 : decode cX7_steals 194 = .ok (.iload_n 2, 1) := dk_28 (dk_at dksX7_steals_8 3 rfl rfl)
theorem dX7_steals_195 : decode cX7_steals 195 = .ok (.iload 4, 2) := dk_21 4 (dk_at dksX7_steals_8 4 rfl rfl)
theorem dX7_steals_197 : decode cX7_steals 197 = .ok (.isub, 1) := dk_100 (dk_at dksX7_steals_8 6 rfl rfl)
theorem dX7_steals_198 : decode cX7_steals 198 = .ok (.istore_n 2, 1) := dk_61 (dk_at dksX7_steals_8 7 rfl rfl)
theorem dX7_steals_199 : decode cX7_steals 199 = .ok (.goto (-56), 3) := dk_167 255 200 (dk_at dksX7_steals_8 8 rfl rfl)
theorem dX7_steals_202 : decode cX7_steals 202 = .ok (.iinc 3 1, 3) := dk_132 3 1 (dk_at dksX7_steals_8 11 rfl rfl)
theorem dX7_steals_205 : decode cX7_steals 205 = .ok (.goto (-72), 3) := dk_167 255 184 (dk_at dksX7_steals_8 14 rfl rfl)
theorem dX7_steals_208 : decode cX7_steals 208 = .ok (.return_, 1) := dk_177 (dk_at dksX7_steals_8 17 rfl rfl)
abbrev cX7_bareMany : ByteArray := prog_19_method_89_code
def yX7_bareMany : MethodName := ⟨RX7, "bareMany", "()I"⟩
def dkwX7_bareMany_1 : List UInt8 := [167, 0, 4, 3, 96, 60, 132, 2, 1, 167, 255, 227, 27, 172]
abbrev dktX7_bareMany_1 : List UInt8 := dkwX7_bareMany_1 ++ []
def dkwX7_bareMany_0 : List UInt8 := [3, 60, 3, 61, 28, 42, 180, 0, 13, 4, 46, 162, 0, 25, 27, 42, 28, 182, 0, 126, 153, 0, 7, 4]
abbrev dktX7_bareMany_0 : List UInt8 := dkwX7_bareMany_0 ++ dktX7_bareMany_1
theorem dksX7_bareMany_0 : cX7_bareMany.data.toList.drop 0 = dktX7_bareMany_0 := by decide +kernel
theorem dksX7_bareMany_1 : cX7_bareMany.data.toList.drop 24 = dktX7_bareMany_1 := dk_seg dksX7_bareMany_0 24 rfl rfl
theorem dX7_bareMany_0 : decode cX7_bareMany 0 = .ok (.iconst 0, 1) := dk_3 (dk_at dksX7_bareMany_0 0 rfl rfl)
theorem dX7_bareMany_1 : decode cX7_bareMany 1 = .ok (.istore_n 1, 1) := dk_60 (dk_at dksX7_bareMany_0 1 rfl rfl)
theorem dX7_bareMany_2 : decode cX7_bareMany 2 = .ok (.iconst 0, 1) := dk_3 (dk_at dksX7_bareMany_0 2 rfl rfl)
theorem dX7_bareMany_3 : decode cX7_bareMany 3 = .ok (.istore_n 2, 1) := dk_61 (dk_at dksX7_bareMany_0 3 rfl rfl)
theorem dX7_bareMany_4 : decode cX7_bareMany 4 = .ok (.iload_n 2, 1) := dk_28 (dk_at dksX7_bareMany_0 4 rfl rfl)
theorem dX7_bareMany_5 : decode cX7_bareMany 5 = .ok (.aload_n 0, 1) := dk_42 (dk_at dksX7_bareMany_0 5 rfl rfl)
theorem dX7_bareMany_6 : decode cX7_bareMany 6 = .ok (.getfield 13, 3) := dk_180 0 13 (dk_at dksX7_bareMany_0 6 rfl rfl)
theorem dX7_bareMany_9 : decode cX7_bareMany 9 = .ok (.iconst 1, 1) := dk_4 (dk_at dksX7_bareMany_0 9 rfl rfl)
theorem dX7_bareMany_10 : decode cX7_bareMany 10 = .ok (.iaload, 1) := dk_46 (dk_at dksX7_bareMany_0 10 rfl rfl)
theorem dX7_bareMany_11 : decode cX7_bareMany 11 = .ok (.if_icmp .ge 25, 3) := dk_162 0 25 (dk_at dksX7_bareMany_0 11 rfl rfl)
theorem dX7_bareMany_14 : decode cX7_bareMany 14 = .ok (.iload_n 1, 1) := dk_27 (dk_at dksX7_bareMany_0 14 rfl rfl)
theorem dX7_bareMany_15 : decode cX7_bareMany 15 = .ok (.aload_n 0, 1) := dk_42 (dk_at dksX7_bareMany_0 15 rfl rfl)
theorem dX7_bareMany_16 : decode cX7_bareMany 16 = .ok (.iload_n 2, 1) := dk_28 (dk_at dksX7_bareMany_0 16 rfl rfl)
theorem dX7_bareMany_17 : decode cX7_bareMany 17 = .ok (.invokevirtual 126, 3) := dk_182 0 126 (dk_at dksX7_bareMany_0 17 rfl rfl)
theorem dX7_bareMany_20 : decode cX7_bareMany 20 = .ok (.ifCond .eq 7, 3) := dk_153 0 7 (dk_at dksX7_bareMany_0 20 rfl rfl)
theorem dX7_bareMany_23 : decode cX7_bareMany 23 = .ok (.iconst 1, 1) := dk_4 (dk_at dksX7_bareMany_0 23 rfl rfl)
theorem dX7_bareMany_24 : decode cX7_bareMany 24 = .ok (.goto 4, 3) := dk_167 0 4 (dk_at dksX7_bareMany_1 0 rfl rfl)
theorem dX7_bareMany_27 : decode cX7_bareMany 27 = .ok (.iconst 0, 1) := dk_3 (dk_at dksX7_bareMany_1 3 rfl rfl)
theorem dX7_bareMany_28 : decode cX7_bareMany 28 = .ok (.iadd, 1) := dk_96 (dk_at dksX7_bareMany_1 4 rfl rfl)
theorem dX7_bareMany_29 : decode cX7_bareMany 29 = .ok (.istore_n 1, 1) := dk_60 (dk_at dksX7_bareMany_1 5 rfl rfl)
theorem dX7_bareMany_30 : decode cX7_bareMany 30 = .ok (.iinc 2 1, 3) := dk_132 2 1 (dk_at dksX7_bareMany_1 6 rfl rfl)
theorem dX7_bareMany_33 : decode cX7_bareMany 33 = .ok (.goto (-29), 3) := dk_167 255 227 (dk_at dksX7_bareMany_1 9 rfl rfl)
theorem dX7_bareMany_36 : decode cX7_bareMany 36 = .ok (.iload_n 1, 1) := dk_27 (dk_at dksX7_bareMany_1 12 rfl rfl)
theorem dX7_bareMany_37 : decode cX7_bareMany 37 = .ok (.ireturn, 1) := dk_172 (dk_at dksX7_bareMany_1 13 rfl rfl)
abbrev cX7_count : ByteArray := prog_19_method_92_code
def yX7_count : MethodName := ⟨RX7, "count", "(II)I"⟩
def dkwX7_count_13 : List UInt8 := [16, 11, 96, 21, 8, 4, 96, 79, 42, 180, 0, 13, 21, 10, 5, 96, 46, 172]
abbrev dktX7_count_13 : List UInt8 := dkwX7_count_13 ++ []
def dkwX7_count_12 : List UInt8 := [180, 0, 13, 21, 10, 7, 96, 21, 7, 29, 104, 79, 42, 180, 0, 13, 16, 16, 16, 14, 27, 104, 96]
abbrev dktX7_count_12 : List UInt8 := dkwX7_count_12 ++ dktX7_count_13
def dkwX7_count_11 : List UInt8 := [133, 29, 133, 105, 28, 133, 109, 136, 79, 42, 180, 0, 13, 21, 10, 6, 96, 21, 6, 29, 104, 79, 42]
abbrev dktX7_count_11 : List UInt8 := dkwX7_count_11 ++ dktX7_count_12
def dkwX7_count_10 : List UInt8 := [180, 0, 13, 21, 10, 4, 96, 42, 27, 8, 182, 0, 84, 79, 42, 180, 0, 13, 21, 10, 5, 96, 21, 5]
abbrev dktX7_count_10 : List UInt8 := dkwX7_count_10 ++ dktX7_count_11
def dkwX7_count_9 : List UInt8 := [21, 9, 8, 21, 8, 104, 96, 54, 10, 42, 180, 0, 13, 21, 10, 42, 180, 0, 13, 3, 46, 79, 42]
abbrev dktX7_count_9 : List UInt8 := dkwX7_count_9 ++ dktX7_count_10
def dkwX7_count_8 : List UInt8 := [180, 0, 13, 21, 10, 42, 180, 0, 13, 21, 10, 8, 96, 46, 79, 132, 10, 1, 167, 255, 227, 132, 8, 255]
abbrev dktX7_count_8 : List UInt8 := dkwX7_count_8 ++ dktX7_count_9
def dkwX7_count_7 : List UInt8 := [54, 9, 21, 8, 16, 8, 160, 0, 42, 21, 9, 54, 10, 21, 10, 21, 9, 16, 35, 96, 162, 0, 25, 42]
abbrev dktX7_count_7 : List UInt8 := dkwX7_count_7 ++ dktX7_count_8
def dkwX7_count_6 : List UInt8 := [132, 8, 1, 167, 255, 181, 42, 27, 16, 11, 182, 0, 84, 54, 8, 17, 13, 242, 16, 40, 27, 104, 96]
abbrev dktX7_count_6 : List UInt8 := dkwX7_count_6 ++ dktX7_count_7
def dkwX7_count_5 : List UInt8 := [54, 6, 21, 8, 153, 0, 10, 21, 9, 21, 7, 164, 0, 8, 21, 9, 167, 0, 5, 21, 7, 54, 7]
abbrev dktX7_count_5 : List UInt8 := dkwX7_count_5 ++ dktX7_count_6
def dkwX7_count_4 : List UInt8 := [21, 9, 96, 54, 5, 21, 8, 153, 0, 10, 21, 9, 21, 6, 162, 0, 8, 21, 9, 167, 0, 5, 21, 6]
abbrev dktX7_count_4 : List UInt8 := dkwX7_count_4 ++ dktX7_count_5
def dkwX7_count_3 : List UInt8 := [28, 162, 0, 75, 21, 4, 16, 50, 42, 16, 101, 182, 1, 138, 96, 104, 16, 100, 108, 54, 9, 21, 5]
abbrev dktX7_count_3 : List UInt8 := dkwX7_count_3 ++ dktX7_count_4
def dkwX7_count_2 : List UInt8 := [62, 42, 27, 182, 0, 115, 29, 108, 54, 4, 3, 54, 5, 3, 54, 6, 3, 54, 7, 3, 54, 8, 21, 8]
abbrev dktX7_count_2 : List UInt8 := dkwX7_count_2 ++ dktX7_count_3
def dkwX7_count_1 : List UInt8 := [153, 0, 11, 42, 27, 182, 0, 126, 153, 0, 10, 42, 16, 249, 182, 0, 80, 172, 42, 27, 7, 182, 0, 84]
abbrev dktX7_count_1 : List UInt8 := dkwX7_count_1 ++ dktX7_count_2
def dkwX7_count_0 : List UInt8 := [42, 27, 182, 0, 118, 154, 0, 10, 42, 16, 253, 182, 0, 80, 172, 28, 4, 16, 20, 184, 0, 76]
abbrev dktX7_count_0 : List UInt8 := dkwX7_count_0 ++ dktX7_count_1
theorem dksX7_count_0 : cX7_count.data.toList.drop 0 = dktX7_count_0 := by decide +kernel
theorem dksX7_count_1 : cX7_count.data.toList.drop 22 = dktX7_count_1 := dk_seg dksX7_count_0 22 rfl rfl
theorem dksX7_count_2 : cX7_count.data.toList.drop 46 = dktX7_count_2 := dk_seg dksX7_count_1 24 rfl rfl
theorem dksX7_count_3 : cX7_count.data.toList.drop 70 = dktX7_count_3 := dk_seg dksX7_count_2 24 rfl rfl
theorem dksX7_count_4 : cX7_count.data.toList.drop 93 = dktX7_count_4 := dk_seg dksX7_count_3 23 rfl rfl
theorem dksX7_count_5 : cX7_count.data.toList.drop 117 = dktX7_count_5 := dk_seg dksX7_count_4 24 rfl rfl
theorem dksX7_count_6 : cX7_count.data.toList.drop 140 = dktX7_count_6 := dk_seg dksX7_count_5 23 rfl rfl
theorem dksX7_count_7 : cX7_count.data.toList.drop 163 = dktX7_count_7 := dk_seg dksX7_count_6 23 rfl rfl
theorem dksX7_count_8 : cX7_count.data.toList.drop 187 = dktX7_count_8 := dk_seg dksX7_count_7 24 rfl rfl
theorem dksX7_count_9 : cX7_count.data.toList.drop 211 = dktX7_count_9 := dk_seg dksX7_count_8 24 rfl rfl
theorem dksX7_count_10 : cX7_count.data.toList.drop 234 = dktX7_count_10 := dk_seg dksX7_count_9 23 rfl rfl
theorem dksX7_count_11 : cX7_count.data.toList.drop 258 = dktX7_count_11 := dk_seg dksX7_count_10 24 rfl rfl
theorem dksX7_count_12 : cX7_count.data.toList.drop 281 = dktX7_count_12 := dk_seg dksX7_count_11 23 rfl rfl
theorem dksX7_count_13 : cX7_count.data.toList.drop 304 = dktX7_count_13 := dk_seg dksX7_count_12 23 rfl rfl
theorem dX7_count_0 : decode cX7_count 0 = .ok (.aload_n 0, 1) := dk_42 (dk_at dksX7_count_0 0 rfl rfl)
theorem dX7_count_1 : decode cX7_count 1 = .ok (.iload_n 1, 1) := dk_27 (dk_at dksX7_count_0 1 rfl rfl)
theorem dX7_count_2 : decode cX7_count 2 = .ok (.invokevirtual 118, 3) := dk_182 0 118 (dk_at dksX7_count_0 2 rfl rfl)
theorem dX7_count_5 : decode cX7_count 5 = .ok (.ifCond .ne 10, 3) := dk_154 0 10 (dk_at dksX7_count_0 5 rfl rfl)
theorem dX7_count_8 : decode cX7_count 8 = .ok (.aload_n 0, 1) := dk_42 (dk_at dksX7_count_0 8 rfl rfl)
theorem dX7_count_9 : decode cX7_count 9 = .ok (.bipush (-3), 2) := dk_16 253 (dk_at dksX7_count_0 9 rfl rfl)
theorem dX7_count_11 : decode cX7_count 11 = .ok (.invokevirtual 80, 3) := dk_182 0 80 (dk_at dksX7_count_0 11 rfl rfl)
theorem dX7_count_14 : decode cX7_count 14 = .ok (.ireturn, 1) := dk_172 (dk_at dksX7_count_0 14 rfl rfl)
theorem dX7_count_15 : decode cX7_count 15 = .ok (.iload_n 2, 1) := dk_28 (dk_at dksX7_count_0 15 rfl rfl)
theorem dX7_count_16 : decode cX7_count 16 = .ok (.iconst 1, 1) := dk_4 (dk_at dksX7_count_0 16 rfl rfl)
theorem dX7_count_17 : decode cX7_count 17 = .ok (.bipush 20, 2) := dk_16 20 (dk_at dksX7_count_0 17 rfl rfl)
theorem dX7_count_19 : decode cX7_count 19 = .ok (.invokestatic 76, 3) := dk_184 0 76 (dk_at dksX7_count_0 19 rfl rfl)
theorem dX7_count_22 : decode cX7_count 22 = .ok (.ifCond .eq 11, 3) := dk_153 0 11 (dk_at dksX7_count_1 0 rfl rfl)
theorem dX7_count_25 : decode cX7_count 25 = .ok (.aload_n 0, 1) := dk_42 (dk_at dksX7_count_1 3 rfl rfl)
theorem dX7_count_26 : decode cX7_count 26 = .ok (.iload_n 1, 1) := dk_27 (dk_at dksX7_count_1 4 rfl rfl)
theorem dX7_count_27 : decode cX7_count 27 = .ok (.invokevirtual 126, 3) := dk_182 0 126 (dk_at dksX7_count_1 5 rfl rfl)
theorem dX7_count_30 : decode cX7_count 30 = .ok (.ifCond .eq 10, 3) := dk_153 0 10 (dk_at dksX7_count_1 8 rfl rfl)
theorem dX7_count_33 : decode cX7_count 33 = .ok (.aload_n 0, 1) := dk_42 (dk_at dksX7_count_1 11 rfl rfl)
theorem dX7_count_34 : decode cX7_count 34 = .ok (.bipush (-7), 2) := dk_16 249 (dk_at dksX7_count_1 12 rfl rfl)
theorem dX7_count_36 : decode cX7_count 36 = .ok (.invokevirtual 80, 3) := dk_182 0 80 (dk_at dksX7_count_1 14 rfl rfl)
theorem dX7_count_39 : decode cX7_count 39 = .ok (.ireturn, 1) := dk_172 (dk_at dksX7_count_1 17 rfl rfl)
theorem dX7_count_40 : decode cX7_count 40 = .ok (.aload_n 0, 1) := dk_42 (dk_at dksX7_count_1 18 rfl rfl)
theorem dX7_count_41 : decode cX7_count 41 = .ok (.iload_n 1, 1) := dk_27 (dk_at dksX7_count_1 19 rfl rfl)
theorem dX7_count_42 : decode cX7_count 42 = .ok (.iconst 4, 1) := dk_7 (dk_at dksX7_count_1 20 rfl rfl)
theorem dX7_count_43 : decode cX7_count 43 = .ok (.invokevirtual 84, 3) := dk_182 0 84 (dk_at dksX7_count_1 21 rfl rfl)
theorem dX7_count_46 : decode cX7_count 46 = .ok (.istore_n 3, 1) := dk_62 (dk_at dksX7_count_2 0 rfl rfl)
theorem dX7_count_47 : decode cX7_count 47 = .ok (.aload_n 0, 1) := dk_42 (dk_at dksX7_count_2 1 rfl rfl)
theorem dX7_count_48 : decode cX7_count 48 = .ok (.iload_n 1, 1) := dk_27 (dk_at dksX7_count_2 2 rfl rfl)
theorem dX7_count_49 : decode cX7_count 49 = .ok (.invokevirtual 115, 3) := dk_182 0 115 (dk_at dksX7_count_2 3 rfl rfl)
theorem dX7_count_52 : decode cX7_count 52 = .ok (.iload_n 3, 1) := dk_29 (dk_at dksX7_count_2 6 rfl rfl)
theorem dX7_count_53 : decode cX7_count 53 = .ok (.idiv, 1) := dk_108 (dk_at dksX7_count_2 7 rfl rfl)
theorem dX7_count_54 : decode cX7_count 54 = .ok (.istore 4, 2) := dk_54 4 (dk_at dksX7_count_2 8 rfl rfl)
theorem dX7_count_56 : decode cX7_count 56 = .ok (.iconst 0, 1) := dk_3 (dk_at dksX7_count_2 10 rfl rfl)
theorem dX7_count_57 : decode cX7_count 57 = .ok (.istore 5, 2) := dk_54 5 (dk_at dksX7_count_2 11 rfl rfl)
theorem dX7_count_59 : decode cX7_count 59 = .ok (.iconst 0, 1) := dk_3 (dk_at dksX7_count_2 13 rfl rfl)
theorem dX7_count_60 : decode cX7_count 60 = .ok (.istore 6, 2) := dk_54 6 (dk_at dksX7_count_2 14 rfl rfl)
theorem dX7_count_62 : decode cX7_count 62 = .ok (.iconst 0, 1) := dk_3 (dk_at dksX7_count_2 16 rfl rfl)
theorem dX7_count_63 : decode cX7_count 63 = .ok (.istore 7, 2) := dk_54 7 (dk_at dksX7_count_2 17 rfl rfl)
theorem dX7_count_65 : decode cX7_count 65 = .ok (.iconst 0, 1) := dk_3 (dk_at dksX7_count_2 19 rfl rfl)
theorem dX7_count_66 : decode cX7_count 66 = .ok (.istore 8, 2) := dk_54 8 (dk_at dksX7_count_2 20 rfl rfl)
theorem dX7_count_68 : decode cX7_count 68 = .ok (.iload 8, 2) := dk_21 8 (dk_at dksX7_count_2 22 rfl rfl)
theorem dX7_count_70 : decode cX7_count 70 = .ok (.iload_n 2, 1) := dk_28 (dk_at dksX7_count_3 0 rfl rfl)
theorem dX7_count_71 : decode cX7_count 71 = .ok (.if_icmp .ge 75, 3) := dk_162 0 75 (dk_at dksX7_count_3 1 rfl rfl)
theorem dX7_count_74 : decode cX7_count 74 = .ok (.iload 4, 2) := dk_21 4 (dk_at dksX7_count_3 4 rfl rfl)
theorem dX7_count_76 : decode cX7_count 76 = .ok (.bipush 50, 2) := dk_16 50 (dk_at dksX7_count_3 6 rfl rfl)
theorem dX7_count_78 : decode cX7_count 78 = .ok (.aload_n 0, 1) := dk_42 (dk_at dksX7_count_3 8 rfl rfl)
theorem dX7_count_79 : decode cX7_count 79 = .ok (.bipush 101, 2) := dk_16 101 (dk_at dksX7_count_3 9 rfl rfl)
theorem dX7_count_81 : decode cX7_count 81 = .ok (.invokevirtual 394, 3) := dk_182 1 138 (dk_at dksX7_count_3 11 rfl rfl)
theorem dX7_count_84 : decode cX7_count 84 = .ok (.iadd, 1) := dk_96 (dk_at dksX7_count_3 14 rfl rfl)
theorem dX7_count_85 : decode cX7_count 85 = .ok (.imul, 1) := dk_104 (dk_at dksX7_count_3 15 rfl rfl)
theorem dX7_count_86 : decode cX7_count 86 = .ok (.bipush 100, 2) := dk_16 100 (dk_at dksX7_count_3 16 rfl rfl)
theorem dX7_count_88 : decode cX7_count 88 = .ok (.idiv, 1) := dk_108 (dk_at dksX7_count_3 18 rfl rfl)
theorem dX7_count_89 : decode cX7_count 89 = .ok (.istore 9, 2) := dk_54 9 (dk_at dksX7_count_3 19 rfl rfl)
theorem dX7_count_91 : decode cX7_count 91 = .ok (.iload 5, 2) := dk_21 5 (dk_at dksX7_count_3 21 rfl rfl)
theorem dX7_count_93 : decode cX7_count 93 = .ok (.iload 9, 2) := dk_21 9 (dk_at dksX7_count_4 0 rfl rfl)
theorem dX7_count_95 : decode cX7_count 95 = .ok (.iadd, 1) := dk_96 (dk_at dksX7_count_4 2 rfl rfl)
theorem dX7_count_96 : decode cX7_count 96 = .ok (.istore 5, 2) := dk_54 5 (dk_at dksX7_count_4 3 rfl rfl)
theorem dX7_count_98 : decode cX7_count 98 = .ok (.iload 8, 2) := dk_21 8 (dk_at dksX7_count_4 5 rfl rfl)
theorem dX7_count_100 : decode cX7_count 100 = .ok (.ifCond .eq 10, 3) := dk_153 0 10 (dk_at dksX7_count_4 7 rfl rfl)
theorem dX7_count_103 : decode cX7_count 103 = .ok (.iload 9, 2) := dk_21 9 (dk_at dksX7_count_4 10 rfl rfl)
theorem dX7_count_105 : decode cX7_count 105 = .ok (.iload 6, 2) := dk_21 6 (dk_at dksX7_count_4 12 rfl rfl)
theorem dX7_count_107 : decode cX7_count 107 = .ok (.if_icmp .ge 8, 3) := dk_162 0 8 (dk_at dksX7_count_4 14 rfl rfl)
theorem dX7_count_110 : decode cX7_count 110 = .ok (.iload 9, 2) := dk_21 9 (dk_at dksX7_count_4 17 rfl rfl)
theorem dX7_count_112 : decode cX7_count 112 = .ok (.goto 5, 3) := dk_167 0 5 (dk_at dksX7_count_4 19 rfl rfl)
theorem dX7_count_115 : decode cX7_count 115 = .ok (.iload 6, 2) := dk_21 6 (dk_at dksX7_count_4 22 rfl rfl)
theorem dX7_count_117 : decode cX7_count 117 = .ok (.istore 6, 2) := dk_54 6 (dk_at dksX7_count_5 0 rfl rfl)
theorem dX7_count_119 : decode cX7_count 119 = .ok (.iload 8, 2) := dk_21 8 (dk_at dksX7_count_5 2 rfl rfl)
theorem dX7_count_121 : decode cX7_count 121 = .ok (.ifCond .eq 10, 3) := dk_153 0 10 (dk_at dksX7_count_5 4 rfl rfl)
theorem dX7_count_124 : decode cX7_count 124 = .ok (.iload 9, 2) := dk_21 9 (dk_at dksX7_count_5 7 rfl rfl)
theorem dX7_count_126 : decode cX7_count 126 = .ok (.iload 7, 2) := dk_21 7 (dk_at dksX7_count_5 9 rfl rfl)
theorem dX7_count_128 : decode cX7_count 128 = .ok (.if_icmp .le 8, 3) := dk_164 0 8 (dk_at dksX7_count_5 11 rfl rfl)
theorem dX7_count_131 : decode cX7_count 131 = .ok (.iload 9, 2) := dk_21 9 (dk_at dksX7_count_5 14 rfl rfl)
theorem dX7_count_133 : decode cX7_count 133 = .ok (.goto 5, 3) := dk_167 0 5 (dk_at dksX7_count_5 16 rfl rfl)
theorem dX7_count_136 : decode cX7_count 136 = .ok (.iload 7, 2) := dk_21 7 (dk_at dksX7_count_5 19 rfl rfl)
theorem dX7_count_138 : decode cX7_count 138 = .ok (.istore 7, 2) := dk_54 7 (dk_at dksX7_count_5 21 rfl rfl)
theorem dX7_count_140 : decode cX7_count 140 = .ok (.iinc 8 1, 3) := dk_132 8 1 (dk_at dksX7_count_6 0 rfl rfl)
theorem dX7_count_143 : decode cX7_count 143 = .ok (.goto (-75), 3) := dk_167 255 181 (dk_at dksX7_count_6 3 rfl rfl)
theorem dX7_count_146 : decode cX7_count 146 = .ok (.aload_n 0, 1) := dk_42 (dk_at dksX7_count_6 6 rfl rfl)
theorem dX7_count_147 : decode cX7_count 147 = .ok (.iload_n 1, 1) := dk_27 (dk_at dksX7_count_6 7 rfl rfl)
theorem dX7_count_148 : decode cX7_count 148 = .ok (.bipush 11, 2) := dk_16 11 (dk_at dksX7_count_6 8 rfl rfl)
theorem dX7_count_150 : decode cX7_count 150 = .ok (.invokevirtual 84, 3) := dk_182 0 84 (dk_at dksX7_count_6 10 rfl rfl)
theorem dX7_count_153 : decode cX7_count 153 = .ok (.istore 8, 2) := dk_54 8 (dk_at dksX7_count_6 13 rfl rfl)
theorem dX7_count_155 : decode cX7_count 155 = .ok (.sipush 3570, 3) := dk_17 13 242 (dk_at dksX7_count_6 15 rfl rfl)
theorem dX7_count_158 : decode cX7_count 158 = .ok (.bipush 40, 2) := dk_16 40 (dk_at dksX7_count_6 18 rfl rfl)
theorem dX7_count_160 : decode cX7_count 160 = .ok (.iload_n 1, 1) := dk_27 (dk_at dksX7_count_6 20 rfl rfl)
theorem dX7_count_161 : decode cX7_count 161 = .ok (.imul, 1) := dk_104 (dk_at dksX7_count_6 21 rfl rfl)
theorem dX7_count_162 : decode cX7_count 162 = .ok (.iadd, 1) := dk_96 (dk_at dksX7_count_6 22 rfl rfl)
theorem dX7_count_163 : decode cX7_count 163 = .ok (.istore 9, 2) := dk_54 9 (dk_at dksX7_count_7 0 rfl rfl)
theorem dX7_count_165 : decode cX7_count 165 = .ok (.iload 8, 2) := dk_21 8 (dk_at dksX7_count_7 2 rfl rfl)
theorem dX7_count_167 : decode cX7_count 167 = .ok (.bipush 8, 2) := dk_16 8 (dk_at dksX7_count_7 4 rfl rfl)
theorem dX7_count_169 : decode cX7_count 169 = .ok (.if_icmp .ne 42, 3) := dk_160 0 42 (dk_at dksX7_count_7 6 rfl rfl)
theorem dX7_count_172 : decode cX7_count 172 = .ok (.iload 9, 2) := dk_21 9 (dk_at dksX7_count_7 9 rfl rfl)
theorem dX7_count_174 : decode cX7_count 174 = .ok (.istore 10, 2) := dk_54 10 (dk_at dksX7_count_7 11 rfl rfl)
theorem dX7_count_176 : decode cX7_count 176 = .ok (.iload 10, 2) := dk_21 10 (dk_at dksX7_count_7 13 rfl rfl)
theorem dX7_count_178 : decode cX7_count 178 = .ok (.iload 9, 2) := dk_21 9 (dk_at dksX7_count_7 15 rfl rfl)
theorem dX7_count_180 : decode cX7_count 180 = .ok (.bipush 35, 2) := dk_16 35 (dk_at dksX7_count_7 17 rfl rfl)
theorem dX7_count_182 : decode cX7_count 182 = .ok (.iadd, 1) := dk_96 (dk_at dksX7_count_7 19 rfl rfl)
theorem dX7_count_183 : decode cX7_count 183 = .ok (.if_icmp .ge 25, 3) := dk_162 0 25 (dk_at dksX7_count_7 20 rfl rfl)
theorem dX7_count_186 : decode cX7_count 186 = .ok (.aload_n 0, 1) := dk_42 (dk_at dksX7_count_7 23 rfl rfl)
theorem dX7_count_187 : decode cX7_count 187 = .ok (.getfield 13, 3) := dk_180 0 13 (dk_at dksX7_count_8 0 rfl rfl)
theorem dX7_count_190 : decode cX7_count 190 = .ok (.iload 10, 2) := dk_21 10 (dk_at dksX7_count_8 3 rfl rfl)
theorem dX7_count_192 : decode cX7_count 192 = .ok (.aload_n 0, 1) := dk_42 (dk_at dksX7_count_8 5 rfl rfl)
theorem dX7_count_193 : decode cX7_count 193 = .ok (.getfield 13, 3) := dk_180 0 13 (dk_at dksX7_count_8 6 rfl rfl)
theorem dX7_count_196 : decode cX7_count 196 = .ok (.iload 10, 2) := dk_21 10 (dk_at dksX7_count_8 9 rfl rfl)
theorem dX7_count_198 : decode cX7_count 198 = .ok (.iconst 5, 1) := dk_8 (dk_at dksX7_count_8 11 rfl rfl)
theorem dX7_count_199 : decode cX7_count 199 = .ok (.iadd, 1) := dk_96 (dk_at dksX7_count_8 12 rfl rfl)
theorem dX7_count_200 : decode cX7_count 200 = .ok (.iaload, 1) := dk_46 (dk_at dksX7_count_8 13 rfl rfl)
theorem dX7_count_201 : decode cX7_count 201 = .ok (.iastore, 1) := dk_79 (dk_at dksX7_count_8 14 rfl rfl)
theorem dX7_count_202 : decode cX7_count 202 = .ok (.iinc 10 1, 3) := dk_132 10 1 (dk_at dksX7_count_8 15 rfl rfl)
theorem dX7_count_205 : decode cX7_count 205 = .ok (.goto (-29), 3) := dk_167 255 227 (dk_at dksX7_count_8 18 rfl rfl)
theorem dX7_count_208 : decode cX7_count 208 = .ok (.iinc 8 (-1), 3) := dk_132 8 255 (dk_at dksX7_count_8 21 rfl rfl)
theorem dX7_count_211 : decode cX7_count 211 = .ok (.iload 9, 2) := dk_21 9 (dk_at dksX7_count_9 0 rfl rfl)
theorem dX7_count_213 : decode cX7_count 213 = .ok (.iconst 5, 1) := dk_8 (dk_at dksX7_count_9 2 rfl rfl)
theorem dX7_count_214 : decode cX7_count 214 = .ok (.iload 8, 2) := dk_21 8 (dk_at dksX7_count_9 3 rfl rfl)
theorem dX7_count_216 : decode cX7_count 216 = .ok (.imul, 1) := dk_104 (dk_at dksX7_count_9 5 rfl rfl)
theorem dX7_count_217 : decode cX7_count 217 = .ok (.iadd, 1) := dk_96 (dk_at dksX7_count_9 6 rfl rfl)
theorem dX7_count_218 : decode cX7_count 218 = .ok (.istore 10, 2) := dk_54 10 (dk_at dksX7_count_9 7 rfl rfl)
theorem dX7_count_220 : decode cX7_count 220 = .ok (.aload_n 0, 1) := dk_42 (dk_at dksX7_count_9 9 rfl rfl)
theorem dX7_count_221 : decode cX7_count 221 = .ok (.getfield 13, 3) := dk_180 0 13 (dk_at dksX7_count_9 10 rfl rfl)
theorem dX7_count_224 : decode cX7_count 224 = .ok (.iload 10, 2) := dk_21 10 (dk_at dksX7_count_9 13 rfl rfl)
theorem dX7_count_226 : decode cX7_count 226 = .ok (.aload_n 0, 1) := dk_42 (dk_at dksX7_count_9 15 rfl rfl)
theorem dX7_count_227 : decode cX7_count 227 = .ok (.getfield 13, 3) := dk_180 0 13 (dk_at dksX7_count_9 16 rfl rfl)
theorem dX7_count_230 : decode cX7_count 230 = .ok (.iconst 0, 1) := dk_3 (dk_at dksX7_count_9 19 rfl rfl)
theorem dX7_count_231 : decode cX7_count 231 = .ok (.iaload, 1) := dk_46 (dk_at dksX7_count_9 20 rfl rfl)
theorem dX7_count_232 : decode cX7_count 232 = .ok (.iastore, 1) := dk_79 (dk_at dksX7_count_9 21 rfl rfl)
theorem dX7_count_233 : decode cX7_count 233 = .ok (.aload_n 0, 1) := dk_42 (dk_at dksX7_count_9 22 rfl rfl)
theorem dX7_count_234 : decode cX7_count 234 = .ok (.getfield 13, 3) := dk_180 0 13 (dk_at dksX7_count_10 0 rfl rfl)
theorem dX7_count_237 : decode cX7_count 237 = .ok (.iload 10, 2) := dk_21 10 (dk_at dksX7_count_10 3 rfl rfl)
theorem dX7_count_239 : decode cX7_count 239 = .ok (.iconst 1, 1) := dk_4 (dk_at dksX7_count_10 5 rfl rfl)
theorem dX7_count_240 : decode cX7_count 240 = .ok (.iadd, 1) := dk_96 (dk_at dksX7_count_10 6 rfl rfl)
theorem dX7_count_241 : decode cX7_count 241 = .ok (.aload_n 0, 1) := dk_42 (dk_at dksX7_count_10 7 rfl rfl)
theorem dX7_count_242 : decode cX7_count 242 = .ok (.iload_n 1, 1) := dk_27 (dk_at dksX7_count_10 8 rfl rfl)
theorem dX7_count_243 : decode cX7_count 243 = .ok (.iconst 5, 1) := dk_8 (dk_at dksX7_count_10 9 rfl rfl)
theorem dX7_count_244 : decode cX7_count 244 = .ok (.invokevirtual 84, 3) := dk_182 0 84 (dk_at dksX7_count_10 10 rfl rfl)
theorem dX7_count_247 : decode cX7_count 247 = .ok (.iastore, 1) := dk_79 (dk_at dksX7_count_10 13 rfl rfl)
theorem dX7_count_248 : decode cX7_count 248 = .ok (.aload_n 0, 1) := dk_42 (dk_at dksX7_count_10 14 rfl rfl)
theorem dX7_count_249 : decode cX7_count 249 = .ok (.getfield 13, 3) := dk_180 0 13 (dk_at dksX7_count_10 15 rfl rfl)
theorem dX7_count_252 : decode cX7_count 252 = .ok (.iload 10, 2) := dk_21 10 (dk_at dksX7_count_10 18 rfl rfl)
theorem dX7_count_254 : decode cX7_count 254 = .ok (.iconst 2, 1) := dk_5 (dk_at dksX7_count_10 20 rfl rfl)
theorem dX7_count_255 : decode cX7_count 255 = .ok (.iadd, 1) := dk_96 (dk_at dksX7_count_10 21 rfl rfl)
theorem dX7_count_256 : decode cX7_count 256 = .ok (.iload 5, 2) := dk_21 5 (dk_at dksX7_count_10 22 rfl rfl)
theorem dX7_count_258 : decode cX7_count 258 = .ok (.i2l, 1) := dk_133 (dk_at dksX7_count_11 0 rfl rfl)
theorem dX7_count_259 : decode cX7_count 259 = .ok (.iload_n 3, 1) := dk_29 (dk_at dksX7_count_11 1 rfl rfl)
theorem dX7_count_260 : decode cX7_count 260 = .ok (.i2l, 1) := dk_133 (dk_at dksX7_count_11 2 rfl rfl)
theorem dX7_count_261 : decode cX7_count 261 = .ok (.lmul, 1) := dk_105 (dk_at dksX7_count_11 3 rfl rfl)
theorem dX7_count_262 : decode cX7_count 262 = .ok (.iload_n 2, 1) := dk_28 (dk_at dksX7_count_11 4 rfl rfl)
theorem dX7_count_263 : decode cX7_count 263 = .ok (.i2l, 1) := dk_133 (dk_at dksX7_count_11 5 rfl rfl)
theorem dX7_count_264 : decode cX7_count 264 = .ok (.ldiv, 1) := dk_109 (dk_at dksX7_count_11 6 rfl rfl)
theorem dX7_count_265 : decode cX7_count 265 = .ok (.l2i, 1) := dk_136 (dk_at dksX7_count_11 7 rfl rfl)
theorem dX7_count_266 : decode cX7_count 266 = .ok (.iastore, 1) := dk_79 (dk_at dksX7_count_11 8 rfl rfl)
theorem dX7_count_267 : decode cX7_count 267 = .ok (.aload_n 0, 1) := dk_42 (dk_at dksX7_count_11 9 rfl rfl)
theorem dX7_count_268 : decode cX7_count 268 = .ok (.getfield 13, 3) := dk_180 0 13 (dk_at dksX7_count_11 10 rfl rfl)
theorem dX7_count_271 : decode cX7_count 271 = .ok (.iload 10, 2) := dk_21 10 (dk_at dksX7_count_11 13 rfl rfl)
theorem dX7_count_273 : decode cX7_count 273 = .ok (.iconst 3, 1) := dk_6 (dk_at dksX7_count_11 15 rfl rfl)
theorem dX7_count_274 : decode cX7_count 274 = .ok (.iadd, 1) := dk_96 (dk_at dksX7_count_11 16 rfl rfl)
theorem dX7_count_275 : decode cX7_count 275 = .ok (.iload 6, 2) := dk_21 6 (dk_at dksX7_count_11 17 rfl rfl)
theorem dX7_count_277 : decode cX7_count 277 = .ok (.iload_n 3, 1) := dk_29 (dk_at dksX7_count_11 19 rfl rfl)
theorem dX7_count_278 : decode cX7_count 278 = .ok (.imul, 1) := dk_104 (dk_at dksX7_count_11 20 rfl rfl)
theorem dX7_count_279 : decode cX7_count 279 = .ok (.iastore, 1) := dk_79 (dk_at dksX7_count_11 21 rfl rfl)
theorem dX7_count_280 : decode cX7_count 280 = .ok (.aload_n 0, 1) := dk_42 (dk_at dksX7_count_11 22 rfl rfl)
theorem dX7_count_281 : decode cX7_count 281 = .ok (.getfield 13, 3) := dk_180 0 13 (dk_at dksX7_count_12 0 rfl rfl)
theorem dX7_count_284 : decode cX7_count 284 = .ok (.iload 10, 2) := dk_21 10 (dk_at dksX7_count_12 3 rfl rfl)
theorem dX7_count_286 : decode cX7_count 286 = .ok (.iconst 4, 1) := dk_7 (dk_at dksX7_count_12 5 rfl rfl)
theorem dX7_count_287 : decode cX7_count 287 = .ok (.iadd, 1) := dk_96 (dk_at dksX7_count_12 6 rfl rfl)
theorem dX7_count_288 : decode cX7_count 288 = .ok (.iload 7, 2) := dk_21 7 (dk_at dksX7_count_12 7 rfl rfl)
theorem dX7_count_290 : decode cX7_count 290 = .ok (.iload_n 3, 1) := dk_29 (dk_at dksX7_count_12 9 rfl rfl)
theorem dX7_count_291 : decode cX7_count 291 = .ok (.imul, 1) := dk_104 (dk_at dksX7_count_12 10 rfl rfl)
theorem dX7_count_292 : decode cX7_count 292 = .ok (.iastore, 1) := dk_79 (dk_at dksX7_count_12 11 rfl rfl)
theorem dX7_count_293 : decode cX7_count 293 = .ok (.aload_n 0, 1) := dk_42 (dk_at dksX7_count_12 12 rfl rfl)
theorem dX7_count_294 : decode cX7_count 294 = .ok (.getfield 13, 3) := dk_180 0 13 (dk_at dksX7_count_12 13 rfl rfl)
theorem dX7_count_297 : decode cX7_count 297 = .ok (.bipush 16, 2) := dk_16 16 (dk_at dksX7_count_12 16 rfl rfl)
theorem dX7_count_299 : decode cX7_count 299 = .ok (.bipush 14, 2) := dk_16 14 (dk_at dksX7_count_12 18 rfl rfl)
theorem dX7_count_301 : decode cX7_count 301 = .ok (.iload_n 1, 1) := dk_27 (dk_at dksX7_count_12 20 rfl rfl)
theorem dX7_count_302 : decode cX7_count 302 = .ok (.imul, 1) := dk_104 (dk_at dksX7_count_12 21 rfl rfl)
theorem dX7_count_303 : decode cX7_count 303 = .ok (.iadd, 1) := dk_96 (dk_at dksX7_count_12 22 rfl rfl)
theorem dX7_count_304 : decode cX7_count 304 = .ok (.bipush 11, 2) := dk_16 11 (dk_at dksX7_count_13 0 rfl rfl)
theorem dX7_count_306 : decode cX7_count 306 = .ok (.iadd, 1) := dk_96 (dk_at dksX7_count_13 2 rfl rfl)
theorem dX7_count_307 : decode cX7_count 307 = .ok (.iload 8, 2) := dk_21 8 (dk_at dksX7_count_13 3 rfl rfl)
theorem dX7_count_309 : decode cX7_count 309 = .ok (.iconst 1, 1) := dk_4 (dk_at dksX7_count_13 5 rfl rfl)
theorem dX7_count_310 : decode cX7_count 310 = .ok (.iadd, 1) := dk_96 (dk_at dksX7_count_13 6 rfl rfl)
theorem dX7_count_311 : decode cX7_count 311 = .ok (.iastore, 1) := dk_79 (dk_at dksX7_count_13 7 rfl rfl)
theorem dX7_count_312 : decode cX7_count 312 = .ok (.aload_n 0, 1) := dk_42 (dk_at dksX7_count_13 8 rfl rfl)
theorem dX7_count_313 : decode cX7_count 313 = .ok (.getfield 13, 3) := dk_180 0 13 (dk_at dksX7_count_13 9 rfl rfl)
theorem dX7_count_316 : decode cX7_count 316 = .ok (.iload 10, 2) := dk_21 10 (dk_at dksX7_count_13 12 rfl rfl)
theorem dX7_count_318 : decode cX7_count 318 = .ok (.iconst 2, 1) := dk_5 (dk_at dksX7_count_13 14 rfl rfl)
theorem dX7_count_319 : decode cX7_count 319 = .ok (.iadd, 1) := dk_96 (dk_at dksX7_count_13 15 rfl rfl)
theorem dX7_count_320 : decode cX7_count 320 = .ok (.iaload, 1) := dk_46 (dk_at dksX7_count_13 16 rfl rfl)
theorem dX7_count_321 : decode cX7_count 321 = .ok (.ireturn, 1) := dk_172 (dk_at dksX7_count_13 17 rfl rfl)
abbrev cX7_draw : ByteArray := prog_19_method_91_code
def yX7_draw : MethodName := ⟨RX7, "draw", "(I)I"⟩
def dkwX7_draw_1 : List UInt8 := [180, 0, 13, 16, 7, 46, 16, 16, 124, 27, 112, 172]
abbrev dktX7_draw_1 : List UInt8 := dkwX7_draw_1 ++ []
def dkwX7_draw_0 : List UInt8 := [42, 180, 0, 13, 16, 7, 42, 180, 0, 13, 16, 7, 46, 19, 1, 137, 104, 17, 48, 57, 96, 79, 42]
abbrev dktX7_draw_0 : List UInt8 := dkwX7_draw_0 ++ dktX7_draw_1
theorem dksX7_draw_0 : cX7_draw.data.toList.drop 0 = dktX7_draw_0 := by decide +kernel
theorem dksX7_draw_1 : cX7_draw.data.toList.drop 23 = dktX7_draw_1 := dk_seg dksX7_draw_0 23 rfl rfl
theorem dX7_draw_0 : decode cX7_draw 0 = .ok (.aload_n 0, 1) := dk_42 (dk_at dksX7_draw_0 0 rfl rfl)
theorem dX7_draw_1 : decode cX7_draw 1 = .ok (.getfield 13, 3) := dk_180 0 13 (dk_at dksX7_draw_0 1 rfl rfl)
theorem dX7_draw_4 : decode cX7_draw 4 = .ok (.bipush 7, 2) := dk_16 7 (dk_at dksX7_draw_0 4 rfl rfl)
theorem dX7_draw_6 : decode cX7_draw 6 = .ok (.aload_n 0, 1) := dk_42 (dk_at dksX7_draw_0 6 rfl rfl)
theorem dX7_draw_7 : decode cX7_draw 7 = .ok (.getfield 13, 3) := dk_180 0 13 (dk_at dksX7_draw_0 7 rfl rfl)
theorem dX7_draw_10 : decode cX7_draw 10 = .ok (.bipush 7, 2) := dk_16 7 (dk_at dksX7_draw_0 10 rfl rfl)
theorem dX7_draw_12 : decode cX7_draw 12 = .ok (.iaload, 1) := dk_46 (dk_at dksX7_draw_0 12 rfl rfl)
theorem dX7_draw_13 : decode cX7_draw 13 = .ok (.ldc_w 393, 3) := dk_19 1 137 (dk_at dksX7_draw_0 13 rfl rfl)
theorem dX7_draw_16 : decode cX7_draw 16 = .ok (.imul, 1) := dk_104 (dk_at dksX7_draw_0 16 rfl rfl)
theorem dX7_draw_17 : decode cX7_draw 17 = .ok (.sipush 12345, 3) := dk_17 48 57 (dk_at dksX7_draw_0 17 rfl rfl)
theorem dX7_draw_20 : decode cX7_draw 20 = .ok (.iadd, 1) := dk_96 (dk_at dksX7_draw_0 20 rfl rfl)
theorem dX7_draw_21 : decode cX7_draw 21 = .ok (.iastore, 1) := dk_79 (dk_at dksX7_draw_0 21 rfl rfl)
theorem dX7_draw_22 : decode cX7_draw 22 = .ok (.aload_n 0, 1) := dk_42 (dk_at dksX7_draw_0 22 rfl rfl)
theorem dX7_draw_23 : decode cX7_draw 23 = .ok (.getfield 13, 3) := dk_180 0 13 (dk_at dksX7_draw_1 0 rfl rfl)
theorem dX7_draw_26 : decode cX7_draw 26 = .ok (.bipush 7, 2) := dk_16 7 (dk_at dksX7_draw_1 3 rfl rfl)
theorem dX7_draw_28 : decode cX7_draw 28 = .ok (.iaload, 1) := dk_46 (dk_at dksX7_draw_1 5 rfl rfl)
theorem dX7_draw_29 : decode cX7_draw 29 = .ok (.bipush 16, 2) := dk_16 16 (dk_at dksX7_draw_1 6 rfl rfl)
theorem dX7_draw_31 : decode cX7_draw 31 = .ok (.iushr, 1) := dk_124 (dk_at dksX7_draw_1 8 rfl rfl)
theorem dX7_draw_32 : decode cX7_draw 32 = .ok (.iload_n 1, 1) := dk_27 (dk_at dksX7_draw_1 9 rfl rfl)
theorem dX7_draw_33 : decode cX7_draw 33 = .ok (.irem, 1) := dk_112 (dk_at dksX7_draw_1 10 rfl rfl)
theorem dX7_draw_34 : decode cX7_draw 34 = .ok (.ireturn, 1) := dk_172 (dk_at dksX7_draw_1 11 rfl rfl)
abbrev cX7_counted : ByteArray := prog_19_method_95_code
def yX7_counted : MethodName := ⟨RX7, "counted", "(III)I"⟩
def dkwX7_counted_3 : List UInt8 := [96, 29, 96, 46, 167, 0, 9, 42, 16, 249, 182, 0, 80, 172]
abbrev dktX7_counted_3 : List UInt8 := dkwX7_counted_3 ++ []
def dkwX7_counted_2 : List UInt8 := [29, 3, 7, 184, 0, 76, 153, 0, 25, 42, 180, 0, 13, 17, 13, 242, 16, 40, 27, 104, 96, 8, 28, 104]
abbrev dktX7_counted_2 : List UInt8 := dkwX7_counted_2 ++ dktX7_counted_3
def dkwX7_counted_1 : List UInt8 := [154, 0, 10, 42, 16, 253, 182, 0, 80, 172, 29, 8, 160, 0, 12, 42, 27, 28, 182, 1, 141, 167, 0, 40]
abbrev dktX7_counted_1 : List UInt8 := dkwX7_counted_1 ++ dktX7_counted_2
def dkwX7_counted_0 : List UInt8 := [42, 27, 182, 0, 118, 153, 0, 20, 28, 3, 42, 27, 16, 11, 182, 0, 84, 4, 100, 184, 0, 76]
abbrev dktX7_counted_0 : List UInt8 := dkwX7_counted_0 ++ dktX7_counted_1
theorem dksX7_counted_0 : cX7_counted.data.toList.drop 0 = dktX7_counted_0 := by decide +kernel
theorem dksX7_counted_1 : cX7_counted.data.toList.drop 22 = dktX7_counted_1 := dk_seg dksX7_counted_0 22 rfl rfl
theorem dksX7_counted_2 : cX7_counted.data.toList.drop 46 = dktX7_counted_2 := dk_seg dksX7_counted_1 24 rfl rfl
theorem dksX7_counted_3 : cX7_counted.data.toList.drop 70 = dktX7_counted_3 := dk_seg dksX7_counted_2 24 rfl rfl
theorem dX7_counted_0 : decode cX7_counted 0 = .ok (.aload_n 0, 1) := dk_42 (dk_at dksX7_counted_0 0 rfl rfl)
theorem dX7_counted_1 : decode cX7_counted 1 = .ok (.iload_n 1, 1) := dk_27 (dk_at dksX7_counted_0 1 rfl rfl)
theorem dX7_counted_2 : decode cX7_counted 2 = .ok (.invokevirtual 118, 3) := dk_182 0 118 (dk_at dksX7_counted_0 2 rfl rfl)
theorem dX7_counted_5 : decode cX7_counted 5 = .ok (.ifCond .eq 20, 3) := dk_153 0 20 (dk_at dksX7_counted_0 5 rfl rfl)
theorem dX7_counted_8 : decode cX7_counted 8 = .ok (.iload_n 2, 1) := dk_28 (dk_at dksX7_counted_0 8 rfl rfl)
theorem dX7_counted_9 : decode cX7_counted 9 = .ok (.iconst 0, 1) := dk_3 (dk_at dksX7_counted_0 9 rfl rfl)
theorem dX7_counted_10 : decode cX7_counted 10 = .ok (.aload_n 0, 1) := dk_42 (dk_at dksX7_counted_0 10 rfl rfl)
theorem dX7_counted_11 : decode cX7_counted 11 = .ok (.iload_n 1, 1) := dk_27 (dk_at dksX7_counted_0 11 rfl rfl)
theorem dX7_counted_12 : decode cX7_counted 12 = .ok (.bipush 11, 2) := dk_16 11 (dk_at dksX7_counted_0 12 rfl rfl)
theorem dX7_counted_14 : decode cX7_counted 14 = .ok (.invokevirtual 84, 3) := dk_182 0 84 (dk_at dksX7_counted_0 14 rfl rfl)
theorem dX7_counted_17 : decode cX7_counted 17 = .ok (.iconst 1, 1) := dk_4 (dk_at dksX7_counted_0 17 rfl rfl)
theorem dX7_counted_18 : decode cX7_counted 18 = .ok (.isub, 1) := dk_100 (dk_at dksX7_counted_0 18 rfl rfl)
theorem dX7_counted_19 : decode cX7_counted 19 = .ok (.invokestatic 76, 3) := dk_184 0 76 (dk_at dksX7_counted_0 19 rfl rfl)
theorem dX7_counted_22 : decode cX7_counted 22 = .ok (.ifCond .ne 10, 3) := dk_154 0 10 (dk_at dksX7_counted_1 0 rfl rfl)
theorem dX7_counted_25 : decode cX7_counted 25 = .ok (.aload_n 0, 1) := dk_42 (dk_at dksX7_counted_1 3 rfl rfl)
theorem dX7_counted_26 : decode cX7_counted 26 = .ok (.bipush (-3), 2) := dk_16 253 (dk_at dksX7_counted_1 4 rfl rfl)
theorem dX7_counted_28 : decode cX7_counted 28 = .ok (.invokevirtual 80, 3) := dk_182 0 80 (dk_at dksX7_counted_1 6 rfl rfl)
theorem dX7_counted_31 : decode cX7_counted 31 = .ok (.ireturn, 1) := dk_172 (dk_at dksX7_counted_1 9 rfl rfl)
theorem dX7_counted_32 : decode cX7_counted 32 = .ok (.iload_n 3, 1) := dk_29 (dk_at dksX7_counted_1 10 rfl rfl)
theorem dX7_counted_33 : decode cX7_counted 33 = .ok (.iconst 5, 1) := dk_8 (dk_at dksX7_counted_1 11 rfl rfl)
theorem dX7_counted_34 : decode cX7_counted 34 = .ok (.if_icmp .ne 12, 3) := dk_160 0 12 (dk_at dksX7_counted_1 12 rfl rfl)
theorem dX7_counted_37 : decode cX7_counted 37 = .ok (.aload_n 0, 1) := dk_42 (dk_at dksX7_counted_1 15 rfl rfl)
theorem dX7_counted_38 : decode cX7_counted 38 = .ok (.iload_n 1, 1) := dk_27 (dk_at dksX7_counted_1 16 rfl rfl)
theorem dX7_counted_39 : decode cX7_counted 39 = .ok (.iload_n 2, 1) := dk_28 (dk_at dksX7_counted_1 17 rfl rfl)
theorem dX7_counted_40 : decode cX7_counted 40 = .ok (.invokevirtual 397, 3) := dk_182 1 141 (dk_at dksX7_counted_1 18 rfl rfl)
theorem dX7_counted_43 : decode cX7_counted 43 = .ok (.goto 40, 3) := dk_167 0 40 (dk_at dksX7_counted_1 21 rfl rfl)
theorem dX7_counted_46 : decode cX7_counted 46 = .ok (.iload_n 3, 1) := dk_29 (dk_at dksX7_counted_2 0 rfl rfl)
theorem dX7_counted_47 : decode cX7_counted 47 = .ok (.iconst 0, 1) := dk_3 (dk_at dksX7_counted_2 1 rfl rfl)
theorem dX7_counted_48 : decode cX7_counted 48 = .ok (.iconst 4, 1) := dk_7 (dk_at dksX7_counted_2 2 rfl rfl)
theorem dX7_counted_49 : decode cX7_counted 49 = .ok (.invokestatic 76, 3) := dk_184 0 76 (dk_at dksX7_counted_2 3 rfl rfl)
theorem dX7_counted_52 : decode cX7_counted 52 = .ok (.ifCond .eq 25, 3) := dk_153 0 25 (dk_at dksX7_counted_2 6 rfl rfl)
theorem dX7_counted_55 : decode cX7_counted 55 = .ok (.aload_n 0, 1) := dk_42 (dk_at dksX7_counted_2 9 rfl rfl)
theorem dX7_counted_56 : decode cX7_counted 56 = .ok (.getfield 13, 3) := dk_180 0 13 (dk_at dksX7_counted_2 10 rfl rfl)
theorem dX7_counted_59 : decode cX7_counted 59 = .ok (.sipush 3570, 3) := dk_17 13 242 (dk_at dksX7_counted_2 13 rfl rfl)
theorem dX7_counted_62 : decode cX7_counted 62 = .ok (.bipush 40, 2) := dk_16 40 (dk_at dksX7_counted_2 16 rfl rfl)
theorem dX7_counted_64 : decode cX7_counted 64 = .ok (.iload_n 1, 1) := dk_27 (dk_at dksX7_counted_2 18 rfl rfl)
theorem dX7_counted_65 : decode cX7_counted 65 = .ok (.imul, 1) := dk_104 (dk_at dksX7_counted_2 19 rfl rfl)
theorem dX7_counted_66 : decode cX7_counted 66 = .ok (.iadd, 1) := dk_96 (dk_at dksX7_counted_2 20 rfl rfl)
theorem dX7_counted_67 : decode cX7_counted 67 = .ok (.iconst 5, 1) := dk_8 (dk_at dksX7_counted_2 21 rfl rfl)
theorem dX7_counted_68 : decode cX7_counted 68 = .ok (.iload_n 2, 1) := dk_28 (dk_at dksX7_counted_2 22 rfl rfl)
theorem dX7_counted_69 : decode cX7_counted 69 = .ok (.imul, 1) := dk_104 (dk_at dksX7_counted_2 23 rfl rfl)
theorem dX7_counted_70 : decode cX7_counted 70 = .ok (.iadd, 1) := dk_96 (dk_at dksX7_counted_3 0 rfl rfl)
theorem dX7_counted_71 : decode cX7_counted 71 = .ok (.iload_n 3, 1) := dk_29 (dk_at dksX7_counted_3 1 rfl rfl)
theorem dX7_counted_72 : decode cX7_counted 72 = .ok (.iadd, 1) := dk_96 (dk_at dksX7_counted_3 2 rfl rfl)
theorem dX7_counted_73 : decode cX7_counted 73 = .ok (.iaload, 1) := dk_46 (dk_at dksX7_counted_3 3 rfl rfl)
theorem dX7_counted_74 : decode cX7_counted 74 = .ok (.goto 9, 3) := dk_167 0 9 (dk_at dksX7_counted_3 4 rfl rfl)
theorem dX7_counted_77 : decode cX7_counted 77 = .ok (.aload_n 0, 1) := dk_42 (dk_at dksX7_counted_3 7 rfl rfl)
theorem dX7_counted_78 : decode cX7_counted 78 = .ok (.bipush (-7), 2) := dk_16 249 (dk_at dksX7_counted_3 8 rfl rfl)
theorem dX7_counted_80 : decode cX7_counted 80 = .ok (.invokevirtual 80, 3) := dk_182 0 80 (dk_at dksX7_counted_3 10 rfl rfl)
theorem dX7_counted_83 : decode cX7_counted 83 = .ok (.ireturn, 1) := dk_172 (dk_at dksX7_counted_3 13 rfl rfl)
abbrev cX7_lack : ByteArray := prog_19_method_96_code
def yX7_lack : MethodName := ⟨RX7, "lack", "(I)I"⟩
def dkwX7_lack_1 : List UInt8 := [162, 0, 12, 42, 16, 254, 182, 0, 80, 167, 0, 8, 42, 27, 182, 0, 159, 172]
abbrev dktX7_lack_1 : List UInt8 := dkwX7_lack_1 ++ []
def dkwX7_lack_0 : List UInt8 := [42, 27, 182, 0, 118, 154, 0, 10, 42, 16, 253, 182, 0, 80, 172, 42, 27, 16, 11, 182, 0, 84, 5]
abbrev dktX7_lack_0 : List UInt8 := dkwX7_lack_0 ++ dktX7_lack_1
theorem dksX7_lack_0 : cX7_lack.data.toList.drop 0 = dktX7_lack_0 := by decide +kernel
theorem dksX7_lack_1 : cX7_lack.data.toList.drop 23 = dktX7_lack_1 := dk_seg dksX7_lack_0 23 rfl rfl
theorem dX7_lack_0 : decode cX7_lack 0 = .ok (.aload_n 0, 1) := dk_42 (dk_at dksX7_lack_0 0 rfl rfl)
theorem dX7_lack_1 : decode cX7_lack 1 = .ok (.iload_n 1, 1) := dk_27 (dk_at dksX7_lack_0 1 rfl rfl)
theorem dX7_lack_2 : decode cX7_lack 2 = .ok (.invokevirtual 118, 3) := dk_182 0 118 (dk_at dksX7_lack_0 2 rfl rfl)
theorem dX7_lack_5 : decode cX7_lack 5 = .ok (.ifCond .ne 10, 3) := dk_154 0 10 (dk_at dksX7_lack_0 5 rfl rfl)
theorem dX7_lack_8 : decode cX7_lack 8 = .ok (.aload_n 0, 1) := dk_42 (dk_at dksX7_lack_0 8 rfl rfl)
theorem dX7_lack_9 : decode cX7_lack 9 = .ok (.bipush (-3), 2) := dk_16 253 (dk_at dksX7_lack_0 9 rfl rfl)
theorem dX7_lack_11 : decode cX7_lack 11 = .ok (.invokevirtual 80, 3) := dk_182 0 80 (dk_at dksX7_lack_0 11 rfl rfl)
theorem dX7_lack_14 : decode cX7_lack 14 = .ok (.ireturn, 1) := dk_172 (dk_at dksX7_lack_0 14 rfl rfl)
theorem dX7_lack_15 : decode cX7_lack 15 = .ok (.aload_n 0, 1) := dk_42 (dk_at dksX7_lack_0 15 rfl rfl)
theorem dX7_lack_16 : decode cX7_lack 16 = .ok (.iload_n 1, 1) := dk_27 (dk_at dksX7_lack_0 16 rfl rfl)
theorem dX7_lack_17 : decode cX7_lack 17 = .ok (.bipush 11, 2) := dk_16 11 (dk_at dksX7_lack_0 17 rfl rfl)
theorem dX7_lack_19 : decode cX7_lack 19 = .ok (.invokevirtual 84, 3) := dk_182 0 84 (dk_at dksX7_lack_0 19 rfl rfl)
theorem dX7_lack_22 : decode cX7_lack 22 = .ok (.iconst 2, 1) := dk_5 (dk_at dksX7_lack_0 22 rfl rfl)
theorem dX7_lack_23 : decode cX7_lack 23 = .ok (.if_icmp .ge 12, 3) := dk_162 0 12 (dk_at dksX7_lack_1 0 rfl rfl)
theorem dX7_lack_26 : decode cX7_lack 26 = .ok (.aload_n 0, 1) := dk_42 (dk_at dksX7_lack_1 3 rfl rfl)
theorem dX7_lack_27 : decode cX7_lack 27 = .ok (.bipush (-2), 2) := dk_16 254 (dk_at dksX7_lack_1 4 rfl rfl)
theorem dX7_lack_29 : decode cX7_lack 29 = .ok (.invokevirtual 80, 3) := dk_182 0 80 (dk_at dksX7_lack_1 6 rfl rfl)
theorem dX7_lack_32 : decode cX7_lack 32 = .ok (.goto 8, 3) := dk_167 0 8 (dk_at dksX7_lack_1 9 rfl rfl)
theorem dX7_lack_35 : decode cX7_lack 35 = .ok (.aload_n 0, 1) := dk_42 (dk_at dksX7_lack_1 12 rfl rfl)
theorem dX7_lack_36 : decode cX7_lack 36 = .ok (.iload_n 1, 1) := dk_27 (dk_at dksX7_lack_1 13 rfl rfl)
theorem dX7_lack_37 : decode cX7_lack 37 = .ok (.invokevirtual 159, 3) := dk_182 0 159 (dk_at dksX7_lack_1 14 rfl rfl)
theorem dX7_lack_40 : decode cX7_lack 40 = .ok (.ireturn, 1) := dk_172 (dk_at dksX7_lack_1 17 rfl rfl)
abbrev cX7_plan : ByteArray := prog_19_method_103_code
def yX7_plan : MethodName := ⟨RX7, "plan", "(II)J"⟩
def dkwX7_plan_7 : List UInt8 := [22, 4, 173]
abbrev dktX7_plan_7 : List UInt8 := dkwX7_plan_7 ++ []
def dkwX7_plan_6 : List UInt8 := [21, 9, 46, 79, 132, 9, 1, 167, 255, 230, 42, 182, 1, 168, 54, 8, 167, 255, 160, 42, 27, 182, 1, 171]
abbrev dktX7_plan_6 : List UInt8 := dkwX7_plan_6 ++ dktX7_plan_7
def dkwX7_plan_5 : List UInt8 := [55, 6, 3, 54, 9, 21, 9, 42, 180, 1, 144, 162, 0, 23, 42, 180, 0, 42, 21, 9, 42, 180, 0, 39]
abbrev dktX7_plan_5 : List UInt8 := dkwX7_plan_5 ++ dktX7_plan_6
def dkwX7_plan_4 : List UInt8 := [154, 0, 57, 42, 180, 1, 150, 22, 6, 148, 158, 0, 47, 42, 180, 1, 153, 55, 4, 42, 180, 1, 150]
abbrev dktX7_plan_4 : List UInt8 := dkwX7_plan_4 ++ dktX7_plan_5
def dkwX7_plan_3 : List UInt8 := [153, 0, 81, 42, 182, 1, 165, 42, 180, 1, 153, 22, 4, 148, 157, 0, 23, 42, 180, 1, 153, 22, 4, 148]
abbrev dktX7_plan_3 : List UInt8 := dkwX7_plan_3 ++ dktX7_plan_4
def dkwX7_plan_2 : List UInt8 := [167, 255, 236, 20, 0, 191, 55, 4, 9, 55, 6, 4, 54, 8, 21, 8, 153, 0, 97, 42, 182, 1, 162]
abbrev dktX7_plan_2 : List UInt8 := dkwX7_plan_2 ++ dktX7_plan_3
def dkwX7_plan_1 : List UInt8 := [3, 54, 4, 21, 4, 42, 180, 1, 144, 162, 0, 17, 42, 180, 0, 39, 21, 4, 3, 79, 132, 4, 1]
abbrev dktX7_plan_1 : List UInt8 := dkwX7_plan_1 ++ dktX7_plan_2
def dkwX7_plan_0 : List UInt8 := [42, 27, 28, 182, 1, 156, 62, 29, 156, 0, 10, 42, 29, 182, 0, 80, 133, 173, 42, 27, 28, 182, 1, 159]
abbrev dktX7_plan_0 : List UInt8 := dkwX7_plan_0 ++ dktX7_plan_1
theorem dksX7_plan_0 : cX7_plan.data.toList.drop 0 = dktX7_plan_0 := by decide +kernel
theorem dksX7_plan_1 : cX7_plan.data.toList.drop 24 = dktX7_plan_1 := dk_seg dksX7_plan_0 24 rfl rfl
theorem dksX7_plan_2 : cX7_plan.data.toList.drop 47 = dktX7_plan_2 := dk_seg dksX7_plan_1 23 rfl rfl
theorem dksX7_plan_3 : cX7_plan.data.toList.drop 70 = dktX7_plan_3 := dk_seg dksX7_plan_2 23 rfl rfl
theorem dksX7_plan_4 : cX7_plan.data.toList.drop 94 = dktX7_plan_4 := dk_seg dksX7_plan_3 24 rfl rfl
theorem dksX7_plan_5 : cX7_plan.data.toList.drop 117 = dktX7_plan_5 := dk_seg dksX7_plan_4 23 rfl rfl
theorem dksX7_plan_6 : cX7_plan.data.toList.drop 141 = dktX7_plan_6 := dk_seg dksX7_plan_5 24 rfl rfl
theorem dksX7_plan_7 : cX7_plan.data.toList.drop 165 = dktX7_plan_7 := dk_seg dksX7_plan_6 24 rfl rfl
theorem dX7_plan_0 : decode cX7_plan 0 = .ok (.aload_n 0, 1) := dk_42 (dk_at dksX7_plan_0 0 rfl rfl)
theorem dX7_plan_1 : decode cX7_plan 1 = .ok (.iload_n 1, 1) := dk_27 (dk_at dksX7_plan_0 1 rfl rfl)
theorem dX7_plan_2 : decode cX7_plan 2 = .ok (.iload_n 2, 1) := dk_28 (dk_at dksX7_plan_0 2 rfl rfl)
theorem dX7_plan_3 : decode cX7_plan 3 = .ok (.invokevirtual 412, 3) := dk_182 1 156 (dk_at dksX7_plan_0 3 rfl rfl)
theorem dX7_plan_6 : decode cX7_plan 6 = .ok (.istore_n 3, 1) := dk_62 (dk_at dksX7_plan_0 6 rfl rfl)
theorem dX7_plan_7 : decode cX7_plan 7 = .ok (.iload_n 3, 1) := dk_29 (dk_at dksX7_plan_0 7 rfl rfl)
theorem dX7_plan_8 : decode cX7_plan 8 = .ok (.ifCond .ge 10, 3) := dk_156 0 10 (dk_at dksX7_plan_0 8 rfl rfl)
theorem dX7_plan_11 : decode cX7_plan 11 = .ok (.aload_n 0, 1) := dk_42 (dk_at dksX7_plan_0 11 rfl rfl)
theorem dX7_plan_12 : decode cX7_plan 12 = .ok (.iload_n 3, 1) := dk_29 (dk_at dksX7_plan_0 12 rfl rfl)
theorem dX7_plan_13 : decode cX7_plan 13 = .ok (.invokevirtual 80, 3) := dk_182 0 80 (dk_at dksX7_plan_0 13 rfl rfl)
theorem dX7_plan_16 : decode cX7_plan 16 = .ok (.i2l, 1) := dk_133 (dk_at dksX7_plan_0 16 rfl rfl)
theorem dX7_plan_17 : decode cX7_plan 17 = .ok (.lreturn, 1) := dk_173 (dk_at dksX7_plan_0 17 rfl rfl)
theorem dX7_plan_18 : decode cX7_plan 18 = .ok (.aload_n 0, 1) := dk_42 (dk_at dksX7_plan_0 18 rfl rfl)
theorem dX7_plan_19 : decode cX7_plan 19 = .ok (.iload_n 1, 1) := dk_27 (dk_at dksX7_plan_0 19 rfl rfl)
theorem dX7_plan_20 : decode cX7_plan 20 = .ok (.iload_n 2, 1) := dk_28 (dk_at dksX7_plan_0 20 rfl rfl)
theorem dX7_plan_21 : decode cX7_plan 21 = .ok (.invokevirtual 415, 3) := dk_182 1 159 (dk_at dksX7_plan_0 21 rfl rfl)
theorem dX7_plan_24 : decode cX7_plan 24 = .ok (.iconst 0, 1) := dk_3 (dk_at dksX7_plan_1 0 rfl rfl)
theorem dX7_plan_25 : decode cX7_plan 25 = .ok (.istore 4, 2) := dk_54 4 (dk_at dksX7_plan_1 1 rfl rfl)
theorem dX7_plan_27 : decode cX7_plan 27 = .ok (.iload 4, 2) := dk_21 4 (dk_at dksX7_plan_1 3 rfl rfl)
theorem dX7_plan_29 : decode cX7_plan 29 = .ok (.aload_n 0, 1) := dk_42 (dk_at dksX7_plan_1 5 rfl rfl)
theorem dX7_plan_30 : decode cX7_plan 30 = .ok (.getfield 400, 3) := dk_180 1 144 (dk_at dksX7_plan_1 6 rfl rfl)
theorem dX7_plan_33 : decode cX7_plan 33 = .ok (.if_icmp .ge 17, 3) := dk_162 0 17 (dk_at dksX7_plan_1 9 rfl rfl)
theorem dX7_plan_36 : decode cX7_plan 36 = .ok (.aload_n 0, 1) := dk_42 (dk_at dksX7_plan_1 12 rfl rfl)
theorem dX7_plan_37 : decode cX7_plan 37 = .ok (.getfield 39, 3) := dk_180 0 39 (dk_at dksX7_plan_1 13 rfl rfl)
theorem dX7_plan_40 : decode cX7_plan 40 = .ok (.iload 4, 2) := dk_21 4 (dk_at dksX7_plan_1 16 rfl rfl)
theorem dX7_plan_42 : decode cX7_plan 42 = .ok (.iconst 0, 1) := dk_3 (dk_at dksX7_plan_1 18 rfl rfl)
theorem dX7_plan_43 : decode cX7_plan 43 = .ok (.iastore, 1) := dk_79 (dk_at dksX7_plan_1 19 rfl rfl)
theorem dX7_plan_44 : decode cX7_plan 44 = .ok (.iinc 4 1, 3) := dk_132 4 1 (dk_at dksX7_plan_1 20 rfl rfl)
theorem dX7_plan_47 : decode cX7_plan 47 = .ok (.goto (-20), 3) := dk_167 255 236 (dk_at dksX7_plan_2 0 rfl rfl)
theorem dX7_plan_50 : decode cX7_plan 50 = .ok (.ldc2_w 191, 3) := dk_20 0 191 (dk_at dksX7_plan_2 3 rfl rfl)
theorem dX7_plan_53 : decode cX7_plan 53 = .ok (.lstore 4, 2) := dk_55 4 (dk_at dksX7_plan_2 6 rfl rfl)
theorem dX7_plan_55 : decode cX7_plan 55 = .ok (.lconst 0, 1) := dk_9 (dk_at dksX7_plan_2 8 rfl rfl)
theorem dX7_plan_56 : decode cX7_plan 56 = .ok (.lstore 6, 2) := dk_55 6 (dk_at dksX7_plan_2 9 rfl rfl)
theorem dX7_plan_58 : decode cX7_plan 58 = .ok (.iconst 1, 1) := dk_4 (dk_at dksX7_plan_2 11 rfl rfl)
theorem dX7_plan_59 : decode cX7_plan 59 = .ok (.istore 8, 2) := dk_54 8 (dk_at dksX7_plan_2 12 rfl rfl)
theorem dX7_plan_61 : decode cX7_plan 61 = .ok (.iload 8, 2) := dk_21 8 (dk_at dksX7_plan_2 14 rfl rfl)
theorem dX7_plan_63 : decode cX7_plan 63 = .ok (.ifCond .eq 97, 3) := dk_153 0 97 (dk_at dksX7_plan_2 16 rfl rfl)
theorem dX7_plan_66 : decode cX7_plan 66 = .ok (.aload_n 0, 1) := dk_42 (dk_at dksX7_plan_2 19 rfl rfl)
theorem dX7_plan_67 : decode cX7_plan 67 = .ok (.invokevirtual 418, 3) := dk_182 1 162 (dk_at dksX7_plan_2 20 rfl rfl)
theorem dX7_plan_70 : decode cX7_plan 70 = .ok (.ifCond .eq 81, 3) := dk_153 0 81 (dk_at dksX7_plan_3 0 rfl rfl)
theorem dX7_plan_73 : decode cX7_plan 73 = .ok (.aload_n 0, 1) := dk_42 (dk_at dksX7_plan_3 3 rfl rfl)
theorem dX7_plan_74 : decode cX7_plan 74 = .ok (.invokevirtual 421, 3) := dk_182 1 165 (dk_at dksX7_plan_3 4 rfl rfl)
theorem dX7_plan_77 : decode cX7_plan 77 = .ok (.aload_n 0, 1) := dk_42 (dk_at dksX7_plan_3 7 rfl rfl)
theorem dX7_plan_78 : decode cX7_plan 78 = .ok (.getfield 409, 3) := dk_180 1 153 (dk_at dksX7_plan_3 8 rfl rfl)
theorem dX7_plan_81 : decode cX7_plan 81 = .ok (.lload 4, 2) := dk_22 4 (dk_at dksX7_plan_3 11 rfl rfl)
theorem dX7_plan_83 : decode cX7_plan 83 = .ok (.lcmp, 1) := dk_148 (dk_at dksX7_plan_3 13 rfl rfl)
theorem dX7_plan_84 : decode cX7_plan 84 = .ok (.ifCond .gt 23, 3) := dk_157 0 23 (dk_at dksX7_plan_3 14 rfl rfl)
theorem dX7_plan_87 : decode cX7_plan 87 = .ok (.aload_n 0, 1) := dk_42 (dk_at dksX7_plan_3 17 rfl rfl)
theorem dX7_plan_88 : decode cX7_plan 88 = .ok (.getfield 409, 3) := dk_180 1 153 (dk_at dksX7_plan_3 18 rfl rfl)
theorem dX7_plan_91 : decode cX7_plan 91 = .ok (.lload 4, 2) := dk_22 4 (dk_at dksX7_plan_3 21 rfl rfl)
theorem dX7_plan_93 : decode cX7_plan 93 = .ok (.lcmp, 1) := dk_148 (dk_at dksX7_plan_3 23 rfl rfl)
theorem dX7_plan_94 : decode cX7_plan 94 = .ok (.ifCond .ne 57, 3) := dk_154 0 57 (dk_at dksX7_plan_4 0 rfl rfl)
theorem dX7_plan_97 : decode cX7_plan 97 = .ok (.aload_n 0, 1) := dk_42 (dk_at dksX7_plan_4 3 rfl rfl)
theorem dX7_plan_98 : decode cX7_plan 98 = .ok (.getfield 406, 3) := dk_180 1 150 (dk_at dksX7_plan_4 4 rfl rfl)
theorem dX7_plan_101 : decode cX7_plan 101 = .ok (.lload 6, 2) := dk_22 6 (dk_at dksX7_plan_4 7 rfl rfl)
theorem dX7_plan_103 : decode cX7_plan 103 = .ok (.lcmp, 1) := dk_148 (dk_at dksX7_plan_4 9 rfl rfl)
theorem dX7_plan_104 : decode cX7_plan 104 = .ok (.ifCond .le 47, 3) := dk_158 0 47 (dk_at dksX7_plan_4 10 rfl rfl)
theorem dX7_plan_107 : decode cX7_plan 107 = .ok (.aload_n 0, 1) := dk_42 (dk_at dksX7_plan_4 13 rfl rfl)
theorem dX7_plan_108 : decode cX7_plan 108 = .ok (.getfield 409, 3) := dk_180 1 153 (dk_at dksX7_plan_4 14 rfl rfl)
theorem dX7_plan_111 : decode cX7_plan 111 = .ok (.lstore 4, 2) := dk_55 4 (dk_at dksX7_plan_4 17 rfl rfl)
theorem dX7_plan_113 : decode cX7_plan 113 = .ok (.aload_n 0, 1) := dk_42 (dk_at dksX7_plan_4 19 rfl rfl)
theorem dX7_plan_114 : decode cX7_plan 114 = .ok (.getfield 406, 3) := dk_180 1 150 (dk_at dksX7_plan_4 20 rfl rfl)
theorem dX7_plan_117 : decode cX7_plan 117 = .ok (.lstore 6, 2) := dk_55 6 (dk_at dksX7_plan_5 0 rfl rfl)
theorem dX7_plan_119 : decode cX7_plan 119 = .ok (.iconst 0, 1) := dk_3 (dk_at dksX7_plan_5 2 rfl rfl)
theorem dX7_plan_120 : decode cX7_plan 120 = .ok (.istore 9, 2) := dk_54 9 (dk_at dksX7_plan_5 3 rfl rfl)
theorem dX7_plan_122 : decode cX7_plan 122 = .ok (.iload 9, 2) := dk_21 9 (dk_at dksX7_plan_5 5 rfl rfl)
theorem dX7_plan_124 : decode cX7_plan 124 = .ok (.aload_n 0, 1) := dk_42 (dk_at dksX7_plan_5 7 rfl rfl)
theorem dX7_plan_125 : decode cX7_plan 125 = .ok (.getfield 400, 3) := dk_180 1 144 (dk_at dksX7_plan_5 8 rfl rfl)
theorem dX7_plan_128 : decode cX7_plan 128 = .ok (.if_icmp .ge 23, 3) := dk_162 0 23 (dk_at dksX7_plan_5 11 rfl rfl)
theorem dX7_plan_131 : decode cX7_plan 131 = .ok (.aload_n 0, 1) := dk_42 (dk_at dksX7_plan_5 14 rfl rfl)
theorem dX7_plan_132 : decode cX7_plan 132 = .ok (.getfield 42, 3) := dk_180 0 42 (dk_at dksX7_plan_5 15 rfl rfl)
theorem dX7_plan_135 : decode cX7_plan 135 = .ok (.iload 9, 2) := dk_21 9 (dk_at dksX7_plan_5 18 rfl rfl)
theorem dX7_plan_137 : decode cX7_plan 137 = .ok (.aload_n 0, 1) := dk_42 (dk_at dksX7_plan_5 20 rfl rfl)
theorem dX7_plan_138 : decode cX7_plan 138 = .ok (.getfield 39, 3) := dk_180 0 39 (dk_at dksX7_plan_5 21 rfl rfl)
theorem dX7_plan_141 : decode cX7_plan 141 = .ok (.iload 9, 2) := dk_21 9 (dk_at dksX7_plan_6 0 rfl rfl)
theorem dX7_plan_143 : decode cX7_plan 143 = .ok (.iaload, 1) := dk_46 (dk_at dksX7_plan_6 2 rfl rfl)
theorem dX7_plan_144 : decode cX7_plan 144 = .ok (.iastore, 1) := dk_79 (dk_at dksX7_plan_6 3 rfl rfl)
theorem dX7_plan_145 : decode cX7_plan 145 = .ok (.iinc 9 1, 3) := dk_132 9 1 (dk_at dksX7_plan_6 4 rfl rfl)
theorem dX7_plan_148 : decode cX7_plan 148 = .ok (.goto (-26), 3) := dk_167 255 230 (dk_at dksX7_plan_6 7 rfl rfl)
theorem dX7_plan_151 : decode cX7_plan 151 = .ok (.aload_n 0, 1) := dk_42 (dk_at dksX7_plan_6 10 rfl rfl)
theorem dX7_plan_152 : decode cX7_plan 152 = .ok (.invokevirtual 424, 3) := dk_182 1 168 (dk_at dksX7_plan_6 11 rfl rfl)
theorem dX7_plan_155 : decode cX7_plan 155 = .ok (.istore 8, 2) := dk_54 8 (dk_at dksX7_plan_6 14 rfl rfl)
theorem dX7_plan_157 : decode cX7_plan 157 = .ok (.goto (-96), 3) := dk_167 255 160 (dk_at dksX7_plan_6 16 rfl rfl)
theorem dX7_plan_160 : decode cX7_plan 160 = .ok (.aload_n 0, 1) := dk_42 (dk_at dksX7_plan_6 19 rfl rfl)
theorem dX7_plan_161 : decode cX7_plan 161 = .ok (.iload_n 1, 1) := dk_27 (dk_at dksX7_plan_6 20 rfl rfl)
theorem dX7_plan_162 : decode cX7_plan 162 = .ok (.invokevirtual 427, 3) := dk_182 1 171 (dk_at dksX7_plan_6 21 rfl rfl)
theorem dX7_plan_165 : decode cX7_plan 165 = .ok (.lload 4, 2) := dk_22 4 (dk_at dksX7_plan_7 0 rfl rfl)
theorem dX7_plan_167 : decode cX7_plan 167 = .ok (.lreturn, 1) := dk_173 (dk_at dksX7_plan_7 2 rfl rfl)
abbrev cX7_noSet : ByteArray := prog_19_method_97_code
def yX7_noSet : MethodName := ⟨RX7, "noSet", "(II)I"⟩
def dkwX7_noSet_2 : List UInt8 := [184, 0, 76, 153, 0, 12, 28, 4, 7, 184, 0, 76, 154, 0, 8, 16, 249, 167, 0, 4, 3, 172]
abbrev dktX7_noSet_2 : List UInt8 := dkwX7_noSet_2 ++ []
def dkwX7_noSet_1 : List UInt8 := [21, 4, 153, 0, 18, 132, 3, 1, 21, 4, 21, 4, 4, 100, 126, 54, 4, 167, 255, 239, 29, 4, 16, 7]
abbrev dktX7_noSet_1 : List UInt8 := dkwX7_noSet_1 ++ dktX7_noSet_2
def dkwX7_noSet_0 : List UInt8 := [27, 155, 0, 14, 27, 42, 180, 0, 13, 4, 46, 122, 153, 0, 6, 16, 253, 172, 3, 62, 27, 54, 4]
abbrev dktX7_noSet_0 : List UInt8 := dkwX7_noSet_0 ++ dktX7_noSet_1
theorem dksX7_noSet_0 : cX7_noSet.data.toList.drop 0 = dktX7_noSet_0 := by decide +kernel
theorem dksX7_noSet_1 : cX7_noSet.data.toList.drop 23 = dktX7_noSet_1 := dk_seg dksX7_noSet_0 23 rfl rfl
theorem dksX7_noSet_2 : cX7_noSet.data.toList.drop 47 = dktX7_noSet_2 := dk_seg dksX7_noSet_1 24 rfl rfl
theorem dX7_noSet_0 : decode cX7_noSet 0 = .ok (.iload_n 1, 1) := dk_27 (dk_at dksX7_noSet_0 0 rfl rfl)
theorem dX7_noSet_1 : decode cX7_noSet 1 = .ok (.ifCond .lt 14, 3) := dk_155 0 14 (dk_at dksX7_noSet_0 1 rfl rfl)
theorem dX7_noSet_4 : decode cX7_noSet 4 = .ok (.iload_n 1, 1) := dk_27 (dk_at dksX7_noSet_0 4 rfl rfl)
theorem dX7_noSet_5 : decode cX7_noSet 5 = .ok (.aload_n 0, 1) := dk_42 (dk_at dksX7_noSet_0 5 rfl rfl)
theorem dX7_noSet_6 : decode cX7_noSet 6 = .ok (.getfield 13, 3) := dk_180 0 13 (dk_at dksX7_noSet_0 6 rfl rfl)
theorem dX7_noSet_9 : decode cX7_noSet 9 = .ok (.iconst 1, 1) := dk_4 (dk_at dksX7_noSet_0 9 rfl rfl)
theorem dX7_noSet_10 : decode cX7_noSet 10 = .ok (.iaload, 1) := dk_46 (dk_at dksX7_noSet_0 10 rfl rfl)
theorem dX7_noSet_11 : decode cX7_noSet 11 = .ok (.ishr, 1) := dk_122 (dk_at dksX7_noSet_0 11 rfl rfl)
theorem dX7_noSet_12 : decode cX7_noSet 12 = .ok (.ifCond .eq 6, 3) := dk_153 0 6 (dk_at dksX7_noSet_0 12 rfl rfl)
theorem dX7_noSet_15 : decode cX7_noSet 15 = .ok (.bipush (-3), 2) := dk_16 253 (dk_at dksX7_noSet_0 15 rfl rfl)
theorem dX7_noSet_17 : decode cX7_noSet 17 = .ok (.ireturn, 1) := dk_172 (dk_at dksX7_noSet_0 17 rfl rfl)
theorem dX7_noSet_18 : decode cX7_noSet 18 = .ok (.iconst 0, 1) := dk_3 (dk_at dksX7_noSet_0 18 rfl rfl)
theorem dX7_noSet_19 : decode cX7_noSet 19 = .ok (.istore_n 3, 1) := dk_62 (dk_at dksX7_noSet_0 19 rfl rfl)
theorem dX7_noSet_20 : decode cX7_noSet 20 = .ok (.iload_n 1, 1) := dk_27 (dk_at dksX7_noSet_0 20 rfl rfl)
theorem dX7_noSet_21 : decode cX7_noSet 21 = .ok (.istore 4, 2) := dk_54 4 (dk_at dksX7_noSet_0 21 rfl rfl)
theorem dX7_noSet_23 : decode cX7_noSet 23 = .ok (.iload 4, 2) := dk_21 4 (dk_at dksX7_noSet_1 0 rfl rfl)
theorem dX7_noSet_25 : decode cX7_noSet 25 = .ok (.ifCond .eq 18, 3) := dk_153 0 18 (dk_at dksX7_noSet_1 2 rfl rfl)
theorem dX7_noSet_28 : decode cX7_noSet 28 = .ok (.iinc 3 1, 3) := dk_132 3 1 (dk_at dksX7_noSet_1 5 rfl rfl)
theorem dX7_noSet_31 : decode cX7_noSet 31 = .ok (.iload 4, 2) := dk_21 4 (dk_at dksX7_noSet_1 8 rfl rfl)
theorem dX7_noSet_33 : decode cX7_noSet 33 = .ok (.iload 4, 2) := dk_21 4 (dk_at dksX7_noSet_1 10 rfl rfl)
theorem dX7_noSet_35 : decode cX7_noSet 35 = .ok (.iconst 1, 1) := dk_4 (dk_at dksX7_noSet_1 12 rfl rfl)
theorem dX7_noSet_36 : decode cX7_noSet 36 = .ok (.isub, 1) := dk_100 (dk_at dksX7_noSet_1 13 rfl rfl)
theorem dX7_noSet_37 : decode cX7_noSet 37 = .ok (.iand, 1) := dk_126 (dk_at dksX7_noSet_1 14 rfl rfl)
theorem dX7_noSet_38 : decode cX7_noSet 38 = .ok (.istore 4, 2) := dk_54 4 (dk_at dksX7_noSet_1 15 rfl rfl)
theorem dX7_noSet_40 : decode cX7_noSet 40 = .ok (.goto (-17), 3) := dk_167 255 239 (dk_at dksX7_noSet_1 17 rfl rfl)
theorem dX7_noSet_43 : decode cX7_noSet 43 = .ok (.iload_n 3, 1) := dk_29 (dk_at dksX7_noSet_1 20 rfl rfl)
theorem dX7_noSet_44 : decode cX7_noSet 44 = .ok (.iconst 1, 1) := dk_4 (dk_at dksX7_noSet_1 21 rfl rfl)
theorem dX7_noSet_45 : decode cX7_noSet 45 = .ok (.bipush 7, 2) := dk_16 7 (dk_at dksX7_noSet_1 22 rfl rfl)
theorem dX7_noSet_47 : decode cX7_noSet 47 = .ok (.invokestatic 76, 3) := dk_184 0 76 (dk_at dksX7_noSet_2 0 rfl rfl)
theorem dX7_noSet_50 : decode cX7_noSet 50 = .ok (.ifCond .eq 12, 3) := dk_153 0 12 (dk_at dksX7_noSet_2 3 rfl rfl)
theorem dX7_noSet_53 : decode cX7_noSet 53 = .ok (.iload_n 2, 1) := dk_28 (dk_at dksX7_noSet_2 6 rfl rfl)
theorem dX7_noSet_54 : decode cX7_noSet 54 = .ok (.iconst 1, 1) := dk_4 (dk_at dksX7_noSet_2 7 rfl rfl)
theorem dX7_noSet_55 : decode cX7_noSet 55 = .ok (.iconst 4, 1) := dk_7 (dk_at dksX7_noSet_2 8 rfl rfl)
theorem dX7_noSet_56 : decode cX7_noSet 56 = .ok (.invokestatic 76, 3) := dk_184 0 76 (dk_at dksX7_noSet_2 9 rfl rfl)
theorem dX7_noSet_59 : decode cX7_noSet 59 = .ok (.ifCond .ne 8, 3) := dk_154 0 8 (dk_at dksX7_noSet_2 12 rfl rfl)
theorem dX7_noSet_62 : decode cX7_noSet 62 = .ok (.bipush (-7), 2) := dk_16 249 (dk_at dksX7_noSet_2 15 rfl rfl)
theorem dX7_noSet_64 : decode cX7_noSet 64 = .ok (.goto 4, 3) := dk_167 0 4 (dk_at dksX7_noSet_2 17 rfl rfl)
theorem dX7_noSet_67 : decode cX7_noSet 67 = .ok (.iconst 0, 1) := dk_3 (dk_at dksX7_noSet_2 20 rfl rfl)
theorem dX7_noSet_68 : decode cX7_noSet 68 = .ok (.ireturn, 1) := dk_172 (dk_at dksX7_noSet_2 21 rfl rfl)
abbrev cX7_layOut : ByteArray := prog_19_method_98_code
def yX7_layOut : MethodName := ⟨RX7, "layOut", "(II)V"⟩
def dkwX7_layOut_12 : List UInt8 := [3, 84, 132, 6, 1, 167, 255, 206, 132, 3, 1, 167, 255, 27, 177]
abbrev dktX7_layOut_12 : List UInt8 := dkwX7_layOut_12 ++ []
def dkwX7_layOut_11 : List UInt8 := [21, 4, 42, 180, 0, 36, 21, 6, 46, 182, 0, 122, 153, 0, 8, 21, 5, 157, 0, 7, 4, 167, 0, 4]
abbrev dktX7_layOut_11 : List UInt8 := dkwX7_layOut_11 ++ dktX7_layOut_12
def dkwX7_layOut_10 : List UInt8 := [96, 54, 6, 21, 6, 42, 180, 1, 144, 162, 0, 47, 42, 180, 0, 52, 16, 7, 29, 104, 21, 6, 96, 42]
abbrev dktX7_layOut_10 : List UInt8 := dkwX7_layOut_10 ++ dktX7_layOut_11
def dkwX7_layOut_9 : List UInt8 := [132, 5, 1, 167, 255, 148, 42, 5, 21, 4, 42, 180, 0, 13, 3, 46, 3, 182, 0, 129, 54, 5, 29, 4]
abbrev dktX7_layOut_9 : List UInt8 := dkwX7_layOut_9 ++ dktX7_layOut_10
def dkwX7_layOut_8 : List UInt8 := [180, 0, 13, 3, 46, 3, 182, 0, 129, 161, 0, 7, 4, 167, 0, 4, 3, 84, 42, 2, 181, 0, 30]
abbrev dktX7_layOut_8 : List UInt8 := dkwX7_layOut_8 ++ dktX7_layOut_9
def dkwX7_layOut_7 : List UInt8 := [7, 29, 104, 21, 5, 96, 42, 21, 4, 182, 0, 126, 154, 0, 26, 21, 6, 42, 3, 21, 4, 42]
abbrev dktX7_layOut_7 : List UInt8 := dkwX7_layOut_7 ++ dktX7_layOut_8
def dkwX7_layOut_6 : List UInt8 := [21, 6, 42, 21, 4, 16, 6, 182, 0, 84, 182, 0, 112, 79, 42, 21, 6, 181, 0, 30, 42, 180, 0, 48]
abbrev dktX7_layOut_6 : List UInt8 := dkwX7_layOut_6 ++ dktX7_layOut_7
def dkwX7_layOut_5 : List UInt8 := [16, 10, 21, 5, 104, 96, 8, 96, 54, 6, 42, 180, 0, 45, 7, 29, 104, 21, 5, 96, 42, 21, 4]
abbrev dktX7_layOut_5 : List UInt8 := dkwX7_layOut_5 ++ dktX7_layOut_6
def dkwX7_layOut_4 : List UInt8 := [17, 39, 15, 182, 0, 129, 79, 3, 54, 5, 21, 5, 28, 162, 0, 108, 42, 21, 4, 8, 182, 0, 84]
abbrev dktX7_layOut_4 : List UInt8 := dkwX7_layOut_4 ++ dktX7_layOut_5
def dkwX7_layOut_3 : List UInt8 := [180, 0, 36, 29, 46, 54, 4, 42, 180, 0, 55, 29, 42, 4, 21, 4, 42, 180, 0, 13, 3, 46]
abbrev dktX7_layOut_3 : List UInt8 := dkwX7_layOut_3 ++ dktX7_layOut_4
def dkwX7_layOut_2 : List UInt8 := [4, 96, 181, 1, 144, 132, 3, 1, 167, 255, 212, 3, 62, 29, 42, 180, 1, 144, 162, 0, 227, 42]
abbrev dktX7_layOut_2 : List UInt8 := dkwX7_layOut_2 ++ dktX7_layOut_3
def dkwX7_layOut_1 : List UInt8 := [122, 4, 126, 154, 0, 6, 167, 0, 23, 42, 180, 0, 36, 42, 180, 1, 144, 29, 79, 42, 89, 180, 1, 144]
abbrev dktX7_layOut_1 : List UInt8 := dkwX7_layOut_1 ++ dktX7_layOut_2
def dkwX7_layOut_0 : List UInt8 := [42, 3, 181, 1, 144, 42, 28, 181, 1, 147, 3, 62, 29, 42, 180, 0, 13, 4, 46, 162, 0, 40, 27, 29]
abbrev dktX7_layOut_0 : List UInt8 := dkwX7_layOut_0 ++ dktX7_layOut_1
theorem dksX7_layOut_0 : cX7_layOut.data.toList.drop 0 = dktX7_layOut_0 := by decide +kernel
theorem dksX7_layOut_1 : cX7_layOut.data.toList.drop 24 = dktX7_layOut_1 := dk_seg dksX7_layOut_0 24 rfl rfl
theorem dksX7_layOut_2 : cX7_layOut.data.toList.drop 48 = dktX7_layOut_2 := dk_seg dksX7_layOut_1 24 rfl rfl
theorem dksX7_layOut_3 : cX7_layOut.data.toList.drop 70 = dktX7_layOut_3 := dk_seg dksX7_layOut_2 22 rfl rfl
theorem dksX7_layOut_4 : cX7_layOut.data.toList.drop 92 = dktX7_layOut_4 := dk_seg dksX7_layOut_3 22 rfl rfl
theorem dksX7_layOut_5 : cX7_layOut.data.toList.drop 115 = dktX7_layOut_5 := dk_seg dksX7_layOut_4 23 rfl rfl
theorem dksX7_layOut_6 : cX7_layOut.data.toList.drop 138 = dktX7_layOut_6 := dk_seg dksX7_layOut_5 23 rfl rfl
theorem dksX7_layOut_7 : cX7_layOut.data.toList.drop 162 = dktX7_layOut_7 := dk_seg dksX7_layOut_6 24 rfl rfl
theorem dksX7_layOut_8 : cX7_layOut.data.toList.drop 184 = dktX7_layOut_8 := dk_seg dksX7_layOut_7 22 rfl rfl
theorem dksX7_layOut_9 : cX7_layOut.data.toList.drop 207 = dktX7_layOut_9 := dk_seg dksX7_layOut_8 23 rfl rfl
theorem dksX7_layOut_10 : cX7_layOut.data.toList.drop 231 = dktX7_layOut_10 := dk_seg dksX7_layOut_9 24 rfl rfl
theorem dksX7_layOut_11 : cX7_layOut.data.toList.drop 255 = dktX7_layOut_11 := dk_seg dksX7_layOut_10 24 rfl rfl
theorem dksX7_layOut_12 : cX7_layOut.data.toList.drop 279 = dktX7_layOut_12 := dk_seg dksX7_layOut_11 24 rfl rfl
theorem dX7_layOut_0 : decode cX7_layOut 0 = .ok (.aload_n 0, 1) := dk_42 (dk_at dksX7_layOut_0 0 rfl rfl)
theorem dX7_layOut_1 : decode cX7_layOut 1 = .ok (.iconst 0, 1) := dk_3 (dk_at dksX7_layOut_0 1 rfl rfl)
theorem dX7_layOut_2 : decode cX7_layOut 2 = .ok (.putfield 400, 3) := dk_181 1 144 (dk_at dksX7_layOut_0 2 rfl rfl)
theorem dX7_layOut_5 : decode cX7_layOut 5 = .ok (.aload_n 0, 1) := dk_42 (dk_at dksX7_layOut_0 5 rfl rfl)
theorem dX7_layOut_6 : decode cX7_layOut 6 = .ok (.iload_n 2, 1) := dk_28 (dk_at dksX7_layOut_0 6 rfl rfl)
theorem dX7_layOut_7 : decode cX7_layOut 7 = .ok (.putfield 403, 3) := dk_181 1 147 (dk_at dksX7_layOut_0 7 rfl rfl)
theorem dX7_layOut_10 : decode cX7_layOut 10 = .ok (.iconst 0, 1) := dk_3 (dk_at dksX7_layOut_0 10 rfl rfl)
theorem dX7_layOut_11 : decode cX7_layOut 11 = .ok (.istore_n 3, 1) := dk_62 (dk_at dksX7_layOut_0 11 rfl rfl)
theorem dX7_layOut_12 : decode cX7_layOut 12 = .ok (.iload_n 3, 1) := dk_29 (dk_at dksX7_layOut_0 12 rfl rfl)
theorem dX7_layOut_13 : decode cX7_layOut 13 = .ok (.aload_n 0, 1) := dk_42 (dk_at dksX7_layOut_0 13 rfl rfl)
theorem dX7_layOut_14 : decode cX7_layOut 14 = .ok (.getfield 13, 3) := dk_180 0 13 (dk_at dksX7_layOut_0 14 rfl rfl)
theorem dX7_layOut_17 : decode cX7_layOut 17 = .ok (.iconst 1, 1) := dk_4 (dk_at dksX7_layOut_0 17 rfl rfl)
theorem dX7_layOut_18 : decode cX7_layOut 18 = .ok (.iaload, 1) := dk_46 (dk_at dksX7_layOut_0 18 rfl rfl)
theorem dX7_layOut_19 : decode cX7_layOut 19 = .ok (.if_icmp .ge 40, 3) := dk_162 0 40 (dk_at dksX7_layOut_0 19 rfl rfl)
theorem dX7_layOut_22 : decode cX7_layOut 22 = .ok (.iload_n 1, 1) := dk_27 (dk_at dksX7_layOut_0 22 rfl rfl)
theorem dX7_layOut_23 : decode cX7_layOut 23 = .ok (.iload_n 3, 1) := dk_29 (dk_at dksX7_layOut_0 23 rfl rfl)
theorem dX7_layOut_24 : decode cX7_layOut 24 = .ok (.ishr, 1) := dk_122 (dk_at dksX7_layOut_1 0 rfl rfl)
theorem dX7_layOut_25 : decode cX7_layOut 25 = .ok (.iconst 1, 1) := dk_4 (dk_at dksX7_layOut_1 1 rfl rfl)
theorem dX7_layOut_26 : decode cX7_layOut 26 = .ok (.iand, 1) := dk_126 (dk_at dksX7_layOut_1 2 rfl rfl)
theorem dX7_layOut_27 : decode cX7_layOut 27 = .ok (.ifCond .ne 6, 3) := dk_154 0 6 (dk_at dksX7_layOut_1 3 rfl rfl)
theorem dX7_layOut_30 : decode cX7_layOut 30 = .ok (.goto 23, 3) := dk_167 0 23 (dk_at dksX7_layOut_1 6 rfl rfl)
theorem dX7_layOut_33 : decode cX7_layOut 33 = .ok (.aload_n 0, 1) := dk_42 (dk_at dksX7_layOut_1 9 rfl rfl)
theorem dX7_layOut_34 : decode cX7_layOut 34 = .ok (.getfield 36, 3) := dk_180 0 36 (dk_at dksX7_layOut_1 10 rfl rfl)
theorem dX7_layOut_37 : decode cX7_layOut 37 = .ok (.aload_n 0, 1) := dk_42 (dk_at dksX7_layOut_1 13 rfl rfl)
theorem dX7_layOut_38 : decode cX7_layOut 38 = .ok (.getfield 400, 3) := dk_180 1 144 (dk_at dksX7_layOut_1 14 rfl rfl)
theorem dX7_layOut_41 : decode cX7_layOut 41 = .ok (.iload_n 3, 1) := dk_29 (dk_at dksX7_layOut_1 17 rfl rfl)
theorem dX7_layOut_42 : decode cX7_layOut 42 = .ok (.iastore, 1) := dk_79 (dk_at dksX7_layOut_1 18 rfl rfl)
theorem dX7_layOut_43 : decode cX7_layOut 43 = .ok (.aload_n 0, 1) := dk_42 (dk_at dksX7_layOut_1 19 rfl rfl)
theorem dX7_layOut_44 : decode cX7_layOut 44 = .ok (.dup, 1) := dk_89 (dk_at dksX7_layOut_1 20 rfl rfl)
theorem dX7_layOut_45 : decode cX7_layOut 45 = .ok (.getfield 400, 3) := dk_180 1 144 (dk_at dksX7_layOut_1 21 rfl rfl)
theorem dX7_layOut_48 : decode cX7_layOut 48 = .ok (.iconst 1, 1) := dk_4 (dk_at dksX7_layOut_2 0 rfl rfl)
theorem dX7_layOut_49 : decode cX7_layOut 49 = .ok (.iadd, 1) := dk_96 (dk_at dksX7_layOut_2 1 rfl rfl)
theorem dX7_layOut_50 : decode cX7_layOut 50 = .ok (.putfield 400, 3) := dk_181 1 144 (dk_at dksX7_layOut_2 2 rfl rfl)
theorem dX7_layOut_53 : decode cX7_layOut 53 = .ok (.iinc 3 1, 3) := dk_132 3 1 (dk_at dksX7_layOut_2 5 rfl rfl)
theorem dX7_layOut_56 : decode cX7_layOut 56 = .ok (.goto (-44), 3) := dk_167 255 212 (dk_at dksX7_layOut_2 8 rfl rfl)
theorem dX7_layOut_59 : decode cX7_layOut 59 = .ok (.iconst 0, 1) := dk_3 (dk_at dksX7_layOut_2 11 rfl rfl)
theorem dX7_layOut_60 : decode cX7_layOut 60 = .ok (.istore_n 3, 1) := dk_62 (dk_at dksX7_layOut_2 12 rfl rfl)
theorem dX7_layOut_61 : decode cX7_layOut 61 = .ok (.iload_n 3, 1) := dk_29 (dk_at dksX7_layOut_2 13 rfl rfl)
theorem dX7_layOut_62 : decode cX7_layOut 62 = .ok (.aload_n 0, 1) := dk_42 (dk_at dksX7_layOut_2 14 rfl rfl)
theorem dX7_layOut_63 : decode cX7_layOut 63 = .ok (.getfield 400, 3) := dk_180 1 144 (dk_at dksX7_layOut_2 15 rfl rfl)
theorem dX7_layOut_66 : decode cX7_layOut 66 = .ok (.if_icmp .ge 227, 3) := dk_162 0 227 (dk_at dksX7_layOut_2 18 rfl rfl)
theorem dX7_layOut_69 : decode cX7_layOut 69 = .ok (.aload_n 0, 1) := dk_42 (dk_at dksX7_layOut_2 21 rfl rfl)
theorem dX7_layOut_70 : decode cX7_layOut 70 = .ok (.getfield 36, 3) := dk_180 0 36 (dk_at dksX7_layOut_3 0 rfl rfl)
theorem dX7_layOut_73 : decode cX7_layOut 73 = .ok (.iload_n 3, 1) := dk_29 (dk_at dksX7_layOut_3 3 rfl rfl)
theorem dX7_layOut_74 : decode cX7_layOut 74 = .ok (.iaload, 1) := dk_46 (dk_at dksX7_layOut_3 4 rfl rfl)
theorem dX7_layOut_75 : decode cX7_layOut 75 = .ok (.istore 4, 2) := dk_54 4 (dk_at dksX7_layOut_3 5 rfl rfl)
theorem dX7_layOut_77 : decode cX7_layOut 77 = .ok (.aload_n 0, 1) := dk_42 (dk_at dksX7_layOut_3 7 rfl rfl)
theorem dX7_layOut_78 : decode cX7_layOut 78 = .ok (.getfield 55, 3) := dk_180 0 55 (dk_at dksX7_layOut_3 8 rfl rfl)
theorem dX7_layOut_81 : decode cX7_layOut 81 = .ok (.iload_n 3, 1) := dk_29 (dk_at dksX7_layOut_3 11 rfl rfl)
theorem dX7_layOut_82 : decode cX7_layOut 82 = .ok (.aload_n 0, 1) := dk_42 (dk_at dksX7_layOut_3 12 rfl rfl)
theorem dX7_layOut_83 : decode cX7_layOut 83 = .ok (.iconst 1, 1) := dk_4 (dk_at dksX7_layOut_3 13 rfl rfl)
theorem dX7_layOut_84 : decode cX7_layOut 84 = .ok (.iload 4, 2) := dk_21 4 (dk_at dksX7_layOut_3 14 rfl rfl)
theorem dX7_layOut_86 : decode cX7_layOut 86 = .ok (.aload_n 0, 1) := dk_42 (dk_at dksX7_layOut_3 16 rfl rfl)
theorem dX7_layOut_87 : decode cX7_layOut 87 = .ok (.getfield 13, 3) := dk_180 0 13 (dk_at dksX7_layOut_3 17 rfl rfl)
theorem dX7_layOut_90 : decode cX7_layOut 90 = .ok (.iconst 0, 1) := dk_3 (dk_at dksX7_layOut_3 20 rfl rfl)
theorem dX7_layOut_91 : decode cX7_layOut 91 = .ok (.iaload, 1) := dk_46 (dk_at dksX7_layOut_3 21 rfl rfl)
theorem dX7_layOut_92 : decode cX7_layOut 92 = .ok (.sipush 9999, 3) := dk_17 39 15 (dk_at dksX7_layOut_4 0 rfl rfl)
theorem dX7_layOut_95 : decode cX7_layOut 95 = .ok (.invokevirtual 129, 3) := dk_182 0 129 (dk_at dksX7_layOut_4 3 rfl rfl)
theorem dX7_layOut_98 : decode cX7_layOut 98 = .ok (.iastore, 1) := dk_79 (dk_at dksX7_layOut_4 6 rfl rfl)
theorem dX7_layOut_99 : decode cX7_layOut 99 = .ok (.iconst 0, 1) := dk_3 (dk_at dksX7_layOut_4 7 rfl rfl)
theorem dX7_layOut_100 : decode cX7_layOut 100 = .ok (.istore 5, 2) := dk_54 5 (dk_at dksX7_layOut_4 8 rfl rfl)
theorem dX7_layOut_102 : decode cX7_layOut 102 = .ok (.iload 5, 2) := dk_21 5 (dk_at dksX7_layOut_4 10 rfl rfl)
theorem dX7_layOut_104 : decode cX7_layOut 104 = .ok (.iload_n 2, 1) := dk_28 (dk_at dksX7_layOut_4 12 rfl rfl)
theorem dX7_layOut_105 : decode cX7_layOut 105 = .ok (.if_icmp .ge 108, 3) := dk_162 0 108 (dk_at dksX7_layOut_4 13 rfl rfl)
theorem dX7_layOut_108 : decode cX7_layOut 108 = .ok (.aload_n 0, 1) := dk_42 (dk_at dksX7_layOut_4 16 rfl rfl)
theorem dX7_layOut_109 : decode cX7_layOut 109 = .ok (.iload 4, 2) := dk_21 4 (dk_at dksX7_layOut_4 17 rfl rfl)
theorem dX7_layOut_111 : decode cX7_layOut 111 = .ok (.iconst 5, 1) := dk_8 (dk_at dksX7_layOut_4 19 rfl rfl)
theorem dX7_layOut_112 : decode cX7_layOut 112 = .ok (.invokevirtual 84, 3) := dk_182 0 84 (dk_at dksX7_layOut_4 20 rfl rfl)
theorem dX7_layOut_115 : decode cX7_layOut 115 = .ok (.bipush 10, 2) := dk_16 10 (dk_at dksX7_layOut_5 0 rfl rfl)
theorem dX7_layOut_117 : decode cX7_layOut 117 = .ok (.iload 5, 2) := dk_21 5 (dk_at dksX7_layOut_5 2 rfl rfl)
theorem dX7_layOut_119 : decode cX7_layOut 119 = .ok (.imul, 1) := dk_104 (dk_at dksX7_layOut_5 4 rfl rfl)
theorem dX7_layOut_120 : decode cX7_layOut 120 = .ok (.iadd, 1) := dk_96 (dk_at dksX7_layOut_5 5 rfl rfl)
theorem dX7_layOut_121 : decode cX7_layOut 121 = .ok (.iconst 5, 1) := dk_8 (dk_at dksX7_layOut_5 6 rfl rfl)
theorem dX7_layOut_122 : decode cX7_layOut 122 = .ok (.iadd, 1) := dk_96 (dk_at dksX7_layOut_5 7 rfl rfl)
theorem dX7_layOut_123 : decode cX7_layOut 123 = .ok (.istore 6, 2) := dk_54 6 (dk_at dksX7_layOut_5 8 rfl rfl)
theorem dX7_layOut_125 : decode cX7_layOut 125 = .ok (.aload_n 0, 1) := dk_42 (dk_at dksX7_layOut_5 10 rfl rfl)
theorem dX7_layOut_126 : decode cX7_layOut 126 = .ok (.getfield 45, 3) := dk_180 0 45 (dk_at dksX7_layOut_5 11 rfl rfl)
theorem dX7_layOut_129 : decode cX7_layOut 129 = .ok (.iconst 4, 1) := dk_7 (dk_at dksX7_layOut_5 14 rfl rfl)
theorem dX7_layOut_130 : decode cX7_layOut 130 = .ok (.iload_n 3, 1) := dk_29 (dk_at dksX7_layOut_5 15 rfl rfl)
theorem dX7_layOut_131 : decode cX7_layOut 131 = .ok (.imul, 1) := dk_104 (dk_at dksX7_layOut_5 16 rfl rfl)
theorem dX7_layOut_132 : decode cX7_layOut 132 = .ok (.iload 5, 2) := dk_21 5 (dk_at dksX7_layOut_5 17 rfl rfl)
theorem dX7_layOut_134 : decode cX7_layOut 134 = .ok (.iadd, 1) := dk_96 (dk_at dksX7_layOut_5 19 rfl rfl)
theorem dX7_layOut_135 : decode cX7_layOut 135 = .ok (.aload_n 0, 1) := dk_42 (dk_at dksX7_layOut_5 20 rfl rfl)
theorem dX7_layOut_136 : decode cX7_layOut 136 = .ok (.iload 4, 2) := dk_21 4 (dk_at dksX7_layOut_5 21 rfl rfl)
theorem dX7_layOut_138 : decode cX7_layOut 138 = .ok (.iload 6, 2) := dk_21 6 (dk_at dksX7_layOut_6 0 rfl rfl)
theorem dX7_layOut_140 : decode cX7_layOut 140 = .ok (.aload_n 0, 1) := dk_42 (dk_at dksX7_layOut_6 2 rfl rfl)
theorem dX7_layOut_141 : decode cX7_layOut 141 = .ok (.iload 4, 2) := dk_21 4 (dk_at dksX7_layOut_6 3 rfl rfl)
theorem dX7_layOut_143 : decode cX7_layOut 143 = .ok (.bipush 6, 2) := dk_16 6 (dk_at dksX7_layOut_6 5 rfl rfl)
theorem dX7_layOut_145 : decode cX7_layOut 145 = .ok (.invokevirtual 84, 3) := dk_182 0 84 (dk_at dksX7_layOut_6 7 rfl rfl)
theorem dX7_layOut_148 : decode cX7_layOut 148 = .ok (.invokevirtual 112, 3) := dk_182 0 112 (dk_at dksX7_layOut_6 10 rfl rfl)
theorem dX7_layOut_151 : decode cX7_layOut 151 = .ok (.iastore, 1) := dk_79 (dk_at dksX7_layOut_6 13 rfl rfl)
theorem dX7_layOut_152 : decode cX7_layOut 152 = .ok (.aload_n 0, 1) := dk_42 (dk_at dksX7_layOut_6 14 rfl rfl)
theorem dX7_layOut_153 : decode cX7_layOut 153 = .ok (.iload 6, 2) := dk_21 6 (dk_at dksX7_layOut_6 15 rfl rfl)
theorem dX7_layOut_155 : decode cX7_layOut 155 = .ok (.putfield 30, 3) := dk_181 0 30 (dk_at dksX7_layOut_6 17 rfl rfl)
theorem dX7_layOut_158 : decode cX7_layOut 158 = .ok (.aload_n 0, 1) := dk_42 (dk_at dksX7_layOut_6 20 rfl rfl)
theorem dX7_layOut_159 : decode cX7_layOut 159 = .ok (.getfield 48, 3) := dk_180 0 48 (dk_at dksX7_layOut_6 21 rfl rfl)
theorem dX7_layOut_162 : decode cX7_layOut 162 = .ok (.iconst 4, 1) := dk_7 (dk_at dksX7_layOut_7 0 rfl rfl)
theorem dX7_layOut_163 : decode cX7_layOut 163 = .ok (.iload_n 3, 1) := dk_29 (dk_at dksX7_layOut_7 1 rfl rfl)
theorem dX7_layOut_164 : decode cX7_layOut 164 = .ok (.imul, 1) := dk_104 (dk_at dksX7_layOut_7 2 rfl rfl)
theorem dX7_layOut_165 : decode cX7_layOut 165 = .ok (.iload 5, 2) := dk_21 5 (dk_at dksX7_layOut_7 3 rfl rfl)
theorem dX7_layOut_167 : decode cX7_layOut 167 = .ok (.iadd, 1) := dk_96 (dk_at dksX7_layOut_7 5 rfl rfl)
theorem dX7_layOut_168 : decode cX7_layOut 168 = .ok (.aload_n 0, 1) := dk_42 (dk_at dksX7_layOut_7 6 rfl rfl)
theorem dX7_layOut_169 : decode cX7_layOut 169 = .ok (.iload 4, 2) := dk_21 4 (dk_at dksX7_layOut_7 7 rfl rfl)
theorem dX7_layOut_171 : decode cX7_layOut 171 = .ok (.invokevirtual 126, 3) := dk_182 0 126 (dk_at dksX7_layOut_7 9 rfl rfl)
theorem dX7_layOut_174 : decode cX7_layOut 174 = .ok (.ifCond .ne 26, 3) := dk_154 0 26 (dk_at dksX7_layOut_7 12 rfl rfl)
theorem dX7_layOut_177 : decode cX7_layOut 177 = .ok (.iload 6, 2) := dk_21 6 (dk_at dksX7_layOut_7 15 rfl rfl)
theorem dX7_layOut_179 : decode cX7_layOut 179 = .ok (.aload_n 0, 1) := dk_42 (dk_at dksX7_layOut_7 17 rfl rfl)
theorem dX7_layOut_180 : decode cX7_layOut 180 = .ok (.iconst 0, 1) := dk_3 (dk_at dksX7_layOut_7 18 rfl rfl)
theorem dX7_layOut_181 : decode cX7_layOut 181 = .ok (.iload 4, 2) := dk_21 4 (dk_at dksX7_layOut_7 19 rfl rfl)
theorem dX7_layOut_183 : decode cX7_layOut 183 = .ok (.aload_n 0, 1) := dk_42 (dk_at dksX7_layOut_7 21 rfl rfl)
theorem dX7_layOut_184 : decode cX7_layOut 184 = .ok (.getfield 13, 3) := dk_180 0 13 (dk_at dksX7_layOut_8 0 rfl rfl)
theorem dX7_layOut_187 : decode cX7_layOut 187 = .ok (.iconst 0, 1) := dk_3 (dk_at dksX7_layOut_8 3 rfl rfl)
theorem dX7_layOut_188 : decode cX7_layOut 188 = .ok (.iaload, 1) := dk_46 (dk_at dksX7_layOut_8 4 rfl rfl)
theorem dX7_layOut_189 : decode cX7_layOut 189 = .ok (.iconst 0, 1) := dk_3 (dk_at dksX7_layOut_8 5 rfl rfl)
theorem dX7_layOut_190 : decode cX7_layOut 190 = .ok (.invokevirtual 129, 3) := dk_182 0 129 (dk_at dksX7_layOut_8 6 rfl rfl)
theorem dX7_layOut_193 : decode cX7_layOut 193 = .ok (.if_icmp .lt 7, 3) := dk_161 0 7 (dk_at dksX7_layOut_8 9 rfl rfl)
theorem dX7_layOut_196 : decode cX7_layOut 196 = .ok (.iconst 1, 1) := dk_4 (dk_at dksX7_layOut_8 12 rfl rfl)
theorem dX7_layOut_197 : decode cX7_layOut 197 = .ok (.goto 4, 3) := dk_167 0 4 (dk_at dksX7_layOut_8 13 rfl rfl)
theorem dX7_layOut_200 : decode cX7_layOut 200 = .ok (.iconst 0, 1) := dk_3 (dk_at dksX7_layOut_8 16 rfl rfl)
theorem dX7_layOut_201 : decode cX7_layOut 201 = .ok (.bastore, 1) := dk_84 (dk_at dksX7_layOut_8 17 rfl rfl)
theorem dX7_layOut_202 : decode cX7_layOut 202 = .ok (.aload_n 0, 1) := dk_42 (dk_at dksX7_layOut_8 18 rfl rfl)
theorem dX7_layOut_203 : decode cX7_layOut 203 = .ok (.iconst (-1), 1) := dk_2 (dk_at dksX7_layOut_8 19 rfl rfl)
theorem dX7_layOut_204 : decode cX7_layOut 204 = .ok (.putfield 30, 3) := dk_181 0 30 (dk_at dksX7_layOut_8 20 rfl rfl)
theorem dX7_layOut_207 : decode cX7_layOut 207 = .ok (.iinc 5 1, 3) := dk_132 5 1 (dk_at dksX7_layOut_9 0 rfl rfl)
theorem dX7_layOut_210 : decode cX7_layOut 210 = .ok (.goto (-108), 3) := dk_167 255 148 (dk_at dksX7_layOut_9 3 rfl rfl)
theorem dX7_layOut_213 : decode cX7_layOut 213 = .ok (.aload_n 0, 1) := dk_42 (dk_at dksX7_layOut_9 6 rfl rfl)
theorem dX7_layOut_214 : decode cX7_layOut 214 = .ok (.iconst 2, 1) := dk_5 (dk_at dksX7_layOut_9 7 rfl rfl)
theorem dX7_layOut_215 : decode cX7_layOut 215 = .ok (.iload 4, 2) := dk_21 4 (dk_at dksX7_layOut_9 8 rfl rfl)
theorem dX7_layOut_217 : decode cX7_layOut 217 = .ok (.aload_n 0, 1) := dk_42 (dk_at dksX7_layOut_9 10 rfl rfl)
theorem dX7_layOut_218 : decode cX7_layOut 218 = .ok (.getfield 13, 3) := dk_180 0 13 (dk_at dksX7_layOut_9 11 rfl rfl)
theorem dX7_layOut_221 : decode cX7_layOut 221 = .ok (.iconst 0, 1) := dk_3 (dk_at dksX7_layOut_9 14 rfl rfl)
theorem dX7_layOut_222 : decode cX7_layOut 222 = .ok (.iaload, 1) := dk_46 (dk_at dksX7_layOut_9 15 rfl rfl)
theorem dX7_layOut_223 : decode cX7_layOut 223 = .ok (.iconst 0, 1) := dk_3 (dk_at dksX7_layOut_9 16 rfl rfl)
theorem dX7_layOut_224 : decode cX7_layOut 224 = .ok (.invokevirtual 129, 3) := dk_182 0 129 (dk_at dksX7_layOut_9 17 rfl rfl)
theorem dX7_layOut_227 : decode cX7_layOut 227 = .ok (.istore 5, 2) := dk_54 5 (dk_at dksX7_layOut_9 20 rfl rfl)
theorem dX7_layOut_229 : decode cX7_layOut 229 = .ok (.iload_n 3, 1) := dk_29 (dk_at dksX7_layOut_9 22 rfl rfl)
theorem dX7_layOut_230 : decode cX7_layOut 230 = .ok (.iconst 1, 1) := dk_4 (dk_at dksX7_layOut_9 23 rfl rfl)
theorem dX7_layOut_231 : decode cX7_layOut 231 = .ok (.iadd, 1) := dk_96 (dk_at dksX7_layOut_10 0 rfl rfl)
theorem dX7_layOut_232 : decode cX7_layOut 232 = .ok (.istore 6, 2) := dk_54 6 (dk_at dksX7_layOut_10 1 rfl rfl)
theorem dX7_layOut_234 : decode cX7_layOut 234 = .ok (.iload 6, 2) := dk_21 6 (dk_at dksX7_layOut_10 3 rfl rfl)
theorem dX7_layOut_236 : decode cX7_layOut 236 = .ok (.aload_n 0, 1) := dk_42 (dk_at dksX7_layOut_10 5 rfl rfl)
theorem dX7_layOut_237 : decode cX7_layOut 237 = .ok (.getfield 400, 3) := dk_180 1 144 (dk_at dksX7_layOut_10 6 rfl rfl)
theorem dX7_layOut_240 : decode cX7_layOut 240 = .ok (.if_icmp .ge 47, 3) := dk_162 0 47 (dk_at dksX7_layOut_10 9 rfl rfl)
theorem dX7_layOut_243 : decode cX7_layOut 243 = .ok (.aload_n 0, 1) := dk_42 (dk_at dksX7_layOut_10 12 rfl rfl)
theorem dX7_layOut_244 : decode cX7_layOut 244 = .ok (.getfield 52, 3) := dk_180 0 52 (dk_at dksX7_layOut_10 13 rfl rfl)
theorem dX7_layOut_247 : decode cX7_layOut 247 = .ok (.bipush 7, 2) := dk_16 7 (dk_at dksX7_layOut_10 16 rfl rfl)
theorem dX7_layOut_249 : decode cX7_layOut 249 = .ok (.iload_n 3, 1) := dk_29 (dk_at dksX7_layOut_10 18 rfl rfl)
theorem dX7_layOut_250 : decode cX7_layOut 250 = .ok (.imul, 1) := dk_104 (dk_at dksX7_layOut_10 19 rfl rfl)
theorem dX7_layOut_251 : decode cX7_layOut 251 = .ok (.iload 6, 2) := dk_21 6 (dk_at dksX7_layOut_10 20 rfl rfl)
theorem dX7_layOut_253 : decode cX7_layOut 253 = .ok (.iadd, 1) := dk_96 (dk_at dksX7_layOut_10 22 rfl rfl)
theorem dX7_layOut_254 : decode cX7_layOut 254 = .ok (.aload_n 0, 1) := dk_42 (dk_at dksX7_layOut_10 23 rfl rfl)
theorem dX7_layOut_255 : decode cX7_layOut 255 = .ok (.iload 4, 2) := dk_21 4 (dk_at dksX7_layOut_11 0 rfl rfl)
theorem dX7_layOut_257 : decode cX7_layOut 257 = .ok (.aload_n 0, 1) := dk_42 (dk_at dksX7_layOut_11 2 rfl rfl)
theorem dX7_layOut_258 : decode cX7_layOut 258 = .ok (.getfield 36, 3) := dk_180 0 36 (dk_at dksX7_layOut_11 3 rfl rfl)
theorem dX7_layOut_261 : decode cX7_layOut 261 = .ok (.iload 6, 2) := dk_21 6 (dk_at dksX7_layOut_11 6 rfl rfl)
theorem dX7_layOut_263 : decode cX7_layOut 263 = .ok (.iaload, 1) := dk_46 (dk_at dksX7_layOut_11 8 rfl rfl)
theorem dX7_layOut_264 : decode cX7_layOut 264 = .ok (.invokevirtual 122, 3) := dk_182 0 122 (dk_at dksX7_layOut_11 9 rfl rfl)
theorem dX7_layOut_267 : decode cX7_layOut 267 = .ok (.ifCond .eq 8, 3) := dk_153 0 8 (dk_at dksX7_layOut_11 12 rfl rfl)
theorem dX7_layOut_270 : decode cX7_layOut 270 = .ok (.iload 5, 2) := dk_21 5 (dk_at dksX7_layOut_11 15 rfl rfl)
theorem dX7_layOut_272 : decode cX7_layOut 272 = .ok (.ifCond .gt 7, 3) := dk_157 0 7 (dk_at dksX7_layOut_11 17 rfl rfl)
theorem dX7_layOut_275 : decode cX7_layOut 275 = .ok (.iconst 1, 1) := dk_4 (dk_at dksX7_layOut_11 20 rfl rfl)
theorem dX7_layOut_276 : decode cX7_layOut 276 = .ok (.goto 4, 3) := dk_167 0 4 (dk_at dksX7_layOut_11 21 rfl rfl)
theorem dX7_layOut_279 : decode cX7_layOut 279 = .ok (.iconst 0, 1) := dk_3 (dk_at dksX7_layOut_12 0 rfl rfl)
theorem dX7_layOut_280 : decode cX7_layOut 280 = .ok (.bastore, 1) := dk_84 (dk_at dksX7_layOut_12 1 rfl rfl)
theorem dX7_layOut_281 : decode cX7_layOut 281 = .ok (.iinc 6 1, 3) := dk_132 6 1 (dk_at dksX7_layOut_12 2 rfl rfl)
theorem dX7_layOut_284 : decode cX7_layOut 284 = .ok (.goto (-50), 3) := dk_167 255 206 (dk_at dksX7_layOut_12 5 rfl rfl)
theorem dX7_layOut_287 : decode cX7_layOut 287 = .ok (.iinc 3 1, 3) := dk_132 3 1 (dk_at dksX7_layOut_12 8 rfl rfl)
theorem dX7_layOut_290 : decode cX7_layOut 290 = .ok (.goto (-229), 3) := dk_167 255 27 (dk_at dksX7_layOut_12 11 rfl rfl)
theorem dX7_layOut_293 : decode cX7_layOut 293 = .ok (.return_, 1) := dk_177 (dk_at dksX7_layOut_12 14 rfl rfl)
abbrev cX7_isAllowed : ByteArray := prog_19_method_99_code
def yX7_isAllowed : MethodName := ⟨RX7, "isAllowed", "()Z"⟩
def dkwX7_isAllowed_9 : List UInt8 := [180, 0, 55, 27, 46, 133, 105, 148, 158, 0, 5, 3, 172, 132, 1, 1, 167, 255, 35, 4, 172]
abbrev dktX7_isAllowed_9 : List UInt8 := dkwX7_isAllowed_9 ++ []
def dkwX7_isAllowed_8 : List UInt8 := [167, 0, 4, 3, 54, 4, 132, 5, 1, 167, 255, 165, 21, 4, 153, 0, 21, 32, 20, 0, 193, 42]
abbrev dktX7_isAllowed_8 : List UInt8 := dkwX7_isAllowed_8 ++ dktX7_isAllowed_9
def dkwX7_isAllowed_7 : List UInt8 := [21, 5, 46, 7, 182, 0, 84, 133, 97, 65, 21, 4, 153, 0, 13, 21, 5, 27, 163, 0, 7, 4]
abbrev dktX7_isAllowed_7 : List UInt8 := dkwX7_isAllowed_7 ++ dktX7_isAllowed_8
def dkwX7_isAllowed_6 : List UInt8 := [42, 42, 180, 0, 36, 27, 46, 3, 182, 0, 84, 159, 0, 6, 167, 0, 37, 32, 42, 42, 180, 0, 36]
abbrev dktX7_isAllowed_6 : List UInt8 := dkwX7_isAllowed_6 ++ dktX7_isAllowed_7
def dkwX7_isAllowed_5 : List UInt8 := [21, 5, 46, 42, 180, 0, 39, 27, 46, 160, 0, 66, 42, 42, 180, 0, 36, 21, 5, 46, 3, 182, 0, 84]
abbrev dktX7_isAllowed_5 : List UInt8 := dkwX7_isAllowed_5 ++ dktX7_isAllowed_6
def dkwX7_isAllowed_4 : List UInt8 := [167, 255, 214, 9, 65, 4, 54, 4, 3, 54, 5, 21, 5, 42, 180, 1, 144, 162, 0, 88, 42, 180, 0, 39]
abbrev dktX7_isAllowed_4 : List UInt8 := dkwX7_isAllowed_4 ++ dktX7_isAllowed_5
def dkwX7_isAllowed_3 : List UInt8 := [160, 0, 19, 42, 180, 0, 52, 16, 7, 27, 104, 28, 96, 51, 154, 0, 5, 3, 172, 132, 2, 1]
abbrev dktX7_isAllowed_3 : List UInt8 := dkwX7_isAllowed_3 ++ dktX7_isAllowed_4
def dkwX7_isAllowed_2 : List UInt8 := [4, 96, 61, 28, 42, 180, 1, 144, 162, 0, 40, 42, 180, 0, 39, 28, 46, 42, 180, 0, 39, 27, 46]
abbrev dktX7_isAllowed_2 : List UInt8 := dkwX7_isAllowed_2 ++ dktX7_isAllowed_3
def dkwX7_isAllowed_1 : List UInt8 := [167, 0, 197, 42, 180, 0, 48, 7, 27, 104, 42, 180, 0, 39, 27, 46, 96, 51, 154, 0, 5, 3, 172, 27]
abbrev dktX7_isAllowed_1 : List UInt8 := dkwX7_isAllowed_1 ++ dktX7_isAllowed_2
def dkwX7_isAllowed_0 : List UInt8 := [3, 60, 27, 42, 180, 1, 144, 162, 0, 219, 42, 180, 0, 39, 27, 46, 42, 180, 1, 147, 160, 0, 6]
abbrev dktX7_isAllowed_0 : List UInt8 := dkwX7_isAllowed_0 ++ dktX7_isAllowed_1
theorem dksX7_isAllowed_0 : cX7_isAllowed.data.toList.drop 0 = dktX7_isAllowed_0 := by decide +kernel
theorem dksX7_isAllowed_1 : cX7_isAllowed.data.toList.drop 23 = dktX7_isAllowed_1 := dk_seg dksX7_isAllowed_0 23 rfl rfl
theorem dksX7_isAllowed_2 : cX7_isAllowed.data.toList.drop 47 = dktX7_isAllowed_2 := dk_seg dksX7_isAllowed_1 24 rfl rfl
theorem dksX7_isAllowed_3 : cX7_isAllowed.data.toList.drop 70 = dktX7_isAllowed_3 := dk_seg dksX7_isAllowed_2 23 rfl rfl
theorem dksX7_isAllowed_4 : cX7_isAllowed.data.toList.drop 92 = dktX7_isAllowed_4 := dk_seg dksX7_isAllowed_3 22 rfl rfl
theorem dksX7_isAllowed_5 : cX7_isAllowed.data.toList.drop 116 = dktX7_isAllowed_5 := dk_seg dksX7_isAllowed_4 24 rfl rfl
theorem dksX7_isAllowed_6 : cX7_isAllowed.data.toList.drop 140 = dktX7_isAllowed_6 := dk_seg dksX7_isAllowed_5 24 rfl rfl
theorem dksX7_isAllowed_7 : cX7_isAllowed.data.toList.drop 163 = dktX7_isAllowed_7 := dk_seg dksX7_isAllowed_6 23 rfl rfl
theorem dksX7_isAllowed_8 : cX7_isAllowed.data.toList.drop 185 = dktX7_isAllowed_8 := dk_seg dksX7_isAllowed_7 22 rfl rfl
theorem dksX7_isAllowed_9 : cX7_isAllowed.data.toList.drop 207 = dktX7_isAllowed_9 := dk_seg dksX7_isAllowed_8 22 rfl rfl
theorem dX7_isAllowed_0 : decode cX7_isAllowed 0 = .ok (.iconst 0, 1) := dk_3 (dk_at dksX7_isAllowed_0 0 rfl rfl)
theorem dX7_isAllowed_1 : decode cX7_isAllowed 1 = .ok (.istore_n 1, 1) := dk_60 (dk_at dksX7_isAllowed_0 1 rfl rfl)
theorem dX7_isAllowed_2 : decode cX7_isAllowed 2 = .ok (.iload_n 1, 1) := dk_27 (dk_at dksX7_isAllowed_0 2 rfl rfl)
theorem dX7_isAllowed_3 : decode cX7_isAllowed 3 = .ok (.aload_n 0, 1) := dk_42 (dk_at dksX7_isAllowed_0 3 rfl rfl)
theorem dX7_isAllowed_4 : decode cX7_isAllowed 4 = .ok (.getfield 400, 3) := dk_180 1 144 (dk_at dksX7_isAllowed_0 4 rfl rfl)
theorem dX7_isAllowed_7 : decode cX7_isAllowed 7 = .ok (.if_icmp .ge 219, 3) := dk_162 0 219 (dk_at dksX7_isAllowed_0 7 rfl rfl)
theorem dX7_isAllowed_10 : decode cX7_isAllowed 10 = .ok (.aload_n 0, 1) := dk_42 (dk_at dksX7_isAllowed_0 10 rfl rfl)
theorem dX7_isAllowed_11 : decode cX7_isAllowed 11 = .ok (.getfield 39, 3) := dk_180 0 39 (dk_at dksX7_isAllowed_0 11 rfl rfl)
theorem dX7_isAllowed_14 : decode cX7_isAllowed 14 = .ok (.iload_n 1, 1) := dk_27 (dk_at dksX7_isAllowed_0 14 rfl rfl)
theorem dX7_isAllowed_15 : decode cX7_isAllowed 15 = .ok (.iaload, 1) := dk_46 (dk_at dksX7_isAllowed_0 15 rfl rfl)
theorem dX7_isAllowed_16 : decode cX7_isAllowed 16 = .ok (.aload_n 0, 1) := dk_42 (dk_at dksX7_isAllowed_0 16 rfl rfl)
theorem dX7_isAllowed_17 : decode cX7_isAllowed 17 = .ok (.getfield 403, 3) := dk_180 1 147 (dk_at dksX7_isAllowed_0 17 rfl rfl)
theorem dX7_isAllowed_20 : decode cX7_isAllowed 20 = .ok (.if_icmp .ne 6, 3) := dk_160 0 6 (dk_at dksX7_isAllowed_0 20 rfl rfl)
theorem dX7_isAllowed_23 : decode cX7_isAllowed 23 = .ok (.goto 197, 3) := dk_167 0 197 (dk_at dksX7_isAllowed_1 0 rfl rfl)
theorem dX7_isAllowed_26 : decode cX7_isAllowed 26 = .ok (.aload_n 0, 1) := dk_42 (dk_at dksX7_isAllowed_1 3 rfl rfl)
theorem dX7_isAllowed_27 : decode cX7_isAllowed 27 = .ok (.getfield 48, 3) := dk_180 0 48 (dk_at dksX7_isAllowed_1 4 rfl rfl)
theorem dX7_isAllowed_30 : decode cX7_isAllowed 30 = .ok (.iconst 4, 1) := dk_7 (dk_at dksX7_isAllowed_1 7 rfl rfl)
theorem dX7_isAllowed_31 : decode cX7_isAllowed 31 = .ok (.iload_n 1, 1) := dk_27 (dk_at dksX7_isAllowed_1 8 rfl rfl)
theorem dX7_isAllowed_32 : decode cX7_isAllowed 32 = .ok (.imul, 1) := dk_104 (dk_at dksX7_isAllowed_1 9 rfl rfl)
theorem dX7_isAllowed_33 : decode cX7_isAllowed 33 = .ok (.aload_n 0, 1) := dk_42 (dk_at dksX7_isAllowed_1 10 rfl rfl)
theorem dX7_isAllowed_34 : decode cX7_isAllowed 34 = .ok (.getfield 39, 3) := dk_180 0 39 (dk_at dksX7_isAllowed_1 11 rfl rfl)
theorem dX7_isAllowed_37 : decode cX7_isAllowed 37 = .ok (.iload_n 1, 1) := dk_27 (dk_at dksX7_isAllowed_1 14 rfl rfl)
theorem dX7_isAllowed_38 : decode cX7_isAllowed 38 = .ok (.iaload, 1) := dk_46 (dk_at dksX7_isAllowed_1 15 rfl rfl)
theorem dX7_isAllowed_39 : decode cX7_isAllowed 39 = .ok (.iadd, 1) := dk_96 (dk_at dksX7_isAllowed_1 16 rfl rfl)
theorem dX7_isAllowed_40 : decode cX7_isAllowed 40 = .ok (.baload, 1) := dk_51 (dk_at dksX7_isAllowed_1 17 rfl rfl)
theorem dX7_isAllowed_41 : decode cX7_isAllowed 41 = .ok (.ifCond .ne 5, 3) := dk_154 0 5 (dk_at dksX7_isAllowed_1 18 rfl rfl)
theorem dX7_isAllowed_44 : decode cX7_isAllowed 44 = .ok (.iconst 0, 1) := dk_3 (dk_at dksX7_isAllowed_1 21 rfl rfl)
theorem dX7_isAllowed_45 : decode cX7_isAllowed 45 = .ok (.ireturn, 1) := dk_172 (dk_at dksX7_isAllowed_1 22 rfl rfl)
theorem dX7_isAllowed_46 : decode cX7_isAllowed 46 = .ok (.iload_n 1, 1) := dk_27 (dk_at dksX7_isAllowed_1 23 rfl rfl)
theorem dX7_isAllowed_47 : decode cX7_isAllowed 47 = .ok (.iconst 1, 1) := dk_4 (dk_at dksX7_isAllowed_2 0 rfl rfl)
theorem dX7_isAllowed_48 : decode cX7_isAllowed 48 = .ok (.iadd, 1) := dk_96 (dk_at dksX7_isAllowed_2 1 rfl rfl)
theorem dX7_isAllowed_49 : decode cX7_isAllowed 49 = .ok (.istore_n 2, 1) := dk_61 (dk_at dksX7_isAllowed_2 2 rfl rfl)
theorem dX7_isAllowed_50 : decode cX7_isAllowed 50 = .ok (.iload_n 2, 1) := dk_28 (dk_at dksX7_isAllowed_2 3 rfl rfl)
theorem dX7_isAllowed_51 : decode cX7_isAllowed 51 = .ok (.aload_n 0, 1) := dk_42 (dk_at dksX7_isAllowed_2 4 rfl rfl)
theorem dX7_isAllowed_52 : decode cX7_isAllowed 52 = .ok (.getfield 400, 3) := dk_180 1 144 (dk_at dksX7_isAllowed_2 5 rfl rfl)
theorem dX7_isAllowed_55 : decode cX7_isAllowed 55 = .ok (.if_icmp .ge 40, 3) := dk_162 0 40 (dk_at dksX7_isAllowed_2 8 rfl rfl)
theorem dX7_isAllowed_58 : decode cX7_isAllowed 58 = .ok (.aload_n 0, 1) := dk_42 (dk_at dksX7_isAllowed_2 11 rfl rfl)
theorem dX7_isAllowed_59 : decode cX7_isAllowed 59 = .ok (.getfield 39, 3) := dk_180 0 39 (dk_at dksX7_isAllowed_2 12 rfl rfl)
theorem dX7_isAllowed_62 : decode cX7_isAllowed 62 = .ok (.iload_n 2, 1) := dk_28 (dk_at dksX7_isAllowed_2 15 rfl rfl)
theorem dX7_isAllowed_63 : decode cX7_isAllowed 63 = .ok (.iaload, 1) := dk_46 (dk_at dksX7_isAllowed_2 16 rfl rfl)
theorem dX7_isAllowed_64 : decode cX7_isAllowed 64 = .ok (.aload_n 0, 1) := dk_42 (dk_at dksX7_isAllowed_2 17 rfl rfl)
theorem dX7_isAllowed_65 : decode cX7_isAllowed 65 = .ok (.getfield 39, 3) := dk_180 0 39 (dk_at dksX7_isAllowed_2 18 rfl rfl)
theorem dX7_isAllowed_68 : decode cX7_isAllowed 68 = .ok (.iload_n 1, 1) := dk_27 (dk_at dksX7_isAllowed_2 21 rfl rfl)
theorem dX7_isAllowed_69 : decode cX7_isAllowed 69 = .ok (.iaload, 1) := dk_46 (dk_at dksX7_isAllowed_2 22 rfl rfl)
theorem dX7_isAllowed_70 : decode cX7_isAllowed 70 = .ok (.if_icmp .ne 19, 3) := dk_160 0 19 (dk_at dksX7_isAllowed_3 0 rfl rfl)
theorem dX7_isAllowed_73 : decode cX7_isAllowed 73 = .ok (.aload_n 0, 1) := dk_42 (dk_at dksX7_isAllowed_3 3 rfl rfl)
theorem dX7_isAllowed_74 : decode cX7_isAllowed 74 = .ok (.getfield 52, 3) := dk_180 0 52 (dk_at dksX7_isAllowed_3 4 rfl rfl)
theorem dX7_isAllowed_77 : decode cX7_isAllowed 77 = .ok (.bipush 7, 2) := dk_16 7 (dk_at dksX7_isAllowed_3 7 rfl rfl)
theorem dX7_isAllowed_79 : decode cX7_isAllowed 79 = .ok (.iload_n 1, 1) := dk_27 (dk_at dksX7_isAllowed_3 9 rfl rfl)
theorem dX7_isAllowed_80 : decode cX7_isAllowed 80 = .ok (.imul, 1) := dk_104 (dk_at dksX7_isAllowed_3 10 rfl rfl)
theorem dX7_isAllowed_81 : decode cX7_isAllowed 81 = .ok (.iload_n 2, 1) := dk_28 (dk_at dksX7_isAllowed_3 11 rfl rfl)
theorem dX7_isAllowed_82 : decode cX7_isAllowed 82 = .ok (.iadd, 1) := dk_96 (dk_at dksX7_isAllowed_3 12 rfl rfl)
theorem dX7_isAllowed_83 : decode cX7_isAllowed 83 = .ok (.baload, 1) := dk_51 (dk_at dksX7_isAllowed_3 13 rfl rfl)
theorem dX7_isAllowed_84 : decode cX7_isAllowed 84 = .ok (.ifCond .ne 5, 3) := dk_154 0 5 (dk_at dksX7_isAllowed_3 14 rfl rfl)
theorem dX7_isAllowed_87 : decode cX7_isAllowed 87 = .ok (.iconst 0, 1) := dk_3 (dk_at dksX7_isAllowed_3 17 rfl rfl)
theorem dX7_isAllowed_88 : decode cX7_isAllowed 88 = .ok (.ireturn, 1) := dk_172 (dk_at dksX7_isAllowed_3 18 rfl rfl)
theorem dX7_isAllowed_89 : decode cX7_isAllowed 89 = .ok (.iinc 2 1, 3) := dk_132 2 1 (dk_at dksX7_isAllowed_3 19 rfl rfl)
theorem dX7_isAllowed_92 : decode cX7_isAllowed 92 = .ok (.goto (-42), 3) := dk_167 255 214 (dk_at dksX7_isAllowed_4 0 rfl rfl)
theorem dX7_isAllowed_95 : decode cX7_isAllowed 95 = .ok (.lconst 0, 1) := dk_9 (dk_at dksX7_isAllowed_4 3 rfl rfl)
theorem dX7_isAllowed_96 : decode cX7_isAllowed 96 = .ok (.lstore_n 2, 1) := dk_65 (dk_at dksX7_isAllowed_4 4 rfl rfl)
theorem dX7_isAllowed_97 : decode cX7_isAllowed 97 = .ok (.iconst 1, 1) := dk_4 (dk_at dksX7_isAllowed_4 5 rfl rfl)
theorem dX7_isAllowed_98 : decode cX7_isAllowed 98 = .ok (.istore 4, 2) := dk_54 4 (dk_at dksX7_isAllowed_4 6 rfl rfl)
theorem dX7_isAllowed_100 : decode cX7_isAllowed 100 = .ok (.iconst 0, 1) := dk_3 (dk_at dksX7_isAllowed_4 8 rfl rfl)
theorem dX7_isAllowed_101 : decode cX7_isAllowed 101 = .ok (.istore 5, 2) := dk_54 5 (dk_at dksX7_isAllowed_4 9 rfl rfl)
theorem dX7_isAllowed_103 : decode cX7_isAllowed 103 = .ok (.iload 5, 2) := dk_21 5 (dk_at dksX7_isAllowed_4 11 rfl rfl)
theorem dX7_isAllowed_105 : decode cX7_isAllowed 105 = .ok (.aload_n 0, 1) := dk_42 (dk_at dksX7_isAllowed_4 13 rfl rfl)
theorem dX7_isAllowed_106 : decode cX7_isAllowed 106 = .ok (.getfield 400, 3) := dk_180 1 144 (dk_at dksX7_isAllowed_4 14 rfl rfl)
theorem dX7_isAllowed_109 : decode cX7_isAllowed 109 = .ok (.if_icmp .ge 88, 3) := dk_162 0 88 (dk_at dksX7_isAllowed_4 17 rfl rfl)
theorem dX7_isAllowed_112 : decode cX7_isAllowed 112 = .ok (.aload_n 0, 1) := dk_42 (dk_at dksX7_isAllowed_4 20 rfl rfl)
theorem dX7_isAllowed_113 : decode cX7_isAllowed 113 = .ok (.getfield 39, 3) := dk_180 0 39 (dk_at dksX7_isAllowed_4 21 rfl rfl)
theorem dX7_isAllowed_116 : decode cX7_isAllowed 116 = .ok (.iload 5, 2) := dk_21 5 (dk_at dksX7_isAllowed_5 0 rfl rfl)
theorem dX7_isAllowed_118 : decode cX7_isAllowed 118 = .ok (.iaload, 1) := dk_46 (dk_at dksX7_isAllowed_5 2 rfl rfl)
theorem dX7_isAllowed_119 : decode cX7_isAllowed 119 = .ok (.aload_n 0, 1) := dk_42 (dk_at dksX7_isAllowed_5 3 rfl rfl)
theorem dX7_isAllowed_120 : decode cX7_isAllowed 120 = .ok (.getfield 39, 3) := dk_180 0 39 (dk_at dksX7_isAllowed_5 4 rfl rfl)
theorem dX7_isAllowed_123 : decode cX7_isAllowed 123 = .ok (.iload_n 1, 1) := dk_27 (dk_at dksX7_isAllowed_5 7 rfl rfl)
theorem dX7_isAllowed_124 : decode cX7_isAllowed 124 = .ok (.iaload, 1) := dk_46 (dk_at dksX7_isAllowed_5 8 rfl rfl)
theorem dX7_isAllowed_125 : decode cX7_isAllowed 125 = .ok (.if_icmp .ne 66, 3) := dk_160 0 66 (dk_at dksX7_isAllowed_5 9 rfl rfl)
theorem dX7_isAllowed_128 : decode cX7_isAllowed 128 = .ok (.aload_n 0, 1) := dk_42 (dk_at dksX7_isAllowed_5 12 rfl rfl)
theorem dX7_isAllowed_129 : decode cX7_isAllowed 129 = .ok (.aload_n 0, 1) := dk_42 (dk_at dksX7_isAllowed_5 13 rfl rfl)
theorem dX7_isAllowed_130 : decode cX7_isAllowed 130 = .ok (.getfield 36, 3) := dk_180 0 36 (dk_at dksX7_isAllowed_5 14 rfl rfl)
theorem dX7_isAllowed_133 : decode cX7_isAllowed 133 = .ok (.iload 5, 2) := dk_21 5 (dk_at dksX7_isAllowed_5 17 rfl rfl)
theorem dX7_isAllowed_135 : decode cX7_isAllowed 135 = .ok (.iaload, 1) := dk_46 (dk_at dksX7_isAllowed_5 19 rfl rfl)
theorem dX7_isAllowed_136 : decode cX7_isAllowed 136 = .ok (.iconst 0, 1) := dk_3 (dk_at dksX7_isAllowed_5 20 rfl rfl)
theorem dX7_isAllowed_137 : decode cX7_isAllowed 137 = .ok (.invokevirtual 84, 3) := dk_182 0 84 (dk_at dksX7_isAllowed_5 21 rfl rfl)
theorem dX7_isAllowed_140 : decode cX7_isAllowed 140 = .ok (.aload_n 0, 1) := dk_42 (dk_at dksX7_isAllowed_6 0 rfl rfl)
theorem dX7_isAllowed_141 : decode cX7_isAllowed 141 = .ok (.aload_n 0, 1) := dk_42 (dk_at dksX7_isAllowed_6 1 rfl rfl)
theorem dX7_isAllowed_142 : decode cX7_isAllowed 142 = .ok (.getfield 36, 3) := dk_180 0 36 (dk_at dksX7_isAllowed_6 2 rfl rfl)
theorem dX7_isAllowed_145 : decode cX7_isAllowed 145 = .ok (.iload_n 1, 1) := dk_27 (dk_at dksX7_isAllowed_6 5 rfl rfl)
theorem dX7_isAllowed_146 : decode cX7_isAllowed 146 = .ok (.iaload, 1) := dk_46 (dk_at dksX7_isAllowed_6 6 rfl rfl)
theorem dX7_isAllowed_147 : decode cX7_isAllowed 147 = .ok (.iconst 0, 1) := dk_3 (dk_at dksX7_isAllowed_6 7 rfl rfl)
theorem dX7_isAllowed_148 : decode cX7_isAllowed 148 = .ok (.invokevirtual 84, 3) := dk_182 0 84 (dk_at dksX7_isAllowed_6 8 rfl rfl)
theorem dX7_isAllowed_151 : decode cX7_isAllowed 151 = .ok (.if_icmp .eq 6, 3) := dk_159 0 6 (dk_at dksX7_isAllowed_6 11 rfl rfl)
theorem dX7_isAllowed_154 : decode cX7_isAllowed 154 = .ok (.goto 37, 3) := dk_167 0 37 (dk_at dksX7_isAllowed_6 14 rfl rfl)
theorem dX7_isAllowed_157 : decode cX7_isAllowed 157 = .ok (.lload_n 2, 1) := dk_32 (dk_at dksX7_isAllowed_6 17 rfl rfl)
theorem dX7_isAllowed_158 : decode cX7_isAllowed 158 = .ok (.aload_n 0, 1) := dk_42 (dk_at dksX7_isAllowed_6 18 rfl rfl)
theorem dX7_isAllowed_159 : decode cX7_isAllowed 159 = .ok (.aload_n 0, 1) := dk_42 (dk_at dksX7_isAllowed_6 19 rfl rfl)
theorem dX7_isAllowed_160 : decode cX7_isAllowed 160 = .ok (.getfield 36, 3) := dk_180 0 36 (dk_at dksX7_isAllowed_6 20 rfl rfl)
theorem dX7_isAllowed_163 : decode cX7_isAllowed 163 = .ok (.iload 5, 2) := dk_21 5 (dk_at dksX7_isAllowed_7 0 rfl rfl)
theorem dX7_isAllowed_165 : decode cX7_isAllowed 165 = .ok (.iaload, 1) := dk_46 (dk_at dksX7_isAllowed_7 2 rfl rfl)
theorem dX7_isAllowed_166 : decode cX7_isAllowed 166 = .ok (.iconst 4, 1) := dk_7 (dk_at dksX7_isAllowed_7 3 rfl rfl)
theorem dX7_isAllowed_167 : decode cX7_isAllowed 167 = .ok (.invokevirtual 84, 3) := dk_182 0 84 (dk_at dksX7_isAllowed_7 4 rfl rfl)
theorem dX7_isAllowed_170 : decode cX7_isAllowed 170 = .ok (.i2l, 1) := dk_133 (dk_at dksX7_isAllowed_7 7 rfl rfl)
theorem dX7_isAllowed_171 : decode cX7_isAllowed 171 = .ok (.ladd, 1) := dk_97 (dk_at dksX7_isAllowed_7 8 rfl rfl)
theorem dX7_isAllowed_172 : decode cX7_isAllowed 172 = .ok (.lstore_n 2, 1) := dk_65 (dk_at dksX7_isAllowed_7 9 rfl rfl)
theorem dX7_isAllowed_173 : decode cX7_isAllowed 173 = .ok (.iload 4, 2) := dk_21 4 (dk_at dksX7_isAllowed_7 10 rfl rfl)
theorem dX7_isAllowed_175 : decode cX7_isAllowed 175 = .ok (.ifCond .eq 13, 3) := dk_153 0 13 (dk_at dksX7_isAllowed_7 12 rfl rfl)
theorem dX7_isAllowed_178 : decode cX7_isAllowed 178 = .ok (.iload 5, 2) := dk_21 5 (dk_at dksX7_isAllowed_7 15 rfl rfl)
theorem dX7_isAllowed_180 : decode cX7_isAllowed 180 = .ok (.iload_n 1, 1) := dk_27 (dk_at dksX7_isAllowed_7 17 rfl rfl)
theorem dX7_isAllowed_181 : decode cX7_isAllowed 181 = .ok (.if_icmp .gt 7, 3) := dk_163 0 7 (dk_at dksX7_isAllowed_7 18 rfl rfl)
theorem dX7_isAllowed_184 : decode cX7_isAllowed 184 = .ok (.iconst 1, 1) := dk_4 (dk_at dksX7_isAllowed_7 21 rfl rfl)
theorem dX7_isAllowed_185 : decode cX7_isAllowed 185 = .ok (.goto 4, 3) := dk_167 0 4 (dk_at dksX7_isAllowed_8 0 rfl rfl)
theorem dX7_isAllowed_188 : decode cX7_isAllowed 188 = .ok (.iconst 0, 1) := dk_3 (dk_at dksX7_isAllowed_8 3 rfl rfl)
theorem dX7_isAllowed_189 : decode cX7_isAllowed 189 = .ok (.istore 4, 2) := dk_54 4 (dk_at dksX7_isAllowed_8 4 rfl rfl)
theorem dX7_isAllowed_191 : decode cX7_isAllowed 191 = .ok (.iinc 5 1, 3) := dk_132 5 1 (dk_at dksX7_isAllowed_8 6 rfl rfl)
theorem dX7_isAllowed_194 : decode cX7_isAllowed 194 = .ok (.goto (-91), 3) := dk_167 255 165 (dk_at dksX7_isAllowed_8 9 rfl rfl)
theorem dX7_isAllowed_197 : decode cX7_isAllowed 197 = .ok (.iload 4, 2) := dk_21 4 (dk_at dksX7_isAllowed_8 12 rfl rfl)
theorem dX7_isAllowed_199 : decode cX7_isAllowed 199 = .ok (.ifCond .eq 21, 3) := dk_153 0 21 (dk_at dksX7_isAllowed_8 14 rfl rfl)
theorem dX7_isAllowed_202 : decode cX7_isAllowed 202 = .ok (.lload_n 2, 1) := dk_32 (dk_at dksX7_isAllowed_8 17 rfl rfl)
theorem dX7_isAllowed_203 : decode cX7_isAllowed 203 = .ok (.ldc2_w 193, 3) := dk_20 0 193 (dk_at dksX7_isAllowed_8 18 rfl rfl)
theorem dX7_isAllowed_206 : decode cX7_isAllowed 206 = .ok (.aload_n 0, 1) := dk_42 (dk_at dksX7_isAllowed_8 21 rfl rfl)
theorem dX7_isAllowed_207 : decode cX7_isAllowed 207 = .ok (.getfield 55, 3) := dk_180 0 55 (dk_at dksX7_isAllowed_9 0 rfl rfl)
theorem dX7_isAllowed_210 : decode cX7_isAllowed 210 = .ok (.iload_n 1, 1) := dk_27 (dk_at dksX7_isAllowed_9 3 rfl rfl)
theorem dX7_isAllowed_211 : decode cX7_isAllowed 211 = .ok (.iaload, 1) := dk_46 (dk_at dksX7_isAllowed_9 4 rfl rfl)
theorem dX7_isAllowed_212 : decode cX7_isAllowed 212 = .ok (.i2l, 1) := dk_133 (dk_at dksX7_isAllowed_9 5 rfl rfl)
theorem dX7_isAllowed_213 : decode cX7_isAllowed 213 = .ok (.lmul, 1) := dk_105 (dk_at dksX7_isAllowed_9 6 rfl rfl)
theorem dX7_isAllowed_214 : decode cX7_isAllowed 214 = .ok (.lcmp, 1) := dk_148 (dk_at dksX7_isAllowed_9 7 rfl rfl)
theorem dX7_isAllowed_215 : decode cX7_isAllowed 215 = .ok (.ifCond .le 5, 3) := dk_158 0 5 (dk_at dksX7_isAllowed_9 8 rfl rfl)
theorem dX7_isAllowed_218 : decode cX7_isAllowed 218 = .ok (.iconst 0, 1) := dk_3 (dk_at dksX7_isAllowed_9 11 rfl rfl)
theorem dX7_isAllowed_219 : decode cX7_isAllowed 219 = .ok (.ireturn, 1) := dk_172 (dk_at dksX7_isAllowed_9 12 rfl rfl)
theorem dX7_isAllowed_220 : decode cX7_isAllowed 220 = .ok (.iinc 1 1, 3) := dk_132 1 1 (dk_at dksX7_isAllowed_9 13 rfl rfl)
theorem dX7_isAllowed_223 : decode cX7_isAllowed 223 = .ok (.goto (-221), 3) := dk_167 255 35 (dk_at dksX7_isAllowed_9 16 rfl rfl)
theorem dX7_isAllowed_226 : decode cX7_isAllowed 226 = .ok (.iconst 1, 1) := dk_4 (dk_at dksX7_isAllowed_9 19 rfl rfl)
theorem dX7_isAllowed_227 : decode cX7_isAllowed 227 = .ok (.ireturn, 1) := dk_172 (dk_at dksX7_isAllowed_9 20 rfl rfl)
abbrev cX7_weigh : ByteArray := prog_19_method_100_code
def yX7_weigh : MethodName := ⟨RX7, "weigh", "()V"⟩
def dkwX7_weigh_4 : List UInt8 := [180, 1, 153, 181, 1, 153, 132, 1, 1, 167, 255, 160, 177]
abbrev dktX7_weigh_4 : List UInt8 := dkwX7_weigh_4 ++ []
def dkwX7_weigh_3 : List UInt8 := [32, 97, 181, 1, 150, 42, 27, 153, 0, 12, 32, 42, 180, 1, 153, 148, 156, 0, 7, 32, 167, 0, 7, 42]
abbrev dktX7_weigh_3 : List UInt8 := dkwX7_weigh_3 ++ dktX7_weigh_4
def dkwX7_weigh_2 : List UInt8 := [21, 4, 104, 27, 96, 46, 133, 167, 0, 4, 9, 97, 65, 132, 4, 1, 167, 255, 214, 42, 89, 180, 1, 150]
abbrev dktX7_weigh_2 : List UInt8 := dkwX7_weigh_2 ++ dktX7_weigh_3
def dkwX7_weigh_1 : List UInt8 := [180, 1, 144, 162, 0, 39, 32, 42, 180, 0, 39, 21, 4, 46, 27, 160, 0, 18, 42, 180, 0, 45, 7]
abbrev dktX7_weigh_1 : List UInt8 := dkwX7_weigh_1 ++ dktX7_weigh_2
def dkwX7_weigh_0 : List UInt8 := [42, 9, 181, 1, 150, 3, 60, 27, 42, 180, 1, 147, 162, 0, 94, 9, 65, 3, 54, 4, 21, 4, 42]
abbrev dktX7_weigh_0 : List UInt8 := dkwX7_weigh_0 ++ dktX7_weigh_1
theorem dksX7_weigh_0 : cX7_weigh.data.toList.drop 0 = dktX7_weigh_0 := by decide +kernel
theorem dksX7_weigh_1 : cX7_weigh.data.toList.drop 23 = dktX7_weigh_1 := dk_seg dksX7_weigh_0 23 rfl rfl
theorem dksX7_weigh_2 : cX7_weigh.data.toList.drop 46 = dktX7_weigh_2 := dk_seg dksX7_weigh_1 23 rfl rfl
theorem dksX7_weigh_3 : cX7_weigh.data.toList.drop 70 = dktX7_weigh_3 := dk_seg dksX7_weigh_2 24 rfl rfl
theorem dksX7_weigh_4 : cX7_weigh.data.toList.drop 94 = dktX7_weigh_4 := dk_seg dksX7_weigh_3 24 rfl rfl
theorem dX7_weigh_0 : decode cX7_weigh 0 = .ok (.aload_n 0, 1) := dk_42 (dk_at dksX7_weigh_0 0 rfl rfl)
theorem dX7_weigh_1 : decode cX7_weigh 1 = .ok (.lconst 0, 1) := dk_9 (dk_at dksX7_weigh_0 1 rfl rfl)
theorem dX7_weigh_2 : decode cX7_weigh 2 = .ok (.putfield 406, 3) := dk_181 1 150 (dk_at dksX7_weigh_0 2 rfl rfl)
theorem dX7_weigh_5 : decode cX7_weigh 5 = .ok (.iconst 0, 1) := dk_3 (dk_at dksX7_weigh_0 5 rfl rfl)
theorem dX7_weigh_6 : decode cX7_weigh 6 = .ok (.istore_n 1, 1) := dk_60 (dk_at dksX7_weigh_0 6 rfl rfl)
theorem dX7_weigh_7 : decode cX7_weigh 7 = .ok (.iload_n 1, 1) := dk_27 (dk_at dksX7_weigh_0 7 rfl rfl)
theorem dX7_weigh_8 : decode cX7_weigh 8 = .ok (.aload_n 0, 1) := dk_42 (dk_at dksX7_weigh_0 8 rfl rfl)
theorem dX7_weigh_9 : decode cX7_weigh 9 = .ok (.getfield 403, 3) := dk_180 1 147 (dk_at dksX7_weigh_0 9 rfl rfl)
theorem dX7_weigh_12 : decode cX7_weigh 12 = .ok (.if_icmp .ge 94, 3) := dk_162 0 94 (dk_at dksX7_weigh_0 12 rfl rfl)
theorem dX7_weigh_15 : decode cX7_weigh 15 = .ok (.lconst 0, 1) := dk_9 (dk_at dksX7_weigh_0 15 rfl rfl)
theorem dX7_weigh_16 : decode cX7_weigh 16 = .ok (.lstore_n 2, 1) := dk_65 (dk_at dksX7_weigh_0 16 rfl rfl)
theorem dX7_weigh_17 : decode cX7_weigh 17 = .ok (.iconst 0, 1) := dk_3 (dk_at dksX7_weigh_0 17 rfl rfl)
theorem dX7_weigh_18 : decode cX7_weigh 18 = .ok (.istore 4, 2) := dk_54 4 (dk_at dksX7_weigh_0 18 rfl rfl)
theorem dX7_weigh_20 : decode cX7_weigh 20 = .ok (.iload 4, 2) := dk_21 4 (dk_at dksX7_weigh_0 20 rfl rfl)
theorem dX7_weigh_22 : decode cX7_weigh 22 = .ok (.aload_n 0, 1) := dk_42 (dk_at dksX7_weigh_0 22 rfl rfl)
theorem dX7_weigh_23 : decode cX7_weigh 23 = .ok (.getfield 400, 3) := dk_180 1 144 (dk_at dksX7_weigh_1 0 rfl rfl)
theorem dX7_weigh_26 : decode cX7_weigh 26 = .ok (.if_icmp .ge 39, 3) := dk_162 0 39 (dk_at dksX7_weigh_1 3 rfl rfl)
theorem dX7_weigh_29 : decode cX7_weigh 29 = .ok (.lload_n 2, 1) := dk_32 (dk_at dksX7_weigh_1 6 rfl rfl)
theorem dX7_weigh_30 : decode cX7_weigh 30 = .ok (.aload_n 0, 1) := dk_42 (dk_at dksX7_weigh_1 7 rfl rfl)
theorem dX7_weigh_31 : decode cX7_weigh 31 = .ok (.getfield 39, 3) := dk_180 0 39 (dk_at dksX7_weigh_1 8 rfl rfl)
theorem dX7_weigh_34 : decode cX7_weigh 34 = .ok (.iload 4, 2) := dk_21 4 (dk_at dksX7_weigh_1 11 rfl rfl)
theorem dX7_weigh_36 : decode cX7_weigh 36 = .ok (.iaload, 1) := dk_46 (dk_at dksX7_weigh_1 13 rfl rfl)
theorem dX7_weigh_37 : decode cX7_weigh 37 = .ok (.iload_n 1, 1) := dk_27 (dk_at dksX7_weigh_1 14 rfl rfl)
theorem dX7_weigh_38 : decode cX7_weigh 38 = .ok (.if_icmp .ne 18, 3) := dk_160 0 18 (dk_at dksX7_weigh_1 15 rfl rfl)
theorem dX7_weigh_41 : decode cX7_weigh 41 = .ok (.aload_n 0, 1) := dk_42 (dk_at dksX7_weigh_1 18 rfl rfl)
theorem dX7_weigh_42 : decode cX7_weigh 42 = .ok (.getfield 45, 3) := dk_180 0 45 (dk_at dksX7_weigh_1 19 rfl rfl)
theorem dX7_weigh_45 : decode cX7_weigh 45 = .ok (.iconst 4, 1) := dk_7 (dk_at dksX7_weigh_1 22 rfl rfl)
theorem dX7_weigh_46 : decode cX7_weigh 46 = .ok (.iload 4, 2) := dk_21 4 (dk_at dksX7_weigh_2 0 rfl rfl)
theorem dX7_weigh_48 : decode cX7_weigh 48 = .ok (.imul, 1) := dk_104 (dk_at dksX7_weigh_2 2 rfl rfl)
theorem dX7_weigh_49 : decode cX7_weigh 49 = .ok (.iload_n 1, 1) := dk_27 (dk_at dksX7_weigh_2 3 rfl rfl)
theorem dX7_weigh_50 : decode cX7_weigh 50 = .ok (.iadd, 1) := dk_96 (dk_at dksX7_weigh_2 4 rfl rfl)
theorem dX7_weigh_51 : decode cX7_weigh 51 = .ok (.iaload, 1) := dk_46 (dk_at dksX7_weigh_2 5 rfl rfl)
theorem dX7_weigh_52 : decode cX7_weigh 52 = .ok (.i2l, 1) := dk_133 (dk_at dksX7_weigh_2 6 rfl rfl)
theorem dX7_weigh_53 : decode cX7_weigh 53 = .ok (.goto 4, 3) := dk_167 0 4 (dk_at dksX7_weigh_2 7 rfl rfl)
theorem dX7_weigh_56 : decode cX7_weigh 56 = .ok (.lconst 0, 1) := dk_9 (dk_at dksX7_weigh_2 10 rfl rfl)
theorem dX7_weigh_57 : decode cX7_weigh 57 = .ok (.ladd, 1) := dk_97 (dk_at dksX7_weigh_2 11 rfl rfl)
theorem dX7_weigh_58 : decode cX7_weigh 58 = .ok (.lstore_n 2, 1) := dk_65 (dk_at dksX7_weigh_2 12 rfl rfl)
theorem dX7_weigh_59 : decode cX7_weigh 59 = .ok (.iinc 4 1, 3) := dk_132 4 1 (dk_at dksX7_weigh_2 13 rfl rfl)
theorem dX7_weigh_62 : decode cX7_weigh 62 = .ok (.goto (-42), 3) := dk_167 255 214 (dk_at dksX7_weigh_2 16 rfl rfl)
theorem dX7_weigh_65 : decode cX7_weigh 65 = .ok (.aload_n 0, 1) := dk_42 (dk_at dksX7_weigh_2 19 rfl rfl)
theorem dX7_weigh_66 : decode cX7_weigh 66 = .ok (.dup, 1) := dk_89 (dk_at dksX7_weigh_2 20 rfl rfl)
theorem dX7_weigh_67 : decode cX7_weigh 67 = .ok (.getfield 406, 3) := dk_180 1 150 (dk_at dksX7_weigh_2 21 rfl rfl)
theorem dX7_weigh_70 : decode cX7_weigh 70 = .ok (.lload_n 2, 1) := dk_32 (dk_at dksX7_weigh_3 0 rfl rfl)
theorem dX7_weigh_71 : decode cX7_weigh 71 = .ok (.ladd, 1) := dk_97 (dk_at dksX7_weigh_3 1 rfl rfl)
theorem dX7_weigh_72 : decode cX7_weigh 72 = .ok (.putfield 406, 3) := dk_181 1 150 (dk_at dksX7_weigh_3 2 rfl rfl)
theorem dX7_weigh_75 : decode cX7_weigh 75 = .ok (.aload_n 0, 1) := dk_42 (dk_at dksX7_weigh_3 5 rfl rfl)
theorem dX7_weigh_76 : decode cX7_weigh 76 = .ok (.iload_n 1, 1) := dk_27 (dk_at dksX7_weigh_3 6 rfl rfl)
theorem dX7_weigh_77 : decode cX7_weigh 77 = .ok (.ifCond .eq 12, 3) := dk_153 0 12 (dk_at dksX7_weigh_3 7 rfl rfl)
theorem dX7_weigh_80 : decode cX7_weigh 80 = .ok (.lload_n 2, 1) := dk_32 (dk_at dksX7_weigh_3 10 rfl rfl)
theorem dX7_weigh_81 : decode cX7_weigh 81 = .ok (.aload_n 0, 1) := dk_42 (dk_at dksX7_weigh_3 11 rfl rfl)
theorem dX7_weigh_82 : decode cX7_weigh 82 = .ok (.getfield 409, 3) := dk_180 1 153 (dk_at dksX7_weigh_3 12 rfl rfl)
theorem dX7_weigh_85 : decode cX7_weigh 85 = .ok (.lcmp, 1) := dk_148 (dk_at dksX7_weigh_3 15 rfl rfl)
theorem dX7_weigh_86 : decode cX7_weigh 86 = .ok (.ifCond .ge 7, 3) := dk_156 0 7 (dk_at dksX7_weigh_3 16 rfl rfl)
theorem dX7_weigh_89 : decode cX7_weigh 89 = .ok (.lload_n 2, 1) := dk_32 (dk_at dksX7_weigh_3 19 rfl rfl)
theorem dX7_weigh_90 : decode cX7_weigh 90 = .ok (.goto 7, 3) := dk_167 0 7 (dk_at dksX7_weigh_3 20 rfl rfl)
theorem dX7_weigh_93 : decode cX7_weigh 93 = .ok (.aload_n 0, 1) := dk_42 (dk_at dksX7_weigh_3 23 rfl rfl)
theorem dX7_weigh_94 : decode cX7_weigh 94 = .ok (.getfield 409, 3) := dk_180 1 153 (dk_at dksX7_weigh_4 0 rfl rfl)
theorem dX7_weigh_97 : decode cX7_weigh 97 = .ok (.putfield 409, 3) := dk_181 1 153 (dk_at dksX7_weigh_4 3 rfl rfl)
theorem dX7_weigh_100 : decode cX7_weigh 100 = .ok (.iinc 1 1, 3) := dk_132 1 1 (dk_at dksX7_weigh_4 6 rfl rfl)
theorem dX7_weigh_103 : decode cX7_weigh 103 = .ok (.goto (-96), 3) := dk_167 255 160 (dk_at dksX7_weigh_4 9 rfl rfl)
theorem dX7_weigh_106 : decode cX7_weigh 106 = .ok (.return_, 1) := dk_177 (dk_at dksX7_weigh_4 12 rfl rfl)
abbrev cX7_goesUp : ByteArray := prog_19_method_101_code
def yX7_goesUp : MethodName := ⟨RX7, "goesUp", "()Z"⟩
def dkwX7_goesUp_2 : List UInt8 := [92, 46, 4, 96, 79, 4, 172]
abbrev dktX7_goesUp_2 : List UInt8 := dkwX7_goesUp_2 ++ []
def dkwX7_goesUp_1 : List UInt8 := [42, 180, 0, 39, 27, 3, 79, 132, 1, 255, 167, 255, 229, 27, 156, 0, 5, 3, 172, 42, 180, 0, 39, 27]
abbrev dktX7_goesUp_1 : List UInt8 := dkwX7_goesUp_1 ++ dktX7_goesUp_2
def dkwX7_goesUp_0 : List UInt8 := [42, 180, 1, 144, 4, 100, 60, 27, 155, 0, 29, 42, 180, 0, 39, 27, 46, 42, 180, 1, 147, 160, 0, 16]
abbrev dktX7_goesUp_0 : List UInt8 := dkwX7_goesUp_0 ++ dktX7_goesUp_1
theorem dksX7_goesUp_0 : cX7_goesUp.data.toList.drop 0 = dktX7_goesUp_0 := by decide +kernel
theorem dksX7_goesUp_1 : cX7_goesUp.data.toList.drop 24 = dktX7_goesUp_1 := dk_seg dksX7_goesUp_0 24 rfl rfl
theorem dksX7_goesUp_2 : cX7_goesUp.data.toList.drop 48 = dktX7_goesUp_2 := dk_seg dksX7_goesUp_1 24 rfl rfl
theorem dX7_goesUp_0 : decode cX7_goesUp 0 = .ok (.aload_n 0, 1) := dk_42 (dk_at dksX7_goesUp_0 0 rfl rfl)
theorem dX7_goesUp_1 : decode cX7_goesUp 1 = .ok (.getfield 400, 3) := dk_180 1 144 (dk_at dksX7_goesUp_0 1 rfl rfl)
theorem dX7_goesUp_4 : decode cX7_goesUp 4 = .ok (.iconst 1, 1) := dk_4 (dk_at dksX7_goesUp_0 4 rfl rfl)
theorem dX7_goesUp_5 : decode cX7_goesUp 5 = .ok (.isub, 1) := dk_100 (dk_at dksX7_goesUp_0 5 rfl rfl)
theorem dX7_goesUp_6 : decode cX7_goesUp 6 = .ok (.istore_n 1, 1) := dk_60 (dk_at dksX7_goesUp_0 6 rfl rfl)
theorem dX7_goesUp_7 : decode cX7_goesUp 7 = .ok (.iload_n 1, 1) := dk_27 (dk_at dksX7_goesUp_0 7 rfl rfl)
theorem dX7_goesUp_8 : decode cX7_goesUp 8 = .ok (.ifCond .lt 29, 3) := dk_155 0 29 (dk_at dksX7_goesUp_0 8 rfl rfl)
theorem dX7_goesUp_11 : decode cX7_goesUp 11 = .ok (.aload_n 0, 1) := dk_42 (dk_at dksX7_goesUp_0 11 rfl rfl)
theorem dX7_goesUp_12 : decode cX7_goesUp 12 = .ok (.getfield 39, 3) := dk_180 0 39 (dk_at dksX7_goesUp_0 12 rfl rfl)
theorem dX7_goesUp_15 : decode cX7_goesUp 15 = .ok (.iload_n 1, 1) := dk_27 (dk_at dksX7_goesUp_0 15 rfl rfl)
theorem dX7_goesUp_16 : decode cX7_goesUp 16 = .ok (.iaload, 1) := dk_46 (dk_at dksX7_goesUp_0 16 rfl rfl)
theorem dX7_goesUp_17 : decode cX7_goesUp 17 = .ok (.aload_n 0, 1) := dk_42 (dk_at dksX7_goesUp_0 17 rfl rfl)
theorem dX7_goesUp_18 : decode cX7_goesUp 18 = .ok (.getfield 403, 3) := dk_180 1 147 (dk_at dksX7_goesUp_0 18 rfl rfl)
theorem dX7_goesUp_21 : decode cX7_goesUp 21 = .ok (.if_icmp .ne 16, 3) := dk_160 0 16 (dk_at dksX7_goesUp_0 21 rfl rfl)
theorem dX7_goesUp_24 : decode cX7_goesUp 24 = .ok (.aload_n 0, 1) := dk_42 (dk_at dksX7_goesUp_1 0 rfl rfl)
theorem dX7_goesUp_25 : decode cX7_goesUp 25 = .ok (.getfield 39, 3) := dk_180 0 39 (dk_at dksX7_goesUp_1 1 rfl rfl)
theorem dX7_goesUp_28 : decode cX7_goesUp 28 = .ok (.iload_n 1, 1) := dk_27 (dk_at dksX7_goesUp_1 4 rfl rfl)
theorem dX7_goesUp_29 : decode cX7_goesUp 29 = .ok (.iconst 0, 1) := dk_3 (dk_at dksX7_goesUp_1 5 rfl rfl)
theorem dX7_goesUp_30 : decode cX7_goesUp 30 = .ok (.iastore, 1) := dk_79 (dk_at dksX7_goesUp_1 6 rfl rfl)
theorem dX7_goesUp_31 : decode cX7_goesUp 31 = .ok (.iinc 1 (-1), 3) := dk_132 1 255 (dk_at dksX7_goesUp_1 7 rfl rfl)
theorem dX7_goesUp_34 : decode cX7_goesUp 34 = .ok (.goto (-27), 3) := dk_167 255 229 (dk_at dksX7_goesUp_1 10 rfl rfl)
theorem dX7_goesUp_37 : decode cX7_goesUp 37 = .ok (.iload_n 1, 1) := dk_27 (dk_at dksX7_goesUp_1 13 rfl rfl)
theorem dX7_goesUp_38 : decode cX7_goesUp 38 = .ok (.ifCond .ge 5, 3) := dk_156 0 5 (dk_at dksX7_goesUp_1 14 rfl rfl)
theorem dX7_goesUp_41 : decode cX7_goesUp 41 = .ok (.iconst 0, 1) := dk_3 (dk_at dksX7_goesUp_1 17 rfl rfl)
theorem dX7_goesUp_42 : decode cX7_goesUp 42 = .ok (.ireturn, 1) := dk_172 (dk_at dksX7_goesUp_1 18 rfl rfl)
theorem dX7_goesUp_43 : decode cX7_goesUp 43 = .ok (.aload_n 0, 1) := dk_42 (dk_at dksX7_goesUp_1 19 rfl rfl)
theorem dX7_goesUp_44 : decode cX7_goesUp 44 = .ok (.getfield 39, 3) := dk_180 0 39 (dk_at dksX7_goesUp_1 20 rfl rfl)
theorem dX7_goesUp_47 : decode cX7_goesUp 47 = .ok (.iload_n 1, 1) := dk_27 (dk_at dksX7_goesUp_1 23 rfl rfl)
theorem dX7_goesUp_48 : decode cX7_goesUp 48 = .ok (.dup2, 1) := dk_92 (dk_at dksX7_goesUp_2 0 rfl rfl)
theorem dX7_goesUp_49 : decode cX7_goesUp 49 = .ok (.iaload, 1) := dk_46 (dk_at dksX7_goesUp_2 1 rfl rfl)
theorem dX7_goesUp_50 : decode cX7_goesUp 50 = .ok (.iconst 1, 1) := dk_4 (dk_at dksX7_goesUp_2 2 rfl rfl)
theorem dX7_goesUp_51 : decode cX7_goesUp 51 = .ok (.iadd, 1) := dk_96 (dk_at dksX7_goesUp_2 3 rfl rfl)
theorem dX7_goesUp_52 : decode cX7_goesUp 52 = .ok (.iastore, 1) := dk_79 (dk_at dksX7_goesUp_2 4 rfl rfl)
theorem dX7_goesUp_53 : decode cX7_goesUp 53 = .ok (.iconst 1, 1) := dk_4 (dk_at dksX7_goesUp_2 5 rfl rfl)
theorem dX7_goesUp_54 : decode cX7_goesUp 54 = .ok (.ireturn, 1) := dk_172 (dk_at dksX7_goesUp_2 6 rfl rfl)
abbrev cX7_keeps : ByteArray := prog_19_method_102_code
def yX7_keeps : MethodName := ⟨RX7, "keeps", "(I)V"⟩
def dkwX7_keeps_3 : List UInt8 := [132, 2, 1, 167, 255, 202, 177]
abbrev dktX7_keeps_3 : List UInt8 := dkwX7_keeps_3 ++ []
def dkwX7_keeps_2 : List UInt8 := [180, 0, 42, 28, 46, 42, 180, 1, 147, 160, 0, 7, 2, 167, 0, 9, 42, 180, 0, 42, 28, 46, 79]
abbrev dktX7_keeps_2 : List UInt8 := dkwX7_keeps_2 ++ dktX7_keeps_3
def dkwX7_keeps_1 : List UInt8 := [162, 0, 52, 42, 180, 0, 13, 16, 16, 16, 14, 42, 180, 0, 36, 28, 46, 104, 96, 16, 12, 96, 42]
abbrev dktX7_keeps_1 : List UInt8 := dkwX7_keeps_1 ++ dktX7_keeps_2
def dkwX7_keeps_0 : List UInt8 := [42, 180, 0, 13, 16, 8, 4, 79, 42, 180, 0, 13, 16, 9, 27, 79, 3, 61, 28, 42, 180, 1, 144]
abbrev dktX7_keeps_0 : List UInt8 := dkwX7_keeps_0 ++ dktX7_keeps_1
theorem dksX7_keeps_0 : cX7_keeps.data.toList.drop 0 = dktX7_keeps_0 := by decide +kernel
theorem dksX7_keeps_1 : cX7_keeps.data.toList.drop 23 = dktX7_keeps_1 := dk_seg dksX7_keeps_0 23 rfl rfl
theorem dksX7_keeps_2 : cX7_keeps.data.toList.drop 46 = dktX7_keeps_2 := dk_seg dksX7_keeps_1 23 rfl rfl
theorem dksX7_keeps_3 : cX7_keeps.data.toList.drop 69 = dktX7_keeps_3 := dk_seg dksX7_keeps_2 23 rfl rfl
theorem dX7_keeps_0 : decode cX7_keeps 0 = .ok (.aload_n 0, 1) := dk_42 (dk_at dksX7_keeps_0 0 rfl rfl)
theorem dX7_keeps_1 : decode cX7_keeps 1 = .ok (.getfield 13, 3) := dk_180 0 13 (dk_at dksX7_keeps_0 1 rfl rfl)
theorem dX7_keeps_4 : decode cX7_keeps 4 = .ok (.bipush 8, 2) := dk_16 8 (dk_at dksX7_keeps_0 4 rfl rfl)
theorem dX7_keeps_6 : decode cX7_keeps 6 = .ok (.iconst 1, 1) := dk_4 (dk_at dksX7_keeps_0 6 rfl rfl)
theorem dX7_keeps_7 : decode cX7_keeps 7 = .ok (.iastore, 1) := dk_79 (dk_at dksX7_keeps_0 7 rfl rfl)
theorem dX7_keeps_8 : decode cX7_keeps 8 = .ok (.aload_n 0, 1) := dk_42 (dk_at dksX7_keeps_0 8 rfl rfl)
theorem dX7_keeps_9 : decode cX7_keeps 9 = .ok (.getfield 13, 3) := dk_180 0 13 (dk_at dksX7_keeps_0 9 rfl rfl)
theorem dX7_keeps_12 : decode cX7_keeps 12 = .ok (.bipush 9, 2) := dk_16 9 (dk_at dksX7_keeps_0 12 rfl rfl)
theorem dX7_keeps_14 : decode cX7_keeps 14 = .ok (.iload_n 1, 1) := dk_27 (dk_at dksX7_keeps_0 14 rfl rfl)
theorem dX7_keeps_15 : decode cX7_keeps 15 = .ok (.iastore, 1) := dk_79 (dk_at dksX7_keeps_0 15 rfl rfl)
theorem dX7_keeps_16 : decode cX7_keeps 16 = .ok (.iconst 0, 1) := dk_3 (dk_at dksX7_keeps_0 16 rfl rfl)
theorem dX7_keeps_17 : decode cX7_keeps 17 = .ok (.istore_n 2, 1) := dk_61 (dk_at dksX7_keeps_0 17 rfl rfl)
theorem dX7_keeps_18 : decode cX7_keeps 18 = .ok (.iload_n 2, 1) := dk_28 (dk_at dksX7_keeps_0 18 rfl rfl)
theorem dX7_keeps_19 : decode cX7_keeps 19 = .ok (.aload_n 0, 1) := dk_42 (dk_at dksX7_keeps_0 19 rfl rfl)
theorem dX7_keeps_20 : decode cX7_keeps 20 = .ok (.getfield 400, 3) := dk_180 1 144 (dk_at dksX7_keeps_0 20 rfl rfl)
theorem dX7_keeps_23 : decode cX7_keeps 23 = .ok (.if_icmp .ge 52, 3) := dk_162 0 52 (dk_at dksX7_keeps_1 0 rfl rfl)
theorem dX7_keeps_26 : decode cX7_keeps 26 = .ok (.aload_n 0, 1) := dk_42 (dk_at dksX7_keeps_1 3 rfl rfl)
theorem dX7_keeps_27 : decode cX7_keeps 27 = .ok (.getfield 13, 3) := dk_180 0 13 (dk_at dksX7_keeps_1 4 rfl rfl)
theorem dX7_keeps_30 : decode cX7_keeps 30 = .ok (.bipush 16, 2) := dk_16 16 (dk_at dksX7_keeps_1 7 rfl rfl)
theorem dX7_keeps_32 : decode cX7_keeps 32 = .ok (.bipush 14, 2) := dk_16 14 (dk_at dksX7_keeps_1 9 rfl rfl)
theorem dX7_keeps_34 : decode cX7_keeps 34 = .ok (.aload_n 0, 1) := dk_42 (dk_at dksX7_keeps_1 11 rfl rfl)
theorem dX7_keeps_35 : decode cX7_keeps 35 = .ok (.getfield 36, 3) := dk_180 0 36 (dk_at dksX7_keeps_1 12 rfl rfl)
theorem dX7_keeps_38 : decode cX7_keeps 38 = .ok (.iload_n 2, 1) := dk_28 (dk_at dksX7_keeps_1 15 rfl rfl)
theorem dX7_keeps_39 : decode cX7_keeps 39 = .ok (.iaload, 1) := dk_46 (dk_at dksX7_keeps_1 16 rfl rfl)
theorem dX7_keeps_40 : decode cX7_keeps 40 = .ok (.imul, 1) := dk_104 (dk_at dksX7_keeps_1 17 rfl rfl)
theorem dX7_keeps_41 : decode cX7_keeps 41 = .ok (.iadd, 1) := dk_96 (dk_at dksX7_keeps_1 18 rfl rfl)
theorem dX7_keeps_42 : decode cX7_keeps 42 = .ok (.bipush 12, 2) := dk_16 12 (dk_at dksX7_keeps_1 19 rfl rfl)
theorem dX7_keeps_44 : decode cX7_keeps 44 = .ok (.iadd, 1) := dk_96 (dk_at dksX7_keeps_1 21 rfl rfl)
theorem dX7_keeps_45 : decode cX7_keeps 45 = .ok (.aload_n 0, 1) := dk_42 (dk_at dksX7_keeps_1 22 rfl rfl)
theorem dX7_keeps_46 : decode cX7_keeps 46 = .ok (.getfield 42, 3) := dk_180 0 42 (dk_at dksX7_keeps_2 0 rfl rfl)
theorem dX7_keeps_49 : decode cX7_keeps 49 = .ok (.iload_n 2, 1) := dk_28 (dk_at dksX7_keeps_2 3 rfl rfl)
theorem dX7_keeps_50 : decode cX7_keeps 50 = .ok (.iaload, 1) := dk_46 (dk_at dksX7_keeps_2 4 rfl rfl)
theorem dX7_keeps_51 : decode cX7_keeps 51 = .ok (.aload_n 0, 1) := dk_42 (dk_at dksX7_keeps_2 5 rfl rfl)
theorem dX7_keeps_52 : decode cX7_keeps 52 = .ok (.getfield 403, 3) := dk_180 1 147 (dk_at dksX7_keeps_2 6 rfl rfl)
theorem dX7_keeps_55 : decode cX7_keeps 55 = .ok (.if_icmp .ne 7, 3) := dk_160 0 7 (dk_at dksX7_keeps_2 9 rfl rfl)
theorem dX7_keeps_58 : decode cX7_keeps 58 = .ok (.iconst (-1), 1) := dk_2 (dk_at dksX7_keeps_2 12 rfl rfl)
theorem dX7_keeps_59 : decode cX7_keeps 59 = .ok (.goto 9, 3) := dk_167 0 9 (dk_at dksX7_keeps_2 13 rfl rfl)
theorem dX7_keeps_62 : decode cX7_keeps 62 = .ok (.aload_n 0, 1) := dk_42 (dk_at dksX7_keeps_2 16 rfl rfl)
theorem dX7_keeps_63 : decode cX7_keeps 63 = .ok (.getfield 42, 3) := dk_180 0 42 (dk_at dksX7_keeps_2 17 rfl rfl)
theorem dX7_keeps_66 : decode cX7_keeps 66 = .ok (.iload_n 2, 1) := dk_28 (dk_at dksX7_keeps_2 20 rfl rfl)
theorem dX7_keeps_67 : decode cX7_keeps 67 = .ok (.iaload, 1) := dk_46 (dk_at dksX7_keeps_2 21 rfl rfl)
theorem dX7_keeps_68 : decode cX7_keeps 68 = .ok (.iastore, 1) := dk_79 (dk_at dksX7_keeps_2 22 rfl rfl)
theorem dX7_keeps_69 : decode cX7_keeps 69 = .ok (.iinc 2 1, 3) := dk_132 2 1 (dk_at dksX7_keeps_3 0 rfl rfl)
theorem dX7_keeps_72 : decode cX7_keeps 72 = .ok (.goto (-54), 3) := dk_167 255 202 (dk_at dksX7_keeps_3 3 rfl rfl)
theorem dX7_keeps_75 : decode cX7_keeps 75 = .ok (.return_, 1) := dk_177 (dk_at dksX7_keeps_3 6 rfl rfl)
abbrev cX7_anew : ByteArray := prog_19_method_105_code
def yX7_anew : MethodName := ⟨RX7, "anew", "(IIJ)I"⟩
def dkwX7_anew_8 : List UInt8 := [16, 249, 182, 0, 80, 172, 42, 27, 182, 1, 171, 21, 6, 172]
abbrev dktX7_anew_8 : List UInt8 := dkwX7_anew_8 ++ []
def dkwX7_anew_7 : List UInt8 := [79, 132, 9, 1, 167, 255, 230, 42, 182, 1, 168, 54, 7, 167, 255, 176, 21, 6, 16, 8, 160, 0, 10, 42]
abbrev dktX7_anew_7 : List UInt8 := dkwX7_anew_7 ++ dktX7_anew_8
def dkwX7_anew_6 : List UInt8 := [54, 9, 21, 9, 42, 180, 1, 144, 162, 0, 23, 42, 180, 0, 42, 21, 9, 42, 180, 0, 39, 21, 9, 46]
abbrev dktX7_anew_6 : List UInt8 := dkwX7_anew_6 ++ dktX7_anew_7
def dkwX7_anew_5 : List UInt8 := [54, 8, 42, 180, 1, 153, 33, 148, 155, 0, 46, 21, 8, 21, 6, 162, 0, 39, 21, 8, 54, 6, 3]
abbrev dktX7_anew_5 : List UInt8 := dkwX7_anew_5 ++ dktX7_anew_6
def dkwX7_anew_4 : List UInt8 := [4, 54, 7, 21, 7, 153, 0, 81, 42, 182, 1, 162, 153, 0, 65, 42, 182, 1, 165, 42, 182, 1, 174]
abbrev dktX7_anew_4 : List UInt8 := dkwX7_anew_4 ++ dktX7_anew_5
def dkwX7_anew_3 : List UInt8 := [180, 1, 144, 162, 0, 17, 42, 180, 0, 39, 21, 6, 3, 79, 132, 6, 1, 167, 255, 236, 16, 8, 54, 6]
abbrev dktX7_anew_3 : List UInt8 := dkwX7_anew_3 ++ dktX7_anew_4
def dkwX7_anew_2 : List UInt8 := [156, 0, 10, 42, 16, 249, 182, 0, 80, 172, 42, 27, 28, 182, 1, 159, 3, 54, 6, 21, 6, 42]
abbrev dktX7_anew_2 : List UInt8 := dkwX7_anew_2 ++ dktX7_anew_3
def dkwX7_anew_1 : List UInt8 := [180, 0, 13, 16, 8, 46, 154, 0, 10, 42, 16, 254, 182, 0, 80, 172, 21, 5, 155, 0, 9, 33, 9, 148]
abbrev dktX7_anew_1 : List UInt8 := dkwX7_anew_1 ++ dktX7_anew_2
def dkwX7_anew_0 : List UInt8 := [42, 27, 28, 182, 1, 156, 54, 5, 21, 5, 16, 253, 160, 0, 10, 42, 16, 253, 182, 0, 80, 172, 42]
abbrev dktX7_anew_0 : List UInt8 := dkwX7_anew_0 ++ dktX7_anew_1
theorem dksX7_anew_0 : cX7_anew.data.toList.drop 0 = dktX7_anew_0 := by decide +kernel
theorem dksX7_anew_1 : cX7_anew.data.toList.drop 23 = dktX7_anew_1 := dk_seg dksX7_anew_0 23 rfl rfl
theorem dksX7_anew_2 : cX7_anew.data.toList.drop 47 = dktX7_anew_2 := dk_seg dksX7_anew_1 24 rfl rfl
theorem dksX7_anew_3 : cX7_anew.data.toList.drop 69 = dktX7_anew_3 := dk_seg dksX7_anew_2 22 rfl rfl
theorem dksX7_anew_4 : cX7_anew.data.toList.drop 93 = dktX7_anew_4 := dk_seg dksX7_anew_3 24 rfl rfl
theorem dksX7_anew_5 : cX7_anew.data.toList.drop 116 = dktX7_anew_5 := dk_seg dksX7_anew_4 23 rfl rfl
theorem dksX7_anew_6 : cX7_anew.data.toList.drop 139 = dktX7_anew_6 := dk_seg dksX7_anew_5 23 rfl rfl
theorem dksX7_anew_7 : cX7_anew.data.toList.drop 163 = dktX7_anew_7 := dk_seg dksX7_anew_6 24 rfl rfl
theorem dksX7_anew_8 : cX7_anew.data.toList.drop 187 = dktX7_anew_8 := dk_seg dksX7_anew_7 24 rfl rfl
theorem dX7_anew_0 : decode cX7_anew 0 = .ok (.aload_n 0, 1) := dk_42 (dk_at dksX7_anew_0 0 rfl rfl)
theorem dX7_anew_1 : decode cX7_anew 1 = .ok (.iload_n 1, 1) := dk_27 (dk_at dksX7_anew_0 1 rfl rfl)
theorem dX7_anew_2 : decode cX7_anew 2 = .ok (.iload_n 2, 1) := dk_28 (dk_at dksX7_anew_0 2 rfl rfl)
theorem dX7_anew_3 : decode cX7_anew 3 = .ok (.invokevirtual 412, 3) := dk_182 1 156 (dk_at dksX7_anew_0 3 rfl rfl)
theorem dX7_anew_6 : decode cX7_anew 6 = .ok (.istore 5, 2) := dk_54 5 (dk_at dksX7_anew_0 6 rfl rfl)
theorem dX7_anew_8 : decode cX7_anew 8 = .ok (.iload 5, 2) := dk_21 5 (dk_at dksX7_anew_0 8 rfl rfl)
theorem dX7_anew_10 : decode cX7_anew 10 = .ok (.bipush (-3), 2) := dk_16 253 (dk_at dksX7_anew_0 10 rfl rfl)
theorem dX7_anew_12 : decode cX7_anew 12 = .ok (.if_icmp .ne 10, 3) := dk_160 0 10 (dk_at dksX7_anew_0 12 rfl rfl)
theorem dX7_anew_15 : decode cX7_anew 15 = .ok (.aload_n 0, 1) := dk_42 (dk_at dksX7_anew_0 15 rfl rfl)
theorem dX7_anew_16 : decode cX7_anew 16 = .ok (.bipush (-3), 2) := dk_16 253 (dk_at dksX7_anew_0 16 rfl rfl)
theorem dX7_anew_18 : decode cX7_anew 18 = .ok (.invokevirtual 80, 3) := dk_182 0 80 (dk_at dksX7_anew_0 18 rfl rfl)
theorem dX7_anew_21 : decode cX7_anew 21 = .ok (.ireturn, 1) := dk_172 (dk_at dksX7_anew_0 21 rfl rfl)
theorem dX7_anew_22 : decode cX7_anew 22 = .ok (.aload_n 0, 1) := dk_42 (dk_at dksX7_anew_0 22 rfl rfl)
theorem dX7_anew_23 : decode cX7_anew 23 = .ok (.getfield 13, 3) := dk_180 0 13 (dk_at dksX7_anew_1 0 rfl rfl)
theorem dX7_anew_26 : decode cX7_anew 26 = .ok (.bipush 8, 2) := dk_16 8 (dk_at dksX7_anew_1 3 rfl rfl)
theorem dX7_anew_28 : decode cX7_anew 28 = .ok (.iaload, 1) := dk_46 (dk_at dksX7_anew_1 5 rfl rfl)
theorem dX7_anew_29 : decode cX7_anew 29 = .ok (.ifCond .ne 10, 3) := dk_154 0 10 (dk_at dksX7_anew_1 6 rfl rfl)
theorem dX7_anew_32 : decode cX7_anew 32 = .ok (.aload_n 0, 1) := dk_42 (dk_at dksX7_anew_1 9 rfl rfl)
theorem dX7_anew_33 : decode cX7_anew 33 = .ok (.bipush (-2), 2) := dk_16 254 (dk_at dksX7_anew_1 10 rfl rfl)
theorem dX7_anew_35 : decode cX7_anew 35 = .ok (.invokevirtual 80, 3) := dk_182 0 80 (dk_at dksX7_anew_1 12 rfl rfl)
theorem dX7_anew_38 : decode cX7_anew 38 = .ok (.ireturn, 1) := dk_172 (dk_at dksX7_anew_1 15 rfl rfl)
theorem dX7_anew_39 : decode cX7_anew 39 = .ok (.iload 5, 2) := dk_21 5 (dk_at dksX7_anew_1 16 rfl rfl)
theorem dX7_anew_41 : decode cX7_anew 41 = .ok (.ifCond .lt 9, 3) := dk_155 0 9 (dk_at dksX7_anew_1 18 rfl rfl)
theorem dX7_anew_44 : decode cX7_anew 44 = .ok (.lload_n 3, 1) := dk_33 (dk_at dksX7_anew_1 21 rfl rfl)
theorem dX7_anew_45 : decode cX7_anew 45 = .ok (.lconst 0, 1) := dk_9 (dk_at dksX7_anew_1 22 rfl rfl)
theorem dX7_anew_46 : decode cX7_anew 46 = .ok (.lcmp, 1) := dk_148 (dk_at dksX7_anew_1 23 rfl rfl)
theorem dX7_anew_47 : decode cX7_anew 47 = .ok (.ifCond .ge 10, 3) := dk_156 0 10 (dk_at dksX7_anew_2 0 rfl rfl)
theorem dX7_anew_50 : decode cX7_anew 50 = .ok (.aload_n 0, 1) := dk_42 (dk_at dksX7_anew_2 3 rfl rfl)
theorem dX7_anew_51 : decode cX7_anew 51 = .ok (.bipush (-7), 2) := dk_16 249 (dk_at dksX7_anew_2 4 rfl rfl)
theorem dX7_anew_53 : decode cX7_anew 53 = .ok (.invokevirtual 80, 3) := dk_182 0 80 (dk_at dksX7_anew_2 6 rfl rfl)
theorem dX7_anew_56 : decode cX7_anew 56 = .ok (.ireturn, 1) := dk_172 (dk_at dksX7_anew_2 9 rfl rfl)
theorem dX7_anew_57 : decode cX7_anew 57 = .ok (.aload_n 0, 1) := dk_42 (dk_at dksX7_anew_2 10 rfl rfl)
theorem dX7_anew_58 : decode cX7_anew 58 = .ok (.iload_n 1, 1) := dk_27 (dk_at dksX7_anew_2 11 rfl rfl)
theorem dX7_anew_59 : decode cX7_anew 59 = .ok (.iload_n 2, 1) := dk_28 (dk_at dksX7_anew_2 12 rfl rfl)
theorem dX7_anew_60 : decode cX7_anew 60 = .ok (.invokevirtual 415, 3) := dk_182 1 159 (dk_at dksX7_anew_2 13 rfl rfl)
theorem dX7_anew_63 : decode cX7_anew 63 = .ok (.iconst 0, 1) := dk_3 (dk_at dksX7_anew_2 16 rfl rfl)
theorem dX7_anew_64 : decode cX7_anew 64 = .ok (.istore 6, 2) := dk_54 6 (dk_at dksX7_anew_2 17 rfl rfl)
theorem dX7_anew_66 : decode cX7_anew 66 = .ok (.iload 6, 2) := dk_21 6 (dk_at dksX7_anew_2 19 rfl rfl)
theorem dX7_anew_68 : decode cX7_anew 68 = .ok (.aload_n 0, 1) := dk_42 (dk_at dksX7_anew_2 21 rfl rfl)
theorem dX7_anew_69 : decode cX7_anew 69 = .ok (.getfield 400, 3) := dk_180 1 144 (dk_at dksX7_anew_3 0 rfl rfl)
theorem dX7_anew_72 : decode cX7_anew 72 = .ok (.if_icmp .ge 17, 3) := dk_162 0 17 (dk_at dksX7_anew_3 3 rfl rfl)
theorem dX7_anew_75 : decode cX7_anew 75 = .ok (.aload_n 0, 1) := dk_42 (dk_at dksX7_anew_3 6 rfl rfl)
theorem dX7_anew_76 : decode cX7_anew 76 = .ok (.getfield 39, 3) := dk_180 0 39 (dk_at dksX7_anew_3 7 rfl rfl)
theorem dX7_anew_79 : decode cX7_anew 79 = .ok (.iload 6, 2) := dk_21 6 (dk_at dksX7_anew_3 10 rfl rfl)
theorem dX7_anew_81 : decode cX7_anew 81 = .ok (.iconst 0, 1) := dk_3 (dk_at dksX7_anew_3 12 rfl rfl)
theorem dX7_anew_82 : decode cX7_anew 82 = .ok (.iastore, 1) := dk_79 (dk_at dksX7_anew_3 13 rfl rfl)
theorem dX7_anew_83 : decode cX7_anew 83 = .ok (.iinc 6 1, 3) := dk_132 6 1 (dk_at dksX7_anew_3 14 rfl rfl)
theorem dX7_anew_86 : decode cX7_anew 86 = .ok (.goto (-20), 3) := dk_167 255 236 (dk_at dksX7_anew_3 17 rfl rfl)
theorem dX7_anew_89 : decode cX7_anew 89 = .ok (.bipush 8, 2) := dk_16 8 (dk_at dksX7_anew_3 20 rfl rfl)
theorem dX7_anew_91 : decode cX7_anew 91 = .ok (.istore 6, 2) := dk_54 6 (dk_at dksX7_anew_3 22 rfl rfl)
theorem dX7_anew_93 : decode cX7_anew 93 = .ok (.iconst 1, 1) := dk_4 (dk_at dksX7_anew_4 0 rfl rfl)
theorem dX7_anew_94 : decode cX7_anew 94 = .ok (.istore 7, 2) := dk_54 7 (dk_at dksX7_anew_4 1 rfl rfl)
theorem dX7_anew_96 : decode cX7_anew 96 = .ok (.iload 7, 2) := dk_21 7 (dk_at dksX7_anew_4 3 rfl rfl)
theorem dX7_anew_98 : decode cX7_anew 98 = .ok (.ifCond .eq 81, 3) := dk_153 0 81 (dk_at dksX7_anew_4 5 rfl rfl)
theorem dX7_anew_101 : decode cX7_anew 101 = .ok (.aload_n 0, 1) := dk_42 (dk_at dksX7_anew_4 8 rfl rfl)
theorem dX7_anew_102 : decode cX7_anew 102 = .ok (.invokevirtual 418, 3) := dk_182 1 162 (dk_at dksX7_anew_4 9 rfl rfl)
theorem dX7_anew_105 : decode cX7_anew 105 = .ok (.ifCond .eq 65, 3) := dk_153 0 65 (dk_at dksX7_anew_4 12 rfl rfl)
theorem dX7_anew_108 : decode cX7_anew 108 = .ok (.aload_n 0, 1) := dk_42 (dk_at dksX7_anew_4 15 rfl rfl)
theorem dX7_anew_109 : decode cX7_anew 109 = .ok (.invokevirtual 421, 3) := dk_182 1 165 (dk_at dksX7_anew_4 16 rfl rfl)
theorem dX7_anew_112 : decode cX7_anew 112 = .ok (.aload_n 0, 1) := dk_42 (dk_at dksX7_anew_4 19 rfl rfl)
theorem dX7_anew_113 : decode cX7_anew 113 = .ok (.invokevirtual 430, 3) := dk_182 1 174 (dk_at dksX7_anew_4 20 rfl rfl)
theorem dX7_anew_116 : decode cX7_anew 116 = .ok (.istore 8, 2) := dk_54 8 (dk_at dksX7_anew_5 0 rfl rfl)
theorem dX7_anew_118 : decode cX7_anew 118 = .ok (.aload_n 0, 1) := dk_42 (dk_at dksX7_anew_5 2 rfl rfl)
theorem dX7_anew_119 : decode cX7_anew 119 = .ok (.getfield 409, 3) := dk_180 1 153 (dk_at dksX7_anew_5 3 rfl rfl)
theorem dX7_anew_122 : decode cX7_anew 122 = .ok (.lload_n 3, 1) := dk_33 (dk_at dksX7_anew_5 6 rfl rfl)
theorem dX7_anew_123 : decode cX7_anew 123 = .ok (.lcmp, 1) := dk_148 (dk_at dksX7_anew_5 7 rfl rfl)
theorem dX7_anew_124 : decode cX7_anew 124 = .ok (.ifCond .lt 46, 3) := dk_155 0 46 (dk_at dksX7_anew_5 8 rfl rfl)
theorem dX7_anew_127 : decode cX7_anew 127 = .ok (.iload 8, 2) := dk_21 8 (dk_at dksX7_anew_5 11 rfl rfl)
theorem dX7_anew_129 : decode cX7_anew 129 = .ok (.iload 6, 2) := dk_21 6 (dk_at dksX7_anew_5 13 rfl rfl)
theorem dX7_anew_131 : decode cX7_anew 131 = .ok (.if_icmp .ge 39, 3) := dk_162 0 39 (dk_at dksX7_anew_5 15 rfl rfl)
theorem dX7_anew_134 : decode cX7_anew 134 = .ok (.iload 8, 2) := dk_21 8 (dk_at dksX7_anew_5 18 rfl rfl)
theorem dX7_anew_136 : decode cX7_anew 136 = .ok (.istore 6, 2) := dk_54 6 (dk_at dksX7_anew_5 20 rfl rfl)
theorem dX7_anew_138 : decode cX7_anew 138 = .ok (.iconst 0, 1) := dk_3 (dk_at dksX7_anew_5 22 rfl rfl)
theorem dX7_anew_139 : decode cX7_anew 139 = .ok (.istore 9, 2) := dk_54 9 (dk_at dksX7_anew_6 0 rfl rfl)
theorem dX7_anew_141 : decode cX7_anew 141 = .ok (.iload 9, 2) := dk_21 9 (dk_at dksX7_anew_6 2 rfl rfl)
theorem dX7_anew_143 : decode cX7_anew 143 = .ok (.aload_n 0, 1) := dk_42 (dk_at dksX7_anew_6 4 rfl rfl)
theorem dX7_anew_144 : decode cX7_anew 144 = .ok (.getfield 400, 3) := dk_180 1 144 (dk_at dksX7_anew_6 5 rfl rfl)
theorem dX7_anew_147 : decode cX7_anew 147 = .ok (.if_icmp .ge 23, 3) := dk_162 0 23 (dk_at dksX7_anew_6 8 rfl rfl)
theorem dX7_anew_150 : decode cX7_anew 150 = .ok (.aload_n 0, 1) := dk_42 (dk_at dksX7_anew_6 11 rfl rfl)
theorem dX7_anew_151 : decode cX7_anew 151 = .ok (.getfield 42, 3) := dk_180 0 42 (dk_at dksX7_anew_6 12 rfl rfl)
theorem dX7_anew_154 : decode cX7_anew 154 = .ok (.iload 9, 2) := dk_21 9 (dk_at dksX7_anew_6 15 rfl rfl)
theorem dX7_anew_156 : decode cX7_anew 156 = .ok (.aload_n 0, 1) := dk_42 (dk_at dksX7_anew_6 17 rfl rfl)
theorem dX7_anew_157 : decode cX7_anew 157 = .ok (.getfield 39, 3) := dk_180 0 39 (dk_at dksX7_anew_6 18 rfl rfl)
theorem dX7_anew_160 : decode cX7_anew 160 = .ok (.iload 9, 2) := dk_21 9 (dk_at dksX7_anew_6 21 rfl rfl)
theorem dX7_anew_162 : decode cX7_anew 162 = .ok (.iaload, 1) := dk_46 (dk_at dksX7_anew_6 23 rfl rfl)
theorem dX7_anew_163 : decode cX7_anew 163 = .ok (.iastore, 1) := dk_79 (dk_at dksX7_anew_7 0 rfl rfl)
theorem dX7_anew_164 : decode cX7_anew 164 = .ok (.iinc 9 1, 3) := dk_132 9 1 (dk_at dksX7_anew_7 1 rfl rfl)
theorem dX7_anew_167 : decode cX7_anew 167 = .ok (.goto (-26), 3) := dk_167 255 230 (dk_at dksX7_anew_7 4 rfl rfl)
theorem dX7_anew_170 : decode cX7_anew 170 = .ok (.aload_n 0, 1) := dk_42 (dk_at dksX7_anew_7 7 rfl rfl)
theorem dX7_anew_171 : decode cX7_anew 171 = .ok (.invokevirtual 424, 3) := dk_182 1 168 (dk_at dksX7_anew_7 8 rfl rfl)
theorem dX7_anew_174 : decode cX7_anew 174 = .ok (.istore 7, 2) := dk_54 7 (dk_at dksX7_anew_7 11 rfl rfl)
theorem dX7_anew_176 : decode cX7_anew 176 = .ok (.goto (-80), 3) := dk_167 255 176 (dk_at dksX7_anew_7 13 rfl rfl)
theorem dX7_anew_179 : decode cX7_anew 179 = .ok (.iload 6, 2) := dk_21 6 (dk_at dksX7_anew_7 16 rfl rfl)
theorem dX7_anew_181 : decode cX7_anew 181 = .ok (.bipush 8, 2) := dk_16 8 (dk_at dksX7_anew_7 18 rfl rfl)
theorem dX7_anew_183 : decode cX7_anew 183 = .ok (.if_icmp .ne 10, 3) := dk_160 0 10 (dk_at dksX7_anew_7 20 rfl rfl)
theorem dX7_anew_186 : decode cX7_anew 186 = .ok (.aload_n 0, 1) := dk_42 (dk_at dksX7_anew_7 23 rfl rfl)
theorem dX7_anew_187 : decode cX7_anew 187 = .ok (.bipush (-7), 2) := dk_16 249 (dk_at dksX7_anew_8 0 rfl rfl)
theorem dX7_anew_189 : decode cX7_anew 189 = .ok (.invokevirtual 80, 3) := dk_182 0 80 (dk_at dksX7_anew_8 2 rfl rfl)
theorem dX7_anew_192 : decode cX7_anew 192 = .ok (.ireturn, 1) := dk_172 (dk_at dksX7_anew_8 5 rfl rfl)
theorem dX7_anew_193 : decode cX7_anew 193 = .ok (.aload_n 0, 1) := dk_42 (dk_at dksX7_anew_8 6 rfl rfl)
theorem dX7_anew_194 : decode cX7_anew 194 = .ok (.iload_n 1, 1) := dk_27 (dk_at dksX7_anew_8 7 rfl rfl)
theorem dX7_anew_195 : decode cX7_anew 195 = .ok (.invokevirtual 427, 3) := dk_182 1 171 (dk_at dksX7_anew_8 8 rfl rfl)
theorem dX7_anew_198 : decode cX7_anew 198 = .ok (.iload 6, 2) := dk_21 6 (dk_at dksX7_anew_8 11 rfl rfl)
theorem dX7_anew_200 : decode cX7_anew 200 = .ok (.ireturn, 1) := dk_172 (dk_at dksX7_anew_8 13 rfl rfl)
abbrev cX7_differing : ByteArray := prog_19_method_104_code
def yX7_differing : MethodName := ⟨RX7, "differing", "()I"⟩
def dkwX7_differing_3 : List UInt8 := [42, 180, 0, 39, 28, 46, 160, 0, 7, 3, 167, 0, 4, 4, 96, 60, 132, 2, 1, 167, 255, 169, 27, 172]
abbrev dktX7_differing_3 : List UInt8 := dkwX7_differing_3 ++ []
def dkwX7_differing_2 : List UInt8 := [28, 46, 16, 12, 182, 0, 84, 42, 180, 0, 39, 28, 46, 42, 180, 1, 147, 160, 0, 7, 2, 167, 0, 9]
abbrev dktX7_differing_2 : List UInt8 := dkwX7_differing_2 ++ dktX7_differing_3
def dkwX7_differing_1 : List UInt8 := [46, 122, 4, 126, 4, 160, 0, 7, 4, 167, 0, 4, 3, 62, 27, 29, 153, 0, 45, 42, 42, 180, 0, 36]
abbrev dktX7_differing_1 : List UInt8 := dkwX7_differing_1 ++ dktX7_differing_2
def dkwX7_differing_0 : List UInt8 := [3, 60, 3, 61, 28, 42, 180, 1, 144, 162, 0, 85, 42, 180, 0, 13, 16, 9, 46, 42, 180, 0, 36, 28]
abbrev dktX7_differing_0 : List UInt8 := dkwX7_differing_0 ++ dktX7_differing_1
theorem dksX7_differing_0 : cX7_differing.data.toList.drop 0 = dktX7_differing_0 := by decide +kernel
theorem dksX7_differing_1 : cX7_differing.data.toList.drop 24 = dktX7_differing_1 := dk_seg dksX7_differing_0 24 rfl rfl
theorem dksX7_differing_2 : cX7_differing.data.toList.drop 48 = dktX7_differing_2 := dk_seg dksX7_differing_1 24 rfl rfl
theorem dksX7_differing_3 : cX7_differing.data.toList.drop 72 = dktX7_differing_3 := dk_seg dksX7_differing_2 24 rfl rfl
theorem dX7_differing_0 : decode cX7_differing 0 = .ok (.iconst 0, 1) := dk_3 (dk_at dksX7_differing_0 0 rfl rfl)
theorem dX7_differing_1 : decode cX7_differing 1 = .ok (.istore_n 1, 1) := dk_60 (dk_at dksX7_differing_0 1 rfl rfl)
theorem dX7_differing_2 : decode cX7_differing 2 = .ok (.iconst 0, 1) := dk_3 (dk_at dksX7_differing_0 2 rfl rfl)
theorem dX7_differing_3 : decode cX7_differing 3 = .ok (.istore_n 2, 1) := dk_61 (dk_at dksX7_differing_0 3 rfl rfl)
theorem dX7_differing_4 : decode cX7_differing 4 = .ok (.iload_n 2, 1) := dk_28 (dk_at dksX7_differing_0 4 rfl rfl)
theorem dX7_differing_5 : decode cX7_differing 5 = .ok (.aload_n 0, 1) := dk_42 (dk_at dksX7_differing_0 5 rfl rfl)
theorem dX7_differing_6 : decode cX7_differing 6 = .ok (.getfield 400, 3) := dk_180 1 144 (dk_at dksX7_differing_0 6 rfl rfl)
theorem dX7_differing_9 : decode cX7_differing 9 = .ok (.if_icmp .ge 85, 3) := dk_162 0 85 (dk_at dksX7_differing_0 9 rfl rfl)
theorem dX7_differing_12 : decode cX7_differing 12 = .ok (.aload_n 0, 1) := dk_42 (dk_at dksX7_differing_0 12 rfl rfl)
theorem dX7_differing_13 : decode cX7_differing 13 = .ok (.getfield 13, 3) := dk_180 0 13 (dk_at dksX7_differing_0 13 rfl rfl)
theorem dX7_differing_16 : decode cX7_differing 16 = .ok (.bipush 9, 2) := dk_16 9 (dk_at dksX7_differing_0 16 rfl rfl)
theorem dX7_differing_18 : decode cX7_differing 18 = .ok (.iaload, 1) := dk_46 (dk_at dksX7_differing_0 18 rfl rfl)
theorem dX7_differing_19 : decode cX7_differing 19 = .ok (.aload_n 0, 1) := dk_42 (dk_at dksX7_differing_0 19 rfl rfl)
theorem dX7_differing_20 : decode cX7_differing 20 = .ok (.getfield 36, 3) := dk_180 0 36 (dk_at dksX7_differing_0 20 rfl rfl)
theorem dX7_differing_23 : decode cX7_differing 23 = .ok (.iload_n 2, 1) := dk_28 (dk_at dksX7_differing_0 23 rfl rfl)
theorem dX7_differing_24 : decode cX7_differing 24 = .ok (.iaload, 1) := dk_46 (dk_at dksX7_differing_1 0 rfl rfl)
theorem dX7_differing_25 : decode cX7_differing 25 = .ok (.ishr, 1) := dk_122 (dk_at dksX7_differing_1 1 rfl rfl)
theorem dX7_differing_26 : decode cX7_differing 26 = .ok (.iconst 1, 1) := dk_4 (dk_at dksX7_differing_1 2 rfl rfl)
theorem dX7_differing_27 : decode cX7_differing 27 = .ok (.iand, 1) := dk_126 (dk_at dksX7_differing_1 3 rfl rfl)
theorem dX7_differing_28 : decode cX7_differing 28 = .ok (.iconst 1, 1) := dk_4 (dk_at dksX7_differing_1 4 rfl rfl)
theorem dX7_differing_29 : decode cX7_differing 29 = .ok (.if_icmp .ne 7, 3) := dk_160 0 7 (dk_at dksX7_differing_1 5 rfl rfl)
theorem dX7_differing_32 : decode cX7_differing 32 = .ok (.iconst 1, 1) := dk_4 (dk_at dksX7_differing_1 8 rfl rfl)
theorem dX7_differing_33 : decode cX7_differing 33 = .ok (.goto 4, 3) := dk_167 0 4 (dk_at dksX7_differing_1 9 rfl rfl)
theorem dX7_differing_36 : decode cX7_differing 36 = .ok (.iconst 0, 1) := dk_3 (dk_at dksX7_differing_1 12 rfl rfl)
theorem dX7_differing_37 : decode cX7_differing 37 = .ok (.istore_n 3, 1) := dk_62 (dk_at dksX7_differing_1 13 rfl rfl)
theorem dX7_differing_38 : decode cX7_differing 38 = .ok (.iload_n 1, 1) := dk_27 (dk_at dksX7_differing_1 14 rfl rfl)
theorem dX7_differing_39 : decode cX7_differing 39 = .ok (.iload_n 3, 1) := dk_29 (dk_at dksX7_differing_1 15 rfl rfl)
theorem dX7_differing_40 : decode cX7_differing 40 = .ok (.ifCond .eq 45, 3) := dk_153 0 45 (dk_at dksX7_differing_1 16 rfl rfl)
theorem dX7_differing_43 : decode cX7_differing 43 = .ok (.aload_n 0, 1) := dk_42 (dk_at dksX7_differing_1 19 rfl rfl)
theorem dX7_differing_44 : decode cX7_differing 44 = .ok (.aload_n 0, 1) := dk_42 (dk_at dksX7_differing_1 20 rfl rfl)
theorem dX7_differing_45 : decode cX7_differing 45 = .ok (.getfield 36, 3) := dk_180 0 36 (dk_at dksX7_differing_1 21 rfl rfl)
theorem dX7_differing_48 : decode cX7_differing 48 = .ok (.iload_n 2, 1) := dk_28 (dk_at dksX7_differing_2 0 rfl rfl)
theorem dX7_differing_49 : decode cX7_differing 49 = .ok (.iaload, 1) := dk_46 (dk_at dksX7_differing_2 1 rfl rfl)
theorem dX7_differing_50 : decode cX7_differing 50 = .ok (.bipush 12, 2) := dk_16 12 (dk_at dksX7_differing_2 2 rfl rfl)
theorem dX7_differing_52 : decode cX7_differing 52 = .ok (.invokevirtual 84, 3) := dk_182 0 84 (dk_at dksX7_differing_2 4 rfl rfl)
theorem dX7_differing_55 : decode cX7_differing 55 = .ok (.aload_n 0, 1) := dk_42 (dk_at dksX7_differing_2 7 rfl rfl)
theorem dX7_differing_56 : decode cX7_differing 56 = .ok (.getfield 39, 3) := dk_180 0 39 (dk_at dksX7_differing_2 8 rfl rfl)
theorem dX7_differing_59 : decode cX7_differing 59 = .ok (.iload_n 2, 1) := dk_28 (dk_at dksX7_differing_2 11 rfl rfl)
theorem dX7_differing_60 : decode cX7_differing 60 = .ok (.iaload, 1) := dk_46 (dk_at dksX7_differing_2 12 rfl rfl)
theorem dX7_differing_61 : decode cX7_differing 61 = .ok (.aload_n 0, 1) := dk_42 (dk_at dksX7_differing_2 13 rfl rfl)
theorem dX7_differing_62 : decode cX7_differing 62 = .ok (.getfield 403, 3) := dk_180 1 147 (dk_at dksX7_differing_2 14 rfl rfl)
theorem dX7_differing_65 : decode cX7_differing 65 = .ok (.if_icmp .ne 7, 3) := dk_160 0 7 (dk_at dksX7_differing_2 17 rfl rfl)
theorem dX7_differing_68 : decode cX7_differing 68 = .ok (.iconst (-1), 1) := dk_2 (dk_at dksX7_differing_2 20 rfl rfl)
theorem dX7_differing_69 : decode cX7_differing 69 = .ok (.goto 9, 3) := dk_167 0 9 (dk_at dksX7_differing_2 21 rfl rfl)
theorem dX7_differing_72 : decode cX7_differing 72 = .ok (.aload_n 0, 1) := dk_42 (dk_at dksX7_differing_3 0 rfl rfl)
theorem dX7_differing_73 : decode cX7_differing 73 = .ok (.getfield 39, 3) := dk_180 0 39 (dk_at dksX7_differing_3 1 rfl rfl)
theorem dX7_differing_76 : decode cX7_differing 76 = .ok (.iload_n 2, 1) := dk_28 (dk_at dksX7_differing_3 4 rfl rfl)
theorem dX7_differing_77 : decode cX7_differing 77 = .ok (.iaload, 1) := dk_46 (dk_at dksX7_differing_3 5 rfl rfl)
theorem dX7_differing_78 : decode cX7_differing 78 = .ok (.if_icmp .ne 7, 3) := dk_160 0 7 (dk_at dksX7_differing_3 6 rfl rfl)
theorem dX7_differing_81 : decode cX7_differing 81 = .ok (.iconst 0, 1) := dk_3 (dk_at dksX7_differing_3 9 rfl rfl)
theorem dX7_differing_82 : decode cX7_differing 82 = .ok (.goto 4, 3) := dk_167 0 4 (dk_at dksX7_differing_3 10 rfl rfl)
theorem dX7_differing_85 : decode cX7_differing 85 = .ok (.iconst 1, 1) := dk_4 (dk_at dksX7_differing_3 13 rfl rfl)
theorem dX7_differing_86 : decode cX7_differing 86 = .ok (.iadd, 1) := dk_96 (dk_at dksX7_differing_3 14 rfl rfl)
theorem dX7_differing_87 : decode cX7_differing 87 = .ok (.istore_n 1, 1) := dk_60 (dk_at dksX7_differing_3 15 rfl rfl)
theorem dX7_differing_88 : decode cX7_differing 88 = .ok (.iinc 2 1, 3) := dk_132 2 1 (dk_at dksX7_differing_3 16 rfl rfl)
theorem dX7_differing_91 : decode cX7_differing 91 = .ok (.goto (-87), 3) := dk_167 255 169 (dk_at dksX7_differing_3 19 rfl rfl)
theorem dX7_differing_94 : decode cX7_differing 94 = .ok (.iload_n 1, 1) := dk_27 (dk_at dksX7_differing_3 22 rfl rfl)
theorem dX7_differing_95 : decode cX7_differing 95 = .ok (.ireturn, 1) := dk_172 (dk_at dksX7_differing_3 23 rfl rfl)
abbrev cX7_planned : ByteArray := prog_19_method_106_code
def yX7_planned : MethodName := ⟨RX7, "planned", "(I)I"⟩
def dkwX7_planned_2 : List UInt8 := [167, 0, 10, 42, 27, 16, 12, 182, 0, 84, 172]
abbrev dktX7_planned_2 : List UInt8 := dkwX7_planned_2 ++ []
def dkwX7_planned_1 : List UInt8 := [153, 0, 17, 42, 180, 0, 13, 16, 9, 46, 27, 122, 4, 126, 154, 0, 12, 42, 16, 253, 182, 0, 80]
abbrev dktX7_planned_1 : List UInt8 := dkwX7_planned_1 ++ dktX7_planned_2
def dkwX7_planned_0 : List UInt8 := [42, 180, 0, 13, 16, 8, 46, 154, 0, 10, 42, 16, 254, 182, 0, 80, 172, 42, 27, 182, 0, 118]
abbrev dktX7_planned_0 : List UInt8 := dkwX7_planned_0 ++ dktX7_planned_1
theorem dksX7_planned_0 : cX7_planned.data.toList.drop 0 = dktX7_planned_0 := by decide +kernel
theorem dksX7_planned_1 : cX7_planned.data.toList.drop 22 = dktX7_planned_1 := dk_seg dksX7_planned_0 22 rfl rfl
theorem dksX7_planned_2 : cX7_planned.data.toList.drop 45 = dktX7_planned_2 := dk_seg dksX7_planned_1 23 rfl rfl
theorem dX7_planned_0 : decode cX7_planned 0 = .ok (.aload_n 0, 1) := dk_42 (dk_at dksX7_planned_0 0 rfl rfl)
theorem dX7_planned_1 : decode cX7_planned 1 = .ok (.getfield 13, 3) := dk_180 0 13 (dk_at dksX7_planned_0 1 rfl rfl)
theorem dX7_planned_4 : decode cX7_planned 4 = .ok (.bipush 8, 2) := dk_16 8 (dk_at dksX7_planned_0 4 rfl rfl)
theorem dX7_planned_6 : decode cX7_planned 6 = .ok (.iaload, 1) := dk_46 (dk_at dksX7_planned_0 6 rfl rfl)
theorem dX7_planned_7 : decode cX7_planned 7 = .ok (.ifCond .ne 10, 3) := dk_154 0 10 (dk_at dksX7_planned_0 7 rfl rfl)
theorem dX7_planned_10 : decode cX7_planned 10 = .ok (.aload_n 0, 1) := dk_42 (dk_at dksX7_planned_0 10 rfl rfl)
theorem dX7_planned_11 : decode cX7_planned 11 = .ok (.bipush (-2), 2) := dk_16 254 (dk_at dksX7_planned_0 11 rfl rfl)
theorem dX7_planned_13 : decode cX7_planned 13 = .ok (.invokevirtual 80, 3) := dk_182 0 80 (dk_at dksX7_planned_0 13 rfl rfl)
theorem dX7_planned_16 : decode cX7_planned 16 = .ok (.ireturn, 1) := dk_172 (dk_at dksX7_planned_0 16 rfl rfl)
theorem dX7_planned_17 : decode cX7_planned 17 = .ok (.aload_n 0, 1) := dk_42 (dk_at dksX7_planned_0 17 rfl rfl)
theorem dX7_planned_18 : decode cX7_planned 18 = .ok (.iload_n 1, 1) := dk_27 (dk_at dksX7_planned_0 18 rfl rfl)
theorem dX7_planned_19 : decode cX7_planned 19 = .ok (.invokevirtual 118, 3) := dk_182 0 118 (dk_at dksX7_planned_0 19 rfl rfl)
theorem dX7_planned_22 : decode cX7_planned 22 = .ok (.ifCond .eq 17, 3) := dk_153 0 17 (dk_at dksX7_planned_1 0 rfl rfl)
theorem dX7_planned_25 : decode cX7_planned 25 = .ok (.aload_n 0, 1) := dk_42 (dk_at dksX7_planned_1 3 rfl rfl)
theorem dX7_planned_26 : decode cX7_planned 26 = .ok (.getfield 13, 3) := dk_180 0 13 (dk_at dksX7_planned_1 4 rfl rfl)
theorem dX7_planned_29 : decode cX7_planned 29 = .ok (.bipush 9, 2) := dk_16 9 (dk_at dksX7_planned_1 7 rfl rfl)
theorem dX7_planned_31 : decode cX7_planned 31 = .ok (.iaload, 1) := dk_46 (dk_at dksX7_planned_1 9 rfl rfl)
theorem dX7_planned_32 : decode cX7_planned 32 = .ok (.iload_n 1, 1) := dk_27 (dk_at dksX7_planned_1 10 rfl rfl)
theorem dX7_planned_33 : decode cX7_planned 33 = .ok (.ishr, 1) := dk_122 (dk_at dksX7_planned_1 11 rfl rfl)
theorem dX7_planned_34 : decode cX7_planned 34 = .ok (.iconst 1, 1) := dk_4 (dk_at dksX7_planned_1 12 rfl rfl)
theorem dX7_planned_35 : decode cX7_planned 35 = .ok (.iand, 1) := dk_126 (dk_at dksX7_planned_1 13 rfl rfl)
theorem dX7_planned_36 : decode cX7_planned 36 = .ok (.ifCond .ne 12, 3) := dk_154 0 12 (dk_at dksX7_planned_1 14 rfl rfl)
theorem dX7_planned_39 : decode cX7_planned 39 = .ok (.aload_n 0, 1) := dk_42 (dk_at dksX7_planned_1 17 rfl rfl)
theorem dX7_planned_40 : decode cX7_planned 40 = .ok (.bipush (-3), 2) := dk_16 253 (dk_at dksX7_planned_1 18 rfl rfl)
theorem dX7_planned_42 : decode cX7_planned 42 = .ok (.invokevirtual 80, 3) := dk_182 0 80 (dk_at dksX7_planned_1 20 rfl rfl)
theorem dX7_planned_45 : decode cX7_planned 45 = .ok (.goto 10, 3) := dk_167 0 10 (dk_at dksX7_planned_2 0 rfl rfl)
theorem dX7_planned_48 : decode cX7_planned 48 = .ok (.aload_n 0, 1) := dk_42 (dk_at dksX7_planned_2 3 rfl rfl)
theorem dX7_planned_49 : decode cX7_planned 49 = .ok (.iload_n 1, 1) := dk_27 (dk_at dksX7_planned_2 4 rfl rfl)
theorem dX7_planned_50 : decode cX7_planned 50 = .ok (.bipush 12, 2) := dk_16 12 (dk_at dksX7_planned_2 5 rfl rfl)
theorem dX7_planned_52 : decode cX7_planned 52 = .ok (.invokevirtual 84, 3) := dk_182 0 84 (dk_at dksX7_planned_2 7 rfl rfl)
theorem dX7_planned_55 : decode cX7_planned 55 = .ok (.ireturn, 1) := dk_172 (dk_at dksX7_planned_2 10 rfl rfl)
abbrev cX7_judge : ByteArray := prog_19_method_109_code
def yX7_judge : MethodName := ⟨RX7, "judge", "(II)I"⟩
def dkwX7_judge_1 : List UInt8 := [42, 182, 1, 162, 153, 0, 7, 4, 167, 0, 4, 3, 172]
abbrev dktX7_judge_1 : List UInt8 := dkwX7_judge_1 ++ []
def dkwX7_judge_0 : List UInt8 := [42, 27, 28, 182, 1, 177, 62, 29, 156, 0, 9, 42, 29, 182, 0, 80, 172, 42, 182, 1, 180, 153, 0, 14]
abbrev dktX7_judge_0 : List UInt8 := dkwX7_judge_0 ++ dktX7_judge_1
theorem dksX7_judge_0 : cX7_judge.data.toList.drop 0 = dktX7_judge_0 := by decide +kernel
theorem dksX7_judge_1 : cX7_judge.data.toList.drop 24 = dktX7_judge_1 := dk_seg dksX7_judge_0 24 rfl rfl
theorem dX7_judge_0 : decode cX7_judge 0 = .ok (.aload_n 0, 1) := dk_42 (dk_at dksX7_judge_0 0 rfl rfl)
theorem dX7_judge_1 : decode cX7_judge 1 = .ok (.iload_n 1, 1) := dk_27 (dk_at dksX7_judge_0 1 rfl rfl)
theorem dX7_judge_2 : decode cX7_judge 2 = .ok (.iload_n 2, 1) := dk_28 (dk_at dksX7_judge_0 2 rfl rfl)
theorem dX7_judge_3 : decode cX7_judge 3 = .ok (.invokevirtual 433, 3) := dk_182 1 177 (dk_at dksX7_judge_0 3 rfl rfl)
theorem dX7_judge_6 : decode cX7_judge 6 = .ok (.istore_n 3, 1) := dk_62 (dk_at dksX7_judge_0 6 rfl rfl)
theorem dX7_judge_7 : decode cX7_judge 7 = .ok (.iload_n 3, 1) := dk_29 (dk_at dksX7_judge_0 7 rfl rfl)
theorem dX7_judge_8 : decode cX7_judge 8 = .ok (.ifCond .ge 9, 3) := dk_156 0 9 (dk_at dksX7_judge_0 8 rfl rfl)
theorem dX7_judge_11 : decode cX7_judge 11 = .ok (.aload_n 0, 1) := dk_42 (dk_at dksX7_judge_0 11 rfl rfl)
theorem dX7_judge_12 : decode cX7_judge 12 = .ok (.iload_n 3, 1) := dk_29 (dk_at dksX7_judge_0 12 rfl rfl)
theorem dX7_judge_13 : decode cX7_judge 13 = .ok (.invokevirtual 80, 3) := dk_182 0 80 (dk_at dksX7_judge_0 13 rfl rfl)
theorem dX7_judge_16 : decode cX7_judge 16 = .ok (.ireturn, 1) := dk_172 (dk_at dksX7_judge_0 16 rfl rfl)
theorem dX7_judge_17 : decode cX7_judge 17 = .ok (.aload_n 0, 1) := dk_42 (dk_at dksX7_judge_0 17 rfl rfl)
theorem dX7_judge_18 : decode cX7_judge 18 = .ok (.invokevirtual 436, 3) := dk_182 1 180 (dk_at dksX7_judge_0 18 rfl rfl)
theorem dX7_judge_21 : decode cX7_judge 21 = .ok (.ifCond .eq 14, 3) := dk_153 0 14 (dk_at dksX7_judge_0 21 rfl rfl)
theorem dX7_judge_24 : decode cX7_judge 24 = .ok (.aload_n 0, 1) := dk_42 (dk_at dksX7_judge_1 0 rfl rfl)
theorem dX7_judge_25 : decode cX7_judge 25 = .ok (.invokevirtual 418, 3) := dk_182 1 162 (dk_at dksX7_judge_1 1 rfl rfl)
theorem dX7_judge_28 : decode cX7_judge 28 = .ok (.ifCond .eq 7, 3) := dk_153 0 7 (dk_at dksX7_judge_1 4 rfl rfl)
theorem dX7_judge_31 : decode cX7_judge 31 = .ok (.iconst 1, 1) := dk_4 (dk_at dksX7_judge_1 7 rfl rfl)
theorem dX7_judge_32 : decode cX7_judge 32 = .ok (.goto 4, 3) := dk_167 0 4 (dk_at dksX7_judge_1 8 rfl rfl)
theorem dX7_judge_35 : decode cX7_judge 35 = .ok (.iconst 0, 1) := dk_3 (dk_at dksX7_judge_1 11 rfl rfl)
theorem dX7_judge_36 : decode cX7_judge 36 = .ok (.ireturn, 1) := dk_172 (dk_at dksX7_judge_1 12 rfl rfl)
abbrev cX7_noRow : ByteArray := prog_19_method_107_code
def yX7_noRow : MethodName := ⟨RX7, "noRow", "(II)I"⟩
def dkwX7_noRow_1 : List UInt8 := [27, 28, 182, 1, 159, 42, 180, 1, 103, 42, 180, 1, 144, 159, 0, 8, 16, 251, 167, 0, 4, 3, 172]
abbrev dktX7_noRow_1 : List UInt8 := dkwX7_noRow_1 ++ []
def dkwX7_noRow_0 : List UInt8 := [42, 27, 28, 182, 1, 156, 62, 29, 156, 0, 5, 29, 172, 42, 180, 1, 100, 154, 0, 6, 16, 254, 172, 42]
abbrev dktX7_noRow_0 : List UInt8 := dkwX7_noRow_0 ++ dktX7_noRow_1
theorem dksX7_noRow_0 : cX7_noRow.data.toList.drop 0 = dktX7_noRow_0 := by decide +kernel
theorem dksX7_noRow_1 : cX7_noRow.data.toList.drop 24 = dktX7_noRow_1 := dk_seg dksX7_noRow_0 24 rfl rfl
theorem dX7_noRow_0 : decode cX7_noRow 0 = .ok (.aload_n 0, 1) := dk_42 (dk_at dksX7_noRow_0 0 rfl rfl)
theorem dX7_noRow_1 : decode cX7_noRow 1 = .ok (.iload_n 1, 1) := dk_27 (dk_at dksX7_noRow_0 1 rfl rfl)
theorem dX7_noRow_2 : decode cX7_noRow 2 = .ok (.iload_n 2, 1) := dk_28 (dk_at dksX7_noRow_0 2 rfl rfl)
theorem dX7_noRow_3 : decode cX7_noRow 3 = .ok (.invokevirtual 412, 3) := dk_182 1 156 (dk_at dksX7_noRow_0 3 rfl rfl)
theorem dX7_noRow_6 : decode cX7_noRow 6 = .ok (.istore_n 3, 1) := dk_62 (dk_at dksX7_noRow_0 6 rfl rfl)
theorem dX7_noRow_7 : decode cX7_noRow 7 = .ok (.iload_n 3, 1) := dk_29 (dk_at dksX7_noRow_0 7 rfl rfl)
theorem dX7_noRow_8 : decode cX7_noRow 8 = .ok (.ifCond .ge 5, 3) := dk_156 0 5 (dk_at dksX7_noRow_0 8 rfl rfl)
theorem dX7_noRow_11 : decode cX7_noRow 11 = .ok (.iload_n 3, 1) := dk_29 (dk_at dksX7_noRow_0 11 rfl rfl)
theorem dX7_noRow_12 : decode cX7_noRow 12 = .ok (.ireturn, 1) := dk_172 (dk_at dksX7_noRow_0 12 rfl rfl)
theorem dX7_noRow_13 : decode cX7_noRow 13 = .ok (.aload_n 0, 1) := dk_42 (dk_at dksX7_noRow_0 13 rfl rfl)
theorem dX7_noRow_14 : decode cX7_noRow 14 = .ok (.getfield 356, 3) := dk_180 1 100 (dk_at dksX7_noRow_0 14 rfl rfl)
theorem dX7_noRow_17 : decode cX7_noRow 17 = .ok (.ifCond .ne 6, 3) := dk_154 0 6 (dk_at dksX7_noRow_0 17 rfl rfl)
theorem dX7_noRow_20 : decode cX7_noRow 20 = .ok (.bipush (-2), 2) := dk_16 254 (dk_at dksX7_noRow_0 20 rfl rfl)
theorem dX7_noRow_22 : decode cX7_noRow 22 = .ok (.ireturn, 1) := dk_172 (dk_at dksX7_noRow_0 22 rfl rfl)
theorem dX7_noRow_23 : decode cX7_noRow 23 = .ok (.aload_n 0, 1) := dk_42 (dk_at dksX7_noRow_0 23 rfl rfl)
theorem dX7_noRow_24 : decode cX7_noRow 24 = .ok (.iload_n 1, 1) := dk_27 (dk_at dksX7_noRow_1 0 rfl rfl)
theorem dX7_noRow_25 : decode cX7_noRow 25 = .ok (.iload_n 2, 1) := dk_28 (dk_at dksX7_noRow_1 1 rfl rfl)
theorem dX7_noRow_26 : decode cX7_noRow 26 = .ok (.invokevirtual 415, 3) := dk_182 1 159 (dk_at dksX7_noRow_1 2 rfl rfl)
theorem dX7_noRow_29 : decode cX7_noRow 29 = .ok (.aload_n 0, 1) := dk_42 (dk_at dksX7_noRow_1 5 rfl rfl)
theorem dX7_noRow_30 : decode cX7_noRow 30 = .ok (.getfield 359, 3) := dk_180 1 103 (dk_at dksX7_noRow_1 6 rfl rfl)
theorem dX7_noRow_33 : decode cX7_noRow 33 = .ok (.aload_n 0, 1) := dk_42 (dk_at dksX7_noRow_1 9 rfl rfl)
theorem dX7_noRow_34 : decode cX7_noRow 34 = .ok (.getfield 400, 3) := dk_180 1 144 (dk_at dksX7_noRow_1 10 rfl rfl)
theorem dX7_noRow_37 : decode cX7_noRow 37 = .ok (.if_icmp .eq 8, 3) := dk_159 0 8 (dk_at dksX7_noRow_1 13 rfl rfl)
theorem dX7_noRow_40 : decode cX7_noRow 40 = .ok (.bipush (-5), 2) := dk_16 251 (dk_at dksX7_noRow_1 16 rfl rfl)
theorem dX7_noRow_42 : decode cX7_noRow 42 = .ok (.goto 4, 3) := dk_167 0 4 (dk_at dksX7_noRow_1 18 rfl rfl)
theorem dX7_noRow_45 : decode cX7_noRow 45 = .ok (.iconst 0, 1) := dk_3 (dk_at dksX7_noRow_1 21 rfl rfl)
theorem dX7_noRow_46 : decode cX7_noRow 46 = .ok (.ireturn, 1) := dk_172 (dk_at dksX7_noRow_1 22 rfl rfl)
abbrev cX7_takesRow : ByteArray := prog_19_method_108_code
def yX7_takesRow : MethodName := ⟨RX7, "takesRow", "()Z"⟩
def dkwX7_takesRow_2 : List UInt8 := [28, 46, 79, 132, 2, 1, 167, 255, 206, 27, 172]
abbrev dktX7_takesRow_2 : List UInt8 := dkwX7_takesRow_2 ++ []
def dkwX7_takesRow_1 : List UInt8 := [180, 1, 147, 184, 0, 76, 153, 0, 7, 4, 167, 0, 4, 3, 60, 42, 180, 0, 39, 28, 42, 180, 0, 70]
abbrev dktX7_takesRow_1 : List UInt8 := dkwX7_takesRow_1 ++ dktX7_takesRow_2
def dkwX7_takesRow_0 : List UInt8 := [4, 60, 3, 61, 28, 42, 180, 1, 144, 162, 0, 48, 27, 153, 0, 24, 42, 180, 0, 70, 28, 46, 3, 42]
abbrev dktX7_takesRow_0 : List UInt8 := dkwX7_takesRow_0 ++ dktX7_takesRow_1
theorem dksX7_takesRow_0 : cX7_takesRow.data.toList.drop 0 = dktX7_takesRow_0 := by decide +kernel
theorem dksX7_takesRow_1 : cX7_takesRow.data.toList.drop 24 = dktX7_takesRow_1 := dk_seg dksX7_takesRow_0 24 rfl rfl
theorem dksX7_takesRow_2 : cX7_takesRow.data.toList.drop 48 = dktX7_takesRow_2 := dk_seg dksX7_takesRow_1 24 rfl rfl
theorem dX7_takesRow_0 : decode cX7_takesRow 0 = .ok (.iconst 1, 1) := dk_4 (dk_at dksX7_takesRow_0 0 rfl rfl)
theorem dX7_takesRow_1 : decode cX7_takesRow 1 = .ok (.istore_n 1, 1) := dk_60 (dk_at dksX7_takesRow_0 1 rfl rfl)
theorem dX7_takesRow_2 : decode cX7_takesRow 2 = .ok (.iconst 0, 1) := dk_3 (dk_at dksX7_takesRow_0 2 rfl rfl)
theorem dX7_takesRow_3 : decode cX7_takesRow 3 = .ok (.istore_n 2, 1) := dk_61 (dk_at dksX7_takesRow_0 3 rfl rfl)
theorem dX7_takesRow_4 : decode cX7_takesRow 4 = .ok (.iload_n 2, 1) := dk_28 (dk_at dksX7_takesRow_0 4 rfl rfl)
theorem dX7_takesRow_5 : decode cX7_takesRow 5 = .ok (.aload_n 0, 1) := dk_42 (dk_at dksX7_takesRow_0 5 rfl rfl)
theorem dX7_takesRow_6 : decode cX7_takesRow 6 = .ok (.getfield 400, 3) := dk_180 1 144 (dk_at dksX7_takesRow_0 6 rfl rfl)
theorem dX7_takesRow_9 : decode cX7_takesRow 9 = .ok (.if_icmp .ge 48, 3) := dk_162 0 48 (dk_at dksX7_takesRow_0 9 rfl rfl)
theorem dX7_takesRow_12 : decode cX7_takesRow 12 = .ok (.iload_n 1, 1) := dk_27 (dk_at dksX7_takesRow_0 12 rfl rfl)
theorem dX7_takesRow_13 : decode cX7_takesRow 13 = .ok (.ifCond .eq 24, 3) := dk_153 0 24 (dk_at dksX7_takesRow_0 13 rfl rfl)
theorem dX7_takesRow_16 : decode cX7_takesRow 16 = .ok (.aload_n 0, 1) := dk_42 (dk_at dksX7_takesRow_0 16 rfl rfl)
theorem dX7_takesRow_17 : decode cX7_takesRow 17 = .ok (.getfield 70, 3) := dk_180 0 70 (dk_at dksX7_takesRow_0 17 rfl rfl)
theorem dX7_takesRow_20 : decode cX7_takesRow 20 = .ok (.iload_n 2, 1) := dk_28 (dk_at dksX7_takesRow_0 20 rfl rfl)
theorem dX7_takesRow_21 : decode cX7_takesRow 21 = .ok (.iaload, 1) := dk_46 (dk_at dksX7_takesRow_0 21 rfl rfl)
theorem dX7_takesRow_22 : decode cX7_takesRow 22 = .ok (.iconst 0, 1) := dk_3 (dk_at dksX7_takesRow_0 22 rfl rfl)
theorem dX7_takesRow_23 : decode cX7_takesRow 23 = .ok (.aload_n 0, 1) := dk_42 (dk_at dksX7_takesRow_0 23 rfl rfl)
theorem dX7_takesRow_24 : decode cX7_takesRow 24 = .ok (.getfield 403, 3) := dk_180 1 147 (dk_at dksX7_takesRow_1 0 rfl rfl)
theorem dX7_takesRow_27 : decode cX7_takesRow 27 = .ok (.invokestatic 76, 3) := dk_184 0 76 (dk_at dksX7_takesRow_1 3 rfl rfl)
theorem dX7_takesRow_30 : decode cX7_takesRow 30 = .ok (.ifCond .eq 7, 3) := dk_153 0 7 (dk_at dksX7_takesRow_1 6 rfl rfl)
theorem dX7_takesRow_33 : decode cX7_takesRow 33 = .ok (.iconst 1, 1) := dk_4 (dk_at dksX7_takesRow_1 9 rfl rfl)
theorem dX7_takesRow_34 : decode cX7_takesRow 34 = .ok (.goto 4, 3) := dk_167 0 4 (dk_at dksX7_takesRow_1 10 rfl rfl)
theorem dX7_takesRow_37 : decode cX7_takesRow 37 = .ok (.iconst 0, 1) := dk_3 (dk_at dksX7_takesRow_1 13 rfl rfl)
theorem dX7_takesRow_38 : decode cX7_takesRow 38 = .ok (.istore_n 1, 1) := dk_60 (dk_at dksX7_takesRow_1 14 rfl rfl)
theorem dX7_takesRow_39 : decode cX7_takesRow 39 = .ok (.aload_n 0, 1) := dk_42 (dk_at dksX7_takesRow_1 15 rfl rfl)
theorem dX7_takesRow_40 : decode cX7_takesRow 40 = .ok (.getfield 39, 3) := dk_180 0 39 (dk_at dksX7_takesRow_1 16 rfl rfl)
theorem dX7_takesRow_43 : decode cX7_takesRow 43 = .ok (.iload_n 2, 1) := dk_28 (dk_at dksX7_takesRow_1 19 rfl rfl)
theorem dX7_takesRow_44 : decode cX7_takesRow 44 = .ok (.aload_n 0, 1) := dk_42 (dk_at dksX7_takesRow_1 20 rfl rfl)
theorem dX7_takesRow_45 : decode cX7_takesRow 45 = .ok (.getfield 70, 3) := dk_180 0 70 (dk_at dksX7_takesRow_1 21 rfl rfl)
theorem dX7_takesRow_48 : decode cX7_takesRow 48 = .ok (.iload_n 2, 1) := dk_28 (dk_at dksX7_takesRow_2 0 rfl rfl)
theorem dX7_takesRow_49 : decode cX7_takesRow 49 = .ok (.iaload, 1) := dk_46 (dk_at dksX7_takesRow_2 1 rfl rfl)
theorem dX7_takesRow_50 : decode cX7_takesRow 50 = .ok (.iastore, 1) := dk_79 (dk_at dksX7_takesRow_2 2 rfl rfl)
theorem dX7_takesRow_51 : decode cX7_takesRow 51 = .ok (.iinc 2 1, 3) := dk_132 2 1 (dk_at dksX7_takesRow_2 3 rfl rfl)
theorem dX7_takesRow_54 : decode cX7_takesRow 54 = .ok (.goto (-50), 3) := dk_167 255 206 (dk_at dksX7_takesRow_2 6 rfl rfl)
theorem dX7_takesRow_57 : decode cX7_takesRow 57 = .ok (.iload_n 1, 1) := dk_27 (dk_at dksX7_takesRow_2 9 rfl rfl)
theorem dX7_takesRow_58 : decode cX7_takesRow 58 = .ok (.ireturn, 1) := dk_172 (dk_at dksX7_takesRow_2 10 rfl rfl)
abbrev cX7_worth : ByteArray := prog_19_method_110_code
def yX7_worth : MethodName := ⟨RX7, "worth", "(IIZ)J"⟩
def dkwX7_worth_2 : List UInt8 := [180, 1, 150, 167, 0, 7, 42, 180, 1, 153, 173]
abbrev dktX7_worth_2 : List UInt8 := dkwX7_worth_2 ++ []
def dkwX7_worth_1 : List UInt8 := [182, 1, 180, 154, 0, 11, 42, 16, 249, 182, 0, 165, 133, 173, 42, 182, 1, 165, 29, 153, 0, 10, 42]
abbrev dktX7_worth_1 : List UInt8 := dkwX7_worth_1 ++ dktX7_worth_2
def dkwX7_worth_0 : List UInt8 := [42, 27, 28, 182, 1, 177, 54, 4, 21, 4, 156, 0, 11, 42, 21, 4, 182, 0, 165, 133, 173, 42]
abbrev dktX7_worth_0 : List UInt8 := dkwX7_worth_0 ++ dktX7_worth_1
theorem dksX7_worth_0 : cX7_worth.data.toList.drop 0 = dktX7_worth_0 := by decide +kernel
theorem dksX7_worth_1 : cX7_worth.data.toList.drop 22 = dktX7_worth_1 := dk_seg dksX7_worth_0 22 rfl rfl
theorem dksX7_worth_2 : cX7_worth.data.toList.drop 45 = dktX7_worth_2 := dk_seg dksX7_worth_1 23 rfl rfl
theorem dX7_worth_0 : decode cX7_worth 0 = .ok (.aload_n 0, 1) := dk_42 (dk_at dksX7_worth_0 0 rfl rfl)
theorem dX7_worth_1 : decode cX7_worth 1 = .ok (.iload_n 1, 1) := dk_27 (dk_at dksX7_worth_0 1 rfl rfl)
theorem dX7_worth_2 : decode cX7_worth 2 = .ok (.iload_n 2, 1) := dk_28 (dk_at dksX7_worth_0 2 rfl rfl)
theorem dX7_worth_3 : decode cX7_worth 3 = .ok (.invokevirtual 433, 3) := dk_182 1 177 (dk_at dksX7_worth_0 3 rfl rfl)
theorem dX7_worth_6 : decode cX7_worth 6 = .ok (.istore 4, 2) := dk_54 4 (dk_at dksX7_worth_0 6 rfl rfl)
theorem dX7_worth_8 : decode cX7_worth 8 = .ok (.iload 4, 2) := dk_21 4 (dk_at dksX7_worth_0 8 rfl rfl)
theorem dX7_worth_10 : decode cX7_worth 10 = .ok (.ifCond .ge 11, 3) := dk_156 0 11 (dk_at dksX7_worth_0 10 rfl rfl)
theorem dX7_worth_13 : decode cX7_worth 13 = .ok (.aload_n 0, 1) := dk_42 (dk_at dksX7_worth_0 13 rfl rfl)
theorem dX7_worth_14 : decode cX7_worth 14 = .ok (.iload 4, 2) := dk_21 4 (dk_at dksX7_worth_0 14 rfl rfl)
theorem dX7_worth_16 : decode cX7_worth 16 = .ok (.invokevirtual 165, 3) := dk_182 0 165 (dk_at dksX7_worth_0 16 rfl rfl)
theorem dX7_worth_19 : decode cX7_worth 19 = .ok (.i2l, 1) := dk_133 (dk_at dksX7_worth_0 19 rfl rfl)
theorem dX7_worth_20 : decode cX7_worth 20 = .ok (.lreturn, 1) := dk_173 (dk_at dksX7_worth_0 20 rfl rfl)
theorem dX7_worth_21 : decode cX7_worth 21 = .ok (.aload_n 0, 1) := dk_42 (dk_at dksX7_worth_0 21 rfl rfl)
theorem dX7_worth_22 : decode cX7_worth 22 = .ok (.invokevirtual 436, 3) := dk_182 1 180 (dk_at dksX7_worth_1 0 rfl rfl)
theorem dX7_worth_25 : decode cX7_worth 25 = .ok (.ifCond .ne 11, 3) := dk_154 0 11 (dk_at dksX7_worth_1 3 rfl rfl)
theorem dX7_worth_28 : decode cX7_worth 28 = .ok (.aload_n 0, 1) := dk_42 (dk_at dksX7_worth_1 6 rfl rfl)
theorem dX7_worth_29 : decode cX7_worth 29 = .ok (.bipush (-7), 2) := dk_16 249 (dk_at dksX7_worth_1 7 rfl rfl)
theorem dX7_worth_31 : decode cX7_worth 31 = .ok (.invokevirtual 165, 3) := dk_182 0 165 (dk_at dksX7_worth_1 9 rfl rfl)
theorem dX7_worth_34 : decode cX7_worth 34 = .ok (.i2l, 1) := dk_133 (dk_at dksX7_worth_1 12 rfl rfl)
theorem dX7_worth_35 : decode cX7_worth 35 = .ok (.lreturn, 1) := dk_173 (dk_at dksX7_worth_1 13 rfl rfl)
theorem dX7_worth_36 : decode cX7_worth 36 = .ok (.aload_n 0, 1) := dk_42 (dk_at dksX7_worth_1 14 rfl rfl)
theorem dX7_worth_37 : decode cX7_worth 37 = .ok (.invokevirtual 421, 3) := dk_182 1 165 (dk_at dksX7_worth_1 15 rfl rfl)
theorem dX7_worth_40 : decode cX7_worth 40 = .ok (.iload_n 3, 1) := dk_29 (dk_at dksX7_worth_1 18 rfl rfl)
theorem dX7_worth_41 : decode cX7_worth 41 = .ok (.ifCond .eq 10, 3) := dk_153 0 10 (dk_at dksX7_worth_1 19 rfl rfl)
theorem dX7_worth_44 : decode cX7_worth 44 = .ok (.aload_n 0, 1) := dk_42 (dk_at dksX7_worth_1 22 rfl rfl)
theorem dX7_worth_45 : decode cX7_worth 45 = .ok (.getfield 406, 3) := dk_180 1 150 (dk_at dksX7_worth_2 0 rfl rfl)
theorem dX7_worth_48 : decode cX7_worth 48 = .ok (.goto 7, 3) := dk_167 0 7 (dk_at dksX7_worth_2 3 rfl rfl)
theorem dX7_worth_51 : decode cX7_worth 51 = .ok (.aload_n 0, 1) := dk_42 (dk_at dksX7_worth_2 6 rfl rfl)
theorem dX7_worth_52 : decode cX7_worth 52 = .ok (.getfield 409, 3) := dk_180 1 153 (dk_at dksX7_worth_2 7 rfl rfl)
theorem dX7_worth_55 : decode cX7_worth 55 = .ok (.lreturn, 1) := dk_173 (dk_at dksX7_worth_2 10 rfl rfl)
abbrev cX7_attempt : ByteArray := prog_19_method_113_code
def yX7_attempt : MethodName := ⟨RX7, "attempt", "(II)J"⟩
def dkwX7_attempt_8 : List UInt8 := [180, 0, 67, 21, 5, 47, 80, 132, 5, 1, 167, 255, 232, 33, 173]
abbrev dktX7_attempt_8 : List UInt8 := dkwX7_attempt_8 ++ []
def dkwX7_attempt_7 : List UInt8 := [132, 5, 1, 167, 255, 231, 3, 54, 5, 21, 5, 16, 8, 162, 0, 23, 42, 180, 0, 17, 21, 5, 42]
abbrev dktX7_attempt_7 : List UInt8 := dkwX7_attempt_7 ++ dktX7_attempt_8
def dkwX7_attempt_6 : List UInt8 := [21, 5, 17, 17, 184, 162, 0, 23, 42, 180, 0, 13, 21, 5, 42, 180, 0, 64, 21, 5, 46, 79]
abbrev dktX7_attempt_6 : List UInt8 := dkwX7_attempt_6 ++ dktX7_attempt_7
def dkwX7_attempt_5 : List UInt8 := [27, 162, 0, 13, 42, 182, 1, 131, 132, 3, 1, 167, 255, 244, 42, 28, 182, 1, 187, 66, 3, 54, 5]
abbrev dktX7_attempt_5 : List UInt8 := dkwX7_attempt_5 ++ dktX7_attempt_6
def dkwX7_attempt_4 : List UInt8 := [162, 0, 21, 42, 180, 0, 67, 29, 42, 180, 0, 17, 29, 47, 80, 132, 3, 1, 167, 255, 235, 3, 62, 29]
abbrev dktX7_attempt_4 : List UInt8 := dkwX7_attempt_4 ++ dktX7_attempt_5
def dkwX7_attempt_3 : List UInt8 := [180, 0, 64, 29, 42, 180, 0, 13, 29, 46, 79, 132, 3, 1, 167, 255, 234, 3, 62, 29, 16, 8]
abbrev dktX7_attempt_3 : List UInt8 := dkwX7_attempt_3 ++ dktX7_attempt_4
def dkwX7_attempt_2 : List UInt8 := [17, 1, 144, 164, 0, 11, 42, 16, 248, 182, 0, 165, 133, 173, 3, 62, 29, 17, 17, 184, 162, 0, 21, 42]
abbrev dktX7_attempt_2 : List UInt8 := dkwX7_attempt_2 ++ dktX7_attempt_3
def dkwX7_attempt_1 : List UInt8 := [184, 0, 76, 154, 0, 11, 42, 16, 249, 182, 0, 165, 133, 173, 42, 180, 0, 13, 3, 46, 27, 96]
abbrev dktX7_attempt_1 : List UInt8 := dkwX7_attempt_1 ++ dktX7_attempt_2
def dkwX7_attempt_0 : List UInt8 := [28, 3, 16, 6, 184, 0, 76, 154, 0, 11, 42, 16, 253, 182, 0, 165, 133, 173, 27, 4, 16, 30]
abbrev dktX7_attempt_0 : List UInt8 := dkwX7_attempt_0 ++ dktX7_attempt_1
theorem dksX7_attempt_0 : cX7_attempt.data.toList.drop 0 = dktX7_attempt_0 := by decide +kernel
theorem dksX7_attempt_1 : cX7_attempt.data.toList.drop 22 = dktX7_attempt_1 := dk_seg dksX7_attempt_0 22 rfl rfl
theorem dksX7_attempt_2 : cX7_attempt.data.toList.drop 44 = dktX7_attempt_2 := dk_seg dksX7_attempt_1 22 rfl rfl
theorem dksX7_attempt_3 : cX7_attempt.data.toList.drop 68 = dktX7_attempt_3 := dk_seg dksX7_attempt_2 24 rfl rfl
theorem dksX7_attempt_4 : cX7_attempt.data.toList.drop 90 = dktX7_attempt_4 := dk_seg dksX7_attempt_3 22 rfl rfl
theorem dksX7_attempt_5 : cX7_attempt.data.toList.drop 114 = dktX7_attempt_5 := dk_seg dksX7_attempt_4 24 rfl rfl
theorem dksX7_attempt_6 : cX7_attempt.data.toList.drop 137 = dktX7_attempt_6 := dk_seg dksX7_attempt_5 23 rfl rfl
theorem dksX7_attempt_7 : cX7_attempt.data.toList.drop 159 = dktX7_attempt_7 := dk_seg dksX7_attempt_6 22 rfl rfl
theorem dksX7_attempt_8 : cX7_attempt.data.toList.drop 182 = dktX7_attempt_8 := dk_seg dksX7_attempt_7 23 rfl rfl
theorem dX7_attempt_0 : decode cX7_attempt 0 = .ok (.iload_n 2, 1) := dk_28 (dk_at dksX7_attempt_0 0 rfl rfl)
theorem dX7_attempt_1 : decode cX7_attempt 1 = .ok (.iconst 0, 1) := dk_3 (dk_at dksX7_attempt_0 1 rfl rfl)
theorem dX7_attempt_2 : decode cX7_attempt 2 = .ok (.bipush 6, 2) := dk_16 6 (dk_at dksX7_attempt_0 2 rfl rfl)
theorem dX7_attempt_4 : decode cX7_attempt 4 = .ok (.invokestatic 76, 3) := dk_184 0 76 (dk_at dksX7_attempt_0 4 rfl rfl)
theorem dX7_attempt_7 : decode cX7_attempt 7 = .ok (.ifCond .ne 11, 3) := dk_154 0 11 (dk_at dksX7_attempt_0 7 rfl rfl)
theorem dX7_attempt_10 : decode cX7_attempt 10 = .ok (.aload_n 0, 1) := dk_42 (dk_at dksX7_attempt_0 10 rfl rfl)
theorem dX7_attempt_11 : decode cX7_attempt 11 = .ok (.bipush (-3), 2) := dk_16 253 (dk_at dksX7_attempt_0 11 rfl rfl)
theorem dX7_attempt_13 : decode cX7_attempt 13 = .ok (.invokevirtual 165, 3) := dk_182 0 165 (dk_at dksX7_attempt_0 13 rfl rfl)
theorem dX7_attempt_16 : decode cX7_attempt 16 = .ok (.i2l, 1) := dk_133 (dk_at dksX7_attempt_0 16 rfl rfl)
theorem dX7_attempt_17 : decode cX7_attempt 17 = .ok (.lreturn, 1) := dk_173 (dk_at dksX7_attempt_0 17 rfl rfl)
theorem dX7_attempt_18 : decode cX7_attempt 18 = .ok (.iload_n 1, 1) := dk_27 (dk_at dksX7_attempt_0 18 rfl rfl)
theorem dX7_attempt_19 : decode cX7_attempt 19 = .ok (.iconst 1, 1) := dk_4 (dk_at dksX7_attempt_0 19 rfl rfl)
theorem dX7_attempt_20 : decode cX7_attempt 20 = .ok (.bipush 30, 2) := dk_16 30 (dk_at dksX7_attempt_0 20 rfl rfl)
theorem dX7_attempt_22 : decode cX7_attempt 22 = .ok (.invokestatic 76, 3) := dk_184 0 76 (dk_at dksX7_attempt_1 0 rfl rfl)
theorem dX7_attempt_25 : decode cX7_attempt 25 = .ok (.ifCond .ne 11, 3) := dk_154 0 11 (dk_at dksX7_attempt_1 3 rfl rfl)
theorem dX7_attempt_28 : decode cX7_attempt 28 = .ok (.aload_n 0, 1) := dk_42 (dk_at dksX7_attempt_1 6 rfl rfl)
theorem dX7_attempt_29 : decode cX7_attempt 29 = .ok (.bipush (-7), 2) := dk_16 249 (dk_at dksX7_attempt_1 7 rfl rfl)
theorem dX7_attempt_31 : decode cX7_attempt 31 = .ok (.invokevirtual 165, 3) := dk_182 0 165 (dk_at dksX7_attempt_1 9 rfl rfl)
theorem dX7_attempt_34 : decode cX7_attempt 34 = .ok (.i2l, 1) := dk_133 (dk_at dksX7_attempt_1 12 rfl rfl)
theorem dX7_attempt_35 : decode cX7_attempt 35 = .ok (.lreturn, 1) := dk_173 (dk_at dksX7_attempt_1 13 rfl rfl)
theorem dX7_attempt_36 : decode cX7_attempt 36 = .ok (.aload_n 0, 1) := dk_42 (dk_at dksX7_attempt_1 14 rfl rfl)
theorem dX7_attempt_37 : decode cX7_attempt 37 = .ok (.getfield 13, 3) := dk_180 0 13 (dk_at dksX7_attempt_1 15 rfl rfl)
theorem dX7_attempt_40 : decode cX7_attempt 40 = .ok (.iconst 0, 1) := dk_3 (dk_at dksX7_attempt_1 18 rfl rfl)
theorem dX7_attempt_41 : decode cX7_attempt 41 = .ok (.iaload, 1) := dk_46 (dk_at dksX7_attempt_1 19 rfl rfl)
theorem dX7_attempt_42 : decode cX7_attempt 42 = .ok (.iload_n 1, 1) := dk_27 (dk_at dksX7_attempt_1 20 rfl rfl)
theorem dX7_attempt_43 : decode cX7_attempt 43 = .ok (.iadd, 1) := dk_96 (dk_at dksX7_attempt_1 21 rfl rfl)
theorem dX7_attempt_44 : decode cX7_attempt 44 = .ok (.sipush 400, 3) := dk_17 1 144 (dk_at dksX7_attempt_2 0 rfl rfl)
theorem dX7_attempt_47 : decode cX7_attempt 47 = .ok (.if_icmp .le 11, 3) := dk_164 0 11 (dk_at dksX7_attempt_2 3 rfl rfl)
theorem dX7_attempt_50 : decode cX7_attempt 50 = .ok (.aload_n 0, 1) := dk_42 (dk_at dksX7_attempt_2 6 rfl rfl)
theorem dX7_attempt_51 : decode cX7_attempt 51 = .ok (.bipush (-8), 2) := dk_16 248 (dk_at dksX7_attempt_2 7 rfl rfl)
theorem dX7_attempt_53 : decode cX7_attempt 53 = .ok (.invokevirtual 165, 3) := dk_182 0 165 (dk_at dksX7_attempt_2 9 rfl rfl)
theorem dX7_attempt_56 : decode cX7_attempt 56 = .ok (.i2l, 1) := dk_133 (dk_at dksX7_attempt_2 12 rfl rfl)
theorem dX7_attempt_57 : decode cX7_attempt 57 = .ok (.lreturn, 1) := dk_173 (dk_at dksX7_attempt_2 13 rfl rfl)
theorem dX7_attempt_58 : decode cX7_attempt 58 = .ok (.iconst 0, 1) := dk_3 (dk_at dksX7_attempt_2 14 rfl rfl)
theorem dX7_attempt_59 : decode cX7_attempt 59 = .ok (.istore_n 3, 1) := dk_62 (dk_at dksX7_attempt_2 15 rfl rfl)
theorem dX7_attempt_60 : decode cX7_attempt 60 = .ok (.iload_n 3, 1) := dk_29 (dk_at dksX7_attempt_2 16 rfl rfl)
theorem dX7_attempt_61 : decode cX7_attempt 61 = .ok (.sipush 4536, 3) := dk_17 17 184 (dk_at dksX7_attempt_2 17 rfl rfl)
theorem dX7_attempt_64 : decode cX7_attempt 64 = .ok (.if_icmp .ge 21, 3) := dk_162 0 21 (dk_at dksX7_attempt_2 20 rfl rfl)
theorem dX7_attempt_67 : decode cX7_attempt 67 = .ok (.aload_n 0, 1) := dk_42 (dk_at dksX7_attempt_2 23 rfl rfl)
theorem dX7_attempt_68 : decode cX7_attempt 68 = .ok (.getfield 64, 3) := dk_180 0 64 (dk_at dksX7_attempt_3 0 rfl rfl)
theorem dX7_attempt_71 : decode cX7_attempt 71 = .ok (.iload_n 3, 1) := dk_29 (dk_at dksX7_attempt_3 3 rfl rfl)
theorem dX7_attempt_72 : decode cX7_attempt 72 = .ok (.aload_n 0, 1) := dk_42 (dk_at dksX7_attempt_3 4 rfl rfl)
theorem dX7_attempt_73 : decode cX7_attempt 73 = .ok (.getfield 13, 3) := dk_180 0 13 (dk_at dksX7_attempt_3 5 rfl rfl)
theorem dX7_attempt_76 : decode cX7_attempt 76 = .ok (.iload_n 3, 1) := dk_29 (dk_at dksX7_attempt_3 8 rfl rfl)
theorem dX7_attempt_77 : decode cX7_attempt 77 = .ok (.iaload, 1) := dk_46 (dk_at dksX7_attempt_3 9 rfl rfl)
theorem dX7_attempt_78 : decode cX7_attempt 78 = .ok (.iastore, 1) := dk_79 (dk_at dksX7_attempt_3 10 rfl rfl)
theorem dX7_attempt_79 : decode cX7_attempt 79 = .ok (.iinc 3 1, 3) := dk_132 3 1 (dk_at dksX7_attempt_3 11 rfl rfl)
theorem dX7_attempt_82 : decode cX7_attempt 82 = .ok (.goto (-22), 3) := dk_167 255 234 (dk_at dksX7_attempt_3 14 rfl rfl)
theorem dX7_attempt_85 : decode cX7_attempt 85 = .ok (.iconst 0, 1) := dk_3 (dk_at dksX7_attempt_3 17 rfl rfl)
theorem dX7_attempt_86 : decode cX7_attempt 86 = .ok (.istore_n 3, 1) := dk_62 (dk_at dksX7_attempt_3 18 rfl rfl)
theorem dX7_attempt_87 : decode cX7_attempt 87 = .ok (.iload_n 3, 1) := dk_29 (dk_at dksX7_attempt_3 19 rfl rfl)
theorem dX7_attempt_88 : decode cX7_attempt 88 = .ok (.bipush 8, 2) := dk_16 8 (dk_at dksX7_attempt_3 20 rfl rfl)
theorem dX7_attempt_90 : decode cX7_attempt 90 = .ok (.if_icmp .ge 21, 3) := dk_162 0 21 (dk_at dksX7_attempt_4 0 rfl rfl)
theorem dX7_attempt_93 : decode cX7_attempt 93 = .ok (.aload_n 0, 1) := dk_42 (dk_at dksX7_attempt_4 3 rfl rfl)
theorem dX7_attempt_94 : decode cX7_attempt 94 = .ok (.getfield 67, 3) := dk_180 0 67 (dk_at dksX7_attempt_4 4 rfl rfl)
theorem dX7_attempt_97 : decode cX7_attempt 97 = .ok (.iload_n 3, 1) := dk_29 (dk_at dksX7_attempt_4 7 rfl rfl)
theorem dX7_attempt_98 : decode cX7_attempt 98 = .ok (.aload_n 0, 1) := dk_42 (dk_at dksX7_attempt_4 8 rfl rfl)
theorem dX7_attempt_99 : decode cX7_attempt 99 = .ok (.getfield 17, 3) := dk_180 0 17 (dk_at dksX7_attempt_4 9 rfl rfl)
theorem dX7_attempt_102 : decode cX7_attempt 102 = .ok (.iload_n 3, 1) := dk_29 (dk_at dksX7_attempt_4 12 rfl rfl)
theorem dX7_attempt_103 : decode cX7_attempt 103 = .ok (.laload, 1) := dk_47 (dk_at dksX7_attempt_4 13 rfl rfl)
theorem dX7_attempt_104 : decode cX7_attempt 104 = .ok (.lastore, 1) := dk_80 (dk_at dksX7_attempt_4 14 rfl rfl)
theorem dX7_attempt_105 : decode cX7_attempt 105 = .ok (.iinc 3 1, 3) := dk_132 3 1 (dk_at dksX7_attempt_4 15 rfl rfl)
theorem dX7_attempt_108 : decode cX7_attempt 108 = .ok (.goto (-21), 3) := dk_167 255 235 (dk_at dksX7_attempt_4 18 rfl rfl)
theorem dX7_attempt_111 : decode cX7_attempt 111 = .ok (.iconst 0, 1) := dk_3 (dk_at dksX7_attempt_4 21 rfl rfl)
theorem dX7_attempt_112 : decode cX7_attempt 112 = .ok (.istore_n 3, 1) := dk_62 (dk_at dksX7_attempt_4 22 rfl rfl)
theorem dX7_attempt_113 : decode cX7_attempt 113 = .ok (.iload_n 3, 1) := dk_29 (dk_at dksX7_attempt_4 23 rfl rfl)
theorem dX7_attempt_114 : decode cX7_attempt 114 = .ok (.iload_n 1, 1) := dk_27 (dk_at dksX7_attempt_5 0 rfl rfl)
theorem dX7_attempt_115 : decode cX7_attempt 115 = .ok (.if_icmp .ge 13, 3) := dk_162 0 13 (dk_at dksX7_attempt_5 1 rfl rfl)
theorem dX7_attempt_118 : decode cX7_attempt 118 = .ok (.aload_n 0, 1) := dk_42 (dk_at dksX7_attempt_5 4 rfl rfl)
theorem dX7_attempt_119 : decode cX7_attempt 119 = .ok (.invokevirtual 387, 3) := dk_182 1 131 (dk_at dksX7_attempt_5 5 rfl rfl)
theorem dX7_attempt_122 : decode cX7_attempt 122 = .ok (.iinc 3 1, 3) := dk_132 3 1 (dk_at dksX7_attempt_5 8 rfl rfl)
theorem dX7_attempt_125 : decode cX7_attempt 125 = .ok (.goto (-12), 3) := dk_167 255 244 (dk_at dksX7_attempt_5 11 rfl rfl)
theorem dX7_attempt_128 : decode cX7_attempt 128 = .ok (.aload_n 0, 1) := dk_42 (dk_at dksX7_attempt_5 14 rfl rfl)
theorem dX7_attempt_129 : decode cX7_attempt 129 = .ok (.iload_n 2, 1) := dk_28 (dk_at dksX7_attempt_5 15 rfl rfl)
theorem dX7_attempt_130 : decode cX7_attempt 130 = .ok (.invokevirtual 443, 3) := dk_182 1 187 (dk_at dksX7_attempt_5 16 rfl rfl)
theorem dX7_attempt_133 : decode cX7_attempt 133 = .ok (.lstore_n 3, 1) := dk_66 (dk_at dksX7_attempt_5 19 rfl rfl)
theorem dX7_attempt_134 : decode cX7_attempt 134 = .ok (.iconst 0, 1) := dk_3 (dk_at dksX7_attempt_5 20 rfl rfl)
theorem dX7_attempt_135 : decode cX7_attempt 135 = .ok (.istore 5, 2) := dk_54 5 (dk_at dksX7_attempt_5 21 rfl rfl)
theorem dX7_attempt_137 : decode cX7_attempt 137 = .ok (.iload 5, 2) := dk_21 5 (dk_at dksX7_attempt_6 0 rfl rfl)
theorem dX7_attempt_139 : decode cX7_attempt 139 = .ok (.sipush 4536, 3) := dk_17 17 184 (dk_at dksX7_attempt_6 2 rfl rfl)
theorem dX7_attempt_142 : decode cX7_attempt 142 = .ok (.if_icmp .ge 23, 3) := dk_162 0 23 (dk_at dksX7_attempt_6 5 rfl rfl)
theorem dX7_attempt_145 : decode cX7_attempt 145 = .ok (.aload_n 0, 1) := dk_42 (dk_at dksX7_attempt_6 8 rfl rfl)
theorem dX7_attempt_146 : decode cX7_attempt 146 = .ok (.getfield 13, 3) := dk_180 0 13 (dk_at dksX7_attempt_6 9 rfl rfl)
theorem dX7_attempt_149 : decode cX7_attempt 149 = .ok (.iload 5, 2) := dk_21 5 (dk_at dksX7_attempt_6 12 rfl rfl)
theorem dX7_attempt_151 : decode cX7_attempt 151 = .ok (.aload_n 0, 1) := dk_42 (dk_at dksX7_attempt_6 14 rfl rfl)
theorem dX7_attempt_152 : decode cX7_attempt 152 = .ok (.getfield 64, 3) := dk_180 0 64 (dk_at dksX7_attempt_6 15 rfl rfl)
theorem dX7_attempt_155 : decode cX7_attempt 155 = .ok (.iload 5, 2) := dk_21 5 (dk_at dksX7_attempt_6 18 rfl rfl)
theorem dX7_attempt_157 : decode cX7_attempt 157 = .ok (.iaload, 1) := dk_46 (dk_at dksX7_attempt_6 20 rfl rfl)
theorem dX7_attempt_158 : decode cX7_attempt 158 = .ok (.iastore, 1) := dk_79 (dk_at dksX7_attempt_6 21 rfl rfl)
theorem dX7_attempt_159 : decode cX7_attempt 159 = .ok (.iinc 5 1, 3) := dk_132 5 1 (dk_at dksX7_attempt_7 0 rfl rfl)
theorem dX7_attempt_162 : decode cX7_attempt 162 = .ok (.goto (-25), 3) := dk_167 255 231 (dk_at dksX7_attempt_7 3 rfl rfl)
theorem dX7_attempt_165 : decode cX7_attempt 165 = .ok (.iconst 0, 1) := dk_3 (dk_at dksX7_attempt_7 6 rfl rfl)
theorem dX7_attempt_166 : decode cX7_attempt 166 = .ok (.istore 5, 2) := dk_54 5 (dk_at dksX7_attempt_7 7 rfl rfl)
theorem dX7_attempt_168 : decode cX7_attempt 168 = .ok (.iload 5, 2) := dk_21 5 (dk_at dksX7_attempt_7 9 rfl rfl)
theorem dX7_attempt_170 : decode cX7_attempt 170 = .ok (.bipush 8, 2) := dk_16 8 (dk_at dksX7_attempt_7 11 rfl rfl)
theorem dX7_attempt_172 : decode cX7_attempt 172 = .ok (.if_icmp .ge 23, 3) := dk_162 0 23 (dk_at dksX7_attempt_7 13 rfl rfl)
theorem dX7_attempt_175 : decode cX7_attempt 175 = .ok (.aload_n 0, 1) := dk_42 (dk_at dksX7_attempt_7 16 rfl rfl)
theorem dX7_attempt_176 : decode cX7_attempt 176 = .ok (.getfield 17, 3) := dk_180 0 17 (dk_at dksX7_attempt_7 17 rfl rfl)
theorem dX7_attempt_179 : decode cX7_attempt 179 = .ok (.iload 5, 2) := dk_21 5 (dk_at dksX7_attempt_7 20 rfl rfl)
theorem dX7_attempt_181 : decode cX7_attempt 181 = .ok (.aload_n 0, 1) := dk_42 (dk_at dksX7_attempt_7 22 rfl rfl)
theorem dX7_attempt_182 : decode cX7_attempt 182 = .ok (.getfield 67, 3) := dk_180 0 67 (dk_at dksX7_attempt_8 0 rfl rfl)
theorem dX7_attempt_185 : decode cX7_attempt 185 = .ok (.iload 5, 2) := dk_21 5 (dk_at dksX7_attempt_8 3 rfl rfl)
theorem dX7_attempt_187 : decode cX7_attempt 187 = .ok (.laload, 1) := dk_47 (dk_at dksX7_attempt_8 5 rfl rfl)
theorem dX7_attempt_188 : decode cX7_attempt 188 = .ok (.lastore, 1) := dk_80 (dk_at dksX7_attempt_8 6 rfl rfl)
theorem dX7_attempt_189 : decode cX7_attempt 189 = .ok (.iinc 5 1, 3) := dk_132 5 1 (dk_at dksX7_attempt_8 7 rfl rfl)
theorem dX7_attempt_192 : decode cX7_attempt 192 = .ok (.goto (-24), 3) := dk_167 255 232 (dk_at dksX7_attempt_8 10 rfl rfl)
theorem dX7_attempt_195 : decode cX7_attempt 195 = .ok (.lload_n 3, 1) := dk_33 (dk_at dksX7_attempt_8 13 rfl rfl)
theorem dX7_attempt_196 : decode cX7_attempt 196 = .ok (.lreturn, 1) := dk_173 (dk_at dksX7_attempt_8 14 rfl rfl)
abbrev cX7_outcome : ByteArray := prog_19_method_112_code
def yX7_outcome : MethodName := ⟨RX7, "outcome", "(I)J"⟩
def dkwX7_outcome_6 : List UInt8 := [167, 255, 223, 32, 173]
abbrev dktX7_outcome_6 : List UInt8 := dkwX7_outcome_6 ++ []
def dkwX7_outcome_5 : List UInt8 := [32, 42, 180, 0, 13, 17, 3, 160, 7, 21, 4, 104, 96, 6, 96, 46, 133, 97, 65, 132, 4, 1]
abbrev dktX7_outcome_5 : List UInt8 := dkwX7_outcome_5 ++ dktX7_outcome_6
def dkwX7_outcome_4 : List UInt8 := [101, 173, 42, 182, 1, 134, 133, 173, 9, 65, 3, 54, 4, 21, 4, 42, 180, 0, 13, 6, 46, 162, 0, 28]
abbrev dktX7_outcome_4 : List UInt8 := dkwX7_outcome_4 ++ dktX7_outcome_5
def dkwX7_outcome_3 : List UInt8 := [8, 47, 42, 180, 0, 67, 8, 47, 101, 173, 42, 180, 0, 17, 16, 6, 47, 42, 180, 0, 67, 16, 6, 47]
abbrev dktX7_outcome_3 : List UInt8 := dkwX7_outcome_3 ++ dktX7_outcome_4
def dkwX7_outcome_2 : List UInt8 := [42, 27, 182, 1, 183, 173, 42, 180, 0, 17, 6, 47, 42, 180, 0, 67, 6, 47, 101, 173, 42, 180, 0, 17]
abbrev dktX7_outcome_2 : List UInt8 := dkwX7_outcome_2 ++ dktX7_outcome_3
def dkwX7_outcome_1 : List UInt8 := [170, 0, 0, 0, 0, 0, 95, 0, 0, 0, 0, 0, 0, 0, 5, 0, 0, 0, 39, 0, 0, 0, 39, 0, 0, 0, 45, 0, 0, 0, 59, 0, 0, 0, 73, 0, 0, 0, 89]
abbrev dktX7_outcome_1 : List UInt8 := dkwX7_outcome_1 ++ dktX7_outcome_2
def dkwX7_outcome_0 : List UInt8 := [27]
abbrev dktX7_outcome_0 : List UInt8 := dkwX7_outcome_0 ++ dktX7_outcome_1
theorem dksX7_outcome_0 : cX7_outcome.data.toList.drop 0 = dktX7_outcome_0 := by decide +kernel
theorem dksX7_outcome_1 : cX7_outcome.data.toList.drop 1 = dktX7_outcome_1 := dk_seg dksX7_outcome_0 1 rfl rfl
theorem dksX7_outcome_2 : cX7_outcome.data.toList.drop 40 = dktX7_outcome_2 := dk_seg dksX7_outcome_1 39 rfl rfl
theorem dksX7_outcome_3 : cX7_outcome.data.toList.drop 64 = dktX7_outcome_3 := dk_seg dksX7_outcome_2 24 rfl rfl
theorem dksX7_outcome_4 : cX7_outcome.data.toList.drop 88 = dktX7_outcome_4 := dk_seg dksX7_outcome_3 24 rfl rfl
theorem dksX7_outcome_5 : cX7_outcome.data.toList.drop 112 = dktX7_outcome_5 := dk_seg dksX7_outcome_4 24 rfl rfl
theorem dksX7_outcome_6 : cX7_outcome.data.toList.drop 134 = dktX7_outcome_6 := dk_seg dksX7_outcome_5 22 rfl rfl
theorem dX7_outcome_0 : decode cX7_outcome 0 = .ok (.iload_n 1, 1) := dk_27 (dk_at dksX7_outcome_0 0 rfl rfl)
theorem dX7_outcome_1 : decode cX7_outcome 1 = .ok (.tableswitch 95 0 5 #[39, 39, 45, 59, 73, 89], 39) := by decide +kernel
theorem dX7_outcome_40 : decode cX7_outcome 40 = .ok (.aload_n 0, 1) := dk_42 (dk_at dksX7_outcome_2 0 rfl rfl)
theorem dX7_outcome_41 : decode cX7_outcome 41 = .ok (.iload_n 1, 1) := dk_27 (dk_at dksX7_outcome_2 1 rfl rfl)
theorem dX7_outcome_42 : decode cX7_outcome 42 = .ok (.invokevirtual 439, 3) := dk_182 1 183 (dk_at dksX7_outcome_2 2 rfl rfl)
theorem dX7_outcome_45 : decode cX7_outcome 45 = .ok (.lreturn, 1) := dk_173 (dk_at dksX7_outcome_2 5 rfl rfl)
theorem dX7_outcome_46 : decode cX7_outcome 46 = .ok (.aload_n 0, 1) := dk_42 (dk_at dksX7_outcome_2 6 rfl rfl)
theorem dX7_outcome_47 : decode cX7_outcome 47 = .ok (.getfield 17, 3) := dk_180 0 17 (dk_at dksX7_outcome_2 7 rfl rfl)
theorem dX7_outcome_50 : decode cX7_outcome 50 = .ok (.iconst 3, 1) := dk_6 (dk_at dksX7_outcome_2 10 rfl rfl)
theorem dX7_outcome_51 : decode cX7_outcome 51 = .ok (.laload, 1) := dk_47 (dk_at dksX7_outcome_2 11 rfl rfl)
theorem dX7_outcome_52 : decode cX7_outcome 52 = .ok (.aload_n 0, 1) := dk_42 (dk_at dksX7_outcome_2 12 rfl rfl)
theorem dX7_outcome_53 : decode cX7_outcome 53 = .ok (.getfield 67, 3) := dk_180 0 67 (dk_at dksX7_outcome_2 13 rfl rfl)
theorem dX7_outcome_56 : decode cX7_outcome 56 = .ok (.iconst 3, 1) := dk_6 (dk_at dksX7_outcome_2 16 rfl rfl)
theorem dX7_outcome_57 : decode cX7_outcome 57 = .ok (.laload, 1) := dk_47 (dk_at dksX7_outcome_2 17 rfl rfl)
theorem dX7_outcome_58 : decode cX7_outcome 58 = .ok (.lsub, 1) := dk_101 (dk_at dksX7_outcome_2 18 rfl rfl)
theorem dX7_outcome_59 : decode cX7_outcome 59 = .ok (.lreturn, 1) := dk_173 (dk_at dksX7_outcome_2 19 rfl rfl)
theorem dX7_outcome_60 : decode cX7_outcome 60 = .ok (.aload_n 0, 1) := dk_42 (dk_at dksX7_outcome_2 20 rfl rfl)
theorem dX7_outcome_61 : decode cX7_outcome 61 = .ok (.getfield 17, 3) := dk_180 0 17 (dk_at dksX7_outcome_2 21 rfl rfl)
theorem dX7_outcome_64 : decode cX7_outcome 64 = .ok (.iconst 5, 1) := dk_8 (dk_at dksX7_outcome_3 0 rfl rfl)
theorem dX7_outcome_65 : decode cX7_outcome 65 = .ok (.laload, 1) := dk_47 (dk_at dksX7_outcome_3 1 rfl rfl)
theorem dX7_outcome_66 : decode cX7_outcome 66 = .ok (.aload_n 0, 1) := dk_42 (dk_at dksX7_outcome_3 2 rfl rfl)
theorem dX7_outcome_67 : decode cX7_outcome 67 = .ok (.getfield 67, 3) := dk_180 0 67 (dk_at dksX7_outcome_3 3 rfl rfl)
theorem dX7_outcome_70 : decode cX7_outcome 70 = .ok (.iconst 5, 1) := dk_8 (dk_at dksX7_outcome_3 6 rfl rfl)
theorem dX7_outcome_71 : decode cX7_outcome 71 = .ok (.laload, 1) := dk_47 (dk_at dksX7_outcome_3 7 rfl rfl)
theorem dX7_outcome_72 : decode cX7_outcome 72 = .ok (.lsub, 1) := dk_101 (dk_at dksX7_outcome_3 8 rfl rfl)
theorem dX7_outcome_73 : decode cX7_outcome 73 = .ok (.lreturn, 1) := dk_173 (dk_at dksX7_outcome_3 9 rfl rfl)
theorem dX7_outcome_74 : decode cX7_outcome 74 = .ok (.aload_n 0, 1) := dk_42 (dk_at dksX7_outcome_3 10 rfl rfl)
theorem dX7_outcome_75 : decode cX7_outcome 75 = .ok (.getfield 17, 3) := dk_180 0 17 (dk_at dksX7_outcome_3 11 rfl rfl)
theorem dX7_outcome_78 : decode cX7_outcome 78 = .ok (.bipush 6, 2) := dk_16 6 (dk_at dksX7_outcome_3 14 rfl rfl)
theorem dX7_outcome_80 : decode cX7_outcome 80 = .ok (.laload, 1) := dk_47 (dk_at dksX7_outcome_3 16 rfl rfl)
theorem dX7_outcome_81 : decode cX7_outcome 81 = .ok (.aload_n 0, 1) := dk_42 (dk_at dksX7_outcome_3 17 rfl rfl)
theorem dX7_outcome_82 : decode cX7_outcome 82 = .ok (.getfield 67, 3) := dk_180 0 67 (dk_at dksX7_outcome_3 18 rfl rfl)
theorem dX7_outcome_85 : decode cX7_outcome 85 = .ok (.bipush 6, 2) := dk_16 6 (dk_at dksX7_outcome_3 21 rfl rfl)
theorem dX7_outcome_87 : decode cX7_outcome 87 = .ok (.laload, 1) := dk_47 (dk_at dksX7_outcome_3 23 rfl rfl)
theorem dX7_outcome_88 : decode cX7_outcome 88 = .ok (.lsub, 1) := dk_101 (dk_at dksX7_outcome_4 0 rfl rfl)
theorem dX7_outcome_89 : decode cX7_outcome 89 = .ok (.lreturn, 1) := dk_173 (dk_at dksX7_outcome_4 1 rfl rfl)
theorem dX7_outcome_90 : decode cX7_outcome 90 = .ok (.aload_n 0, 1) := dk_42 (dk_at dksX7_outcome_4 2 rfl rfl)
theorem dX7_outcome_91 : decode cX7_outcome 91 = .ok (.invokevirtual 390, 3) := dk_182 1 134 (dk_at dksX7_outcome_4 3 rfl rfl)
theorem dX7_outcome_94 : decode cX7_outcome 94 = .ok (.i2l, 1) := dk_133 (dk_at dksX7_outcome_4 6 rfl rfl)
theorem dX7_outcome_95 : decode cX7_outcome 95 = .ok (.lreturn, 1) := dk_173 (dk_at dksX7_outcome_4 7 rfl rfl)
theorem dX7_outcome_96 : decode cX7_outcome 96 = .ok (.lconst 0, 1) := dk_9 (dk_at dksX7_outcome_4 8 rfl rfl)
theorem dX7_outcome_97 : decode cX7_outcome 97 = .ok (.lstore_n 2, 1) := dk_65 (dk_at dksX7_outcome_4 9 rfl rfl)
theorem dX7_outcome_98 : decode cX7_outcome 98 = .ok (.iconst 0, 1) := dk_3 (dk_at dksX7_outcome_4 10 rfl rfl)
theorem dX7_outcome_99 : decode cX7_outcome 99 = .ok (.istore 4, 2) := dk_54 4 (dk_at dksX7_outcome_4 11 rfl rfl)
theorem dX7_outcome_101 : decode cX7_outcome 101 = .ok (.iload 4, 2) := dk_21 4 (dk_at dksX7_outcome_4 13 rfl rfl)
theorem dX7_outcome_103 : decode cX7_outcome 103 = .ok (.aload_n 0, 1) := dk_42 (dk_at dksX7_outcome_4 15 rfl rfl)
theorem dX7_outcome_104 : decode cX7_outcome 104 = .ok (.getfield 13, 3) := dk_180 0 13 (dk_at dksX7_outcome_4 16 rfl rfl)
theorem dX7_outcome_107 : decode cX7_outcome 107 = .ok (.iconst 3, 1) := dk_6 (dk_at dksX7_outcome_4 19 rfl rfl)
theorem dX7_outcome_108 : decode cX7_outcome 108 = .ok (.iaload, 1) := dk_46 (dk_at dksX7_outcome_4 20 rfl rfl)
theorem dX7_outcome_109 : decode cX7_outcome 109 = .ok (.if_icmp .ge 28, 3) := dk_162 0 28 (dk_at dksX7_outcome_4 21 rfl rfl)
theorem dX7_outcome_112 : decode cX7_outcome 112 = .ok (.lload_n 2, 1) := dk_32 (dk_at dksX7_outcome_5 0 rfl rfl)
theorem dX7_outcome_113 : decode cX7_outcome 113 = .ok (.aload_n 0, 1) := dk_42 (dk_at dksX7_outcome_5 1 rfl rfl)
theorem dX7_outcome_114 : decode cX7_outcome 114 = .ok (.getfield 13, 3) := dk_180 0 13 (dk_at dksX7_outcome_5 2 rfl rfl)
theorem dX7_outcome_117 : decode cX7_outcome 117 = .ok (.sipush 928, 3) := dk_17 3 160 (dk_at dksX7_outcome_5 5 rfl rfl)
theorem dX7_outcome_120 : decode cX7_outcome 120 = .ok (.iconst 4, 1) := dk_7 (dk_at dksX7_outcome_5 8 rfl rfl)
theorem dX7_outcome_121 : decode cX7_outcome 121 = .ok (.iload 4, 2) := dk_21 4 (dk_at dksX7_outcome_5 9 rfl rfl)
theorem dX7_outcome_123 : decode cX7_outcome 123 = .ok (.imul, 1) := dk_104 (dk_at dksX7_outcome_5 11 rfl rfl)
theorem dX7_outcome_124 : decode cX7_outcome 124 = .ok (.iadd, 1) := dk_96 (dk_at dksX7_outcome_5 12 rfl rfl)
theorem dX7_outcome_125 : decode cX7_outcome 125 = .ok (.iconst 3, 1) := dk_6 (dk_at dksX7_outcome_5 13 rfl rfl)
theorem dX7_outcome_126 : decode cX7_outcome 126 = .ok (.iadd, 1) := dk_96 (dk_at dksX7_outcome_5 14 rfl rfl)
theorem dX7_outcome_127 : decode cX7_outcome 127 = .ok (.iaload, 1) := dk_46 (dk_at dksX7_outcome_5 15 rfl rfl)
theorem dX7_outcome_128 : decode cX7_outcome 128 = .ok (.i2l, 1) := dk_133 (dk_at dksX7_outcome_5 16 rfl rfl)
theorem dX7_outcome_129 : decode cX7_outcome 129 = .ok (.ladd, 1) := dk_97 (dk_at dksX7_outcome_5 17 rfl rfl)
theorem dX7_outcome_130 : decode cX7_outcome 130 = .ok (.lstore_n 2, 1) := dk_65 (dk_at dksX7_outcome_5 18 rfl rfl)
theorem dX7_outcome_131 : decode cX7_outcome 131 = .ok (.iinc 4 1, 3) := dk_132 4 1 (dk_at dksX7_outcome_5 19 rfl rfl)
theorem dX7_outcome_134 : decode cX7_outcome 134 = .ok (.goto (-33), 3) := dk_167 255 223 (dk_at dksX7_outcome_6 0 rfl rfl)
theorem dX7_outcome_137 : decode cX7_outcome 137 = .ok (.lload_n 2, 1) := dk_32 (dk_at dksX7_outcome_6 3 rfl rfl)
theorem dX7_outcome_138 : decode cX7_outcome 138 = .ok (.lreturn, 1) := dk_173 (dk_at dksX7_outcome_6 4 rfl rfl)
abbrev cX7_sum : ByteArray := prog_19_method_111_code
def yX7_sum : MethodName := ⟨RX7, "sum", "(I)J"⟩
def dkwX7_sum_2 : List UInt8 := [32, 173]
abbrev dktX7_sum_2 : List UInt8 := dkwX7_sum_2 ++ []
def dkwX7_sum_1 : List UInt8 := [182, 0, 115, 133, 167, 0, 12, 42, 21, 4, 16, 7, 182, 0, 84, 133, 97, 65, 132, 4, 1, 167, 255, 216]
abbrev dktX7_sum_1 : List UInt8 := dkwX7_sum_1 ++ dktX7_sum_2
def dkwX7_sum_0 : List UInt8 := [9, 65, 3, 54, 4, 21, 4, 42, 180, 0, 13, 4, 46, 162, 0, 35, 32, 27, 154, 0, 13, 42, 21, 4]
abbrev dktX7_sum_0 : List UInt8 := dkwX7_sum_0 ++ dktX7_sum_1
theorem dksX7_sum_0 : cX7_sum.data.toList.drop 0 = dktX7_sum_0 := by decide +kernel
theorem dksX7_sum_1 : cX7_sum.data.toList.drop 24 = dktX7_sum_1 := dk_seg dksX7_sum_0 24 rfl rfl
theorem dksX7_sum_2 : cX7_sum.data.toList.drop 48 = dktX7_sum_2 := dk_seg dksX7_sum_1 24 rfl rfl
theorem dX7_sum_0 : decode cX7_sum 0 = .ok (.lconst 0, 1) := dk_9 (dk_at dksX7_sum_0 0 rfl rfl)
theorem dX7_sum_1 : decode cX7_sum 1 = .ok (.lstore_n 2, 1) := dk_65 (dk_at dksX7_sum_0 1 rfl rfl)
theorem dX7_sum_2 : decode cX7_sum 2 = .ok (.iconst 0, 1) := dk_3 (dk_at dksX7_sum_0 2 rfl rfl)
theorem dX7_sum_3 : decode cX7_sum 3 = .ok (.istore 4, 2) := dk_54 4 (dk_at dksX7_sum_0 3 rfl rfl)
theorem dX7_sum_5 : decode cX7_sum 5 = .ok (.iload 4, 2) := dk_21 4 (dk_at dksX7_sum_0 5 rfl rfl)
theorem dX7_sum_7 : decode cX7_sum 7 = .ok (.aload_n 0, 1) := dk_42 (dk_at dksX7_sum_0 7 rfl rfl)
theorem dX7_sum_8 : decode cX7_sum 8 = .ok (.getfield 13, 3) := dk_180 0 13 (dk_at dksX7_sum_0 8 rfl rfl)
theorem dX7_sum_11 : decode cX7_sum 11 = .ok (.iconst 1, 1) := dk_4 (dk_at dksX7_sum_0 11 rfl rfl)
theorem dX7_sum_12 : decode cX7_sum 12 = .ok (.iaload, 1) := dk_46 (dk_at dksX7_sum_0 12 rfl rfl)
theorem dX7_sum_13 : decode cX7_sum 13 = .ok (.if_icmp .ge 35, 3) := dk_162 0 35 (dk_at dksX7_sum_0 13 rfl rfl)
theorem dX7_sum_16 : decode cX7_sum 16 = .ok (.lload_n 2, 1) := dk_32 (dk_at dksX7_sum_0 16 rfl rfl)
theorem dX7_sum_17 : decode cX7_sum 17 = .ok (.iload_n 1, 1) := dk_27 (dk_at dksX7_sum_0 17 rfl rfl)
theorem dX7_sum_18 : decode cX7_sum 18 = .ok (.ifCond .ne 13, 3) := dk_154 0 13 (dk_at dksX7_sum_0 18 rfl rfl)
theorem dX7_sum_21 : decode cX7_sum 21 = .ok (.aload_n 0, 1) := dk_42 (dk_at dksX7_sum_0 21 rfl rfl)
theorem dX7_sum_22 : decode cX7_sum 22 = .ok (.iload 4, 2) := dk_21 4 (dk_at dksX7_sum_0 22 rfl rfl)
theorem dX7_sum_24 : decode cX7_sum 24 = .ok (.invokevirtual 115, 3) := dk_182 0 115 (dk_at dksX7_sum_1 0 rfl rfl)
theorem dX7_sum_27 : decode cX7_sum 27 = .ok (.i2l, 1) := dk_133 (dk_at dksX7_sum_1 3 rfl rfl)
theorem dX7_sum_28 : decode cX7_sum 28 = .ok (.goto 12, 3) := dk_167 0 12 (dk_at dksX7_sum_1 4 rfl rfl)
theorem dX7_sum_31 : decode cX7_sum 31 = .ok (.aload_n 0, 1) := dk_42 (dk_at dksX7_sum_1 7 rfl rfl)
theorem dX7_sum_32 : decode cX7_sum 32 = .ok (.iload 4, 2) := dk_21 4 (dk_at dksX7_sum_1 8 rfl rfl)
theorem dX7_sum_34 : decode cX7_sum 34 = .ok (.bipush 7, 2) := dk_16 7 (dk_at dksX7_sum_1 10 rfl rfl)
theorem dX7_sum_36 : decode cX7_sum 36 = .ok (.invokevirtual 84, 3) := dk_182 0 84 (dk_at dksX7_sum_1 12 rfl rfl)
theorem dX7_sum_39 : decode cX7_sum 39 = .ok (.i2l, 1) := dk_133 (dk_at dksX7_sum_1 15 rfl rfl)
theorem dX7_sum_40 : decode cX7_sum 40 = .ok (.ladd, 1) := dk_97 (dk_at dksX7_sum_1 16 rfl rfl)
theorem dX7_sum_41 : decode cX7_sum 41 = .ok (.lstore_n 2, 1) := dk_65 (dk_at dksX7_sum_1 17 rfl rfl)
theorem dX7_sum_42 : decode cX7_sum 42 = .ok (.iinc 4 1, 3) := dk_132 4 1 (dk_at dksX7_sum_1 18 rfl rfl)
theorem dX7_sum_45 : decode cX7_sum 45 = .ok (.goto (-40), 3) := dk_167 255 216 (dk_at dksX7_sum_1 21 rfl rfl)
theorem dX7_sum_48 : decode cX7_sum 48 = .ok (.lload_n 2, 1) := dk_32 (dk_at dksX7_sum_2 0 rfl rfl)
theorem dX7_sum_49 : decode cX7_sum 49 = .ok (.lreturn, 1) := dk_173 (dk_at dksX7_sum_2 1 rfl rfl)
abbrev cX7_image : ByteArray := prog_19_method_114_code
def yX7_image : MethodName := ⟨RX7, "image", "()I"⟩
def dkwX7_image_2 : List UInt8 := [132, 1, 1, 167, 255, 235, 42, 4, 181, 1, 190, 42, 180, 0, 13, 3, 46, 172]
abbrev dktX7_image_2 : List UInt8 := dkwX7_image_2 ++ []
def dkwX7_image_1 : List UInt8 := [167, 255, 234, 3, 60, 27, 16, 8, 162, 0, 21, 42, 180, 0, 61, 27, 42, 180, 0, 17, 27, 47, 80]
abbrev dktX7_image_1 : List UInt8 := dkwX7_image_1 ++ dktX7_image_2
def dkwX7_image_0 : List UInt8 := [3, 60, 27, 17, 17, 184, 162, 0, 21, 42, 180, 0, 58, 27, 42, 180, 0, 13, 27, 46, 79, 132, 1, 1]
abbrev dktX7_image_0 : List UInt8 := dkwX7_image_0 ++ dktX7_image_1
theorem dksX7_image_0 : cX7_image.data.toList.drop 0 = dktX7_image_0 := by decide +kernel
theorem dksX7_image_1 : cX7_image.data.toList.drop 24 = dktX7_image_1 := dk_seg dksX7_image_0 24 rfl rfl
theorem dksX7_image_2 : cX7_image.data.toList.drop 47 = dktX7_image_2 := dk_seg dksX7_image_1 23 rfl rfl
theorem dX7_image_0 : decode cX7_image 0 = .ok (.iconst 0, 1) := dk_3 (dk_at dksX7_image_0 0 rfl rfl)
theorem dX7_image_1 : decode cX7_image 1 = .ok (.istore_n 1, 1) := dk_60 (dk_at dksX7_image_0 1 rfl rfl)
theorem dX7_image_2 : decode cX7_image 2 = .ok (.iload_n 1, 1) := dk_27 (dk_at dksX7_image_0 2 rfl rfl)
theorem dX7_image_3 : decode cX7_image 3 = .ok (.sipush 4536, 3) := dk_17 17 184 (dk_at dksX7_image_0 3 rfl rfl)
theorem dX7_image_6 : decode cX7_image 6 = .ok (.if_icmp .ge 21, 3) := dk_162 0 21 (dk_at dksX7_image_0 6 rfl rfl)
theorem dX7_image_9 : decode cX7_image 9 = .ok (.aload_n 0, 1) := dk_42 (dk_at dksX7_image_0 9 rfl rfl)
theorem dX7_image_10 : decode cX7_image 10 = .ok (.getfield 58, 3) := dk_180 0 58 (dk_at dksX7_image_0 10 rfl rfl)
theorem dX7_image_13 : decode cX7_image 13 = .ok (.iload_n 1, 1) := dk_27 (dk_at dksX7_image_0 13 rfl rfl)
theorem dX7_image_14 : decode cX7_image 14 = .ok (.aload_n 0, 1) := dk_42 (dk_at dksX7_image_0 14 rfl rfl)
theorem dX7_image_15 : decode cX7_image 15 = .ok (.getfield 13, 3) := dk_180 0 13 (dk_at dksX7_image_0 15 rfl rfl)
theorem dX7_image_18 : decode cX7_image 18 = .ok (.iload_n 1, 1) := dk_27 (dk_at dksX7_image_0 18 rfl rfl)
theorem dX7_image_19 : decode cX7_image 19 = .ok (.iaload, 1) := dk_46 (dk_at dksX7_image_0 19 rfl rfl)
theorem dX7_image_20 : decode cX7_image 20 = .ok (.iastore, 1) := dk_79 (dk_at dksX7_image_0 20 rfl rfl)
theorem dX7_image_21 : decode cX7_image 21 = .ok (.iinc 1 1, 3) := dk_132 1 1 (dk_at dksX7_image_0 21 rfl rfl)
theorem dX7_image_24 : decode cX7_image 24 = .ok (.goto (-22), 3) := dk_167 255 234 (dk_at dksX7_image_1 0 rfl rfl)
theorem dX7_image_27 : decode cX7_image 27 = .ok (.iconst 0, 1) := dk_3 (dk_at dksX7_image_1 3 rfl rfl)
theorem dX7_image_28 : decode cX7_image 28 = .ok (.istore_n 1, 1) := dk_60 (dk_at dksX7_image_1 4 rfl rfl)
theorem dX7_image_29 : decode cX7_image 29 = .ok (.iload_n 1, 1) := dk_27 (dk_at dksX7_image_1 5 rfl rfl)
theorem dX7_image_30 : decode cX7_image 30 = .ok (.bipush 8, 2) := dk_16 8 (dk_at dksX7_image_1 6 rfl rfl)
theorem dX7_image_32 : decode cX7_image 32 = .ok (.if_icmp .ge 21, 3) := dk_162 0 21 (dk_at dksX7_image_1 8 rfl rfl)
theorem dX7_image_35 : decode cX7_image 35 = .ok (.aload_n 0, 1) := dk_42 (dk_at dksX7_image_1 11 rfl rfl)
theorem dX7_image_36 : decode cX7_image 36 = .ok (.getfield 61, 3) := dk_180 0 61 (dk_at dksX7_image_1 12 rfl rfl)
theorem dX7_image_39 : decode cX7_image 39 = .ok (.iload_n 1, 1) := dk_27 (dk_at dksX7_image_1 15 rfl rfl)
theorem dX7_image_40 : decode cX7_image 40 = .ok (.aload_n 0, 1) := dk_42 (dk_at dksX7_image_1 16 rfl rfl)
theorem dX7_image_41 : decode cX7_image 41 = .ok (.getfield 17, 3) := dk_180 0 17 (dk_at dksX7_image_1 17 rfl rfl)
theorem dX7_image_44 : decode cX7_image 44 = .ok (.iload_n 1, 1) := dk_27 (dk_at dksX7_image_1 20 rfl rfl)
theorem dX7_image_45 : decode cX7_image 45 = .ok (.laload, 1) := dk_47 (dk_at dksX7_image_1 21 rfl rfl)
theorem dX7_image_46 : decode cX7_image 46 = .ok (.lastore, 1) := dk_80 (dk_at dksX7_image_1 22 rfl rfl)
theorem dX7_image_47 : decode cX7_image 47 = .ok (.iinc 1 1, 3) := dk_132 1 1 (dk_at dksX7_image_2 0 rfl rfl)
theorem dX7_image_50 : decode cX7_image 50 = .ok (.goto (-21), 3) := dk_167 255 235 (dk_at dksX7_image_2 3 rfl rfl)
theorem dX7_image_53 : decode cX7_image 53 = .ok (.aload_n 0, 1) := dk_42 (dk_at dksX7_image_2 6 rfl rfl)
theorem dX7_image_54 : decode cX7_image 54 = .ok (.iconst 1, 1) := dk_4 (dk_at dksX7_image_2 7 rfl rfl)
theorem dX7_image_55 : decode cX7_image 55 = .ok (.putfield 446, 3) := dk_181 1 190 (dk_at dksX7_image_2 8 rfl rfl)
theorem dX7_image_58 : decode cX7_image 58 = .ok (.aload_n 0, 1) := dk_42 (dk_at dksX7_image_2 11 rfl rfl)
theorem dX7_image_59 : decode cX7_image 59 = .ok (.getfield 13, 3) := dk_180 0 13 (dk_at dksX7_image_2 12 rfl rfl)
theorem dX7_image_62 : decode cX7_image 62 = .ok (.iconst 0, 1) := dk_3 (dk_at dksX7_image_2 15 rfl rfl)
theorem dX7_image_63 : decode cX7_image 63 = .ok (.iaload, 1) := dk_46 (dk_at dksX7_image_2 16 rfl rfl)
theorem dX7_image_64 : decode cX7_image 64 = .ok (.ireturn, 1) := dk_172 (dk_at dksX7_image_2 17 rfl rfl)
abbrev cX7_back : ByteArray := prog_19_method_115_code
def yX7_back : MethodName := ⟨RX7, "back", "()I"⟩
def dkwX7_back_3 : List UInt8 := [180, 0, 13, 3, 46, 172]
abbrev dktX7_back_3 : List UInt8 := dkwX7_back_3 ++ []
def dkwX7_back_2 : List UInt8 := [162, 0, 21, 42, 180, 0, 17, 27, 42, 180, 0, 61, 27, 47, 80, 132, 1, 1, 167, 255, 235, 42]
abbrev dktX7_back_2 : List UInt8 := dkwX7_back_2 ++ dktX7_back_3
def dkwX7_back_1 : List UInt8 := [180, 0, 13, 27, 42, 180, 0, 58, 27, 46, 79, 132, 1, 1, 167, 255, 234, 3, 60, 27, 16, 8]
abbrev dktX7_back_1 : List UInt8 := dkwX7_back_1 ++ dktX7_back_2
def dkwX7_back_0 : List UInt8 := [42, 180, 1, 190, 154, 0, 10, 42, 16, 254, 182, 0, 80, 172, 3, 60, 27, 17, 17, 184, 162, 0, 21, 42]
abbrev dktX7_back_0 : List UInt8 := dkwX7_back_0 ++ dktX7_back_1
theorem dksX7_back_0 : cX7_back.data.toList.drop 0 = dktX7_back_0 := by decide +kernel
theorem dksX7_back_1 : cX7_back.data.toList.drop 24 = dktX7_back_1 := dk_seg dksX7_back_0 24 rfl rfl
theorem dksX7_back_2 : cX7_back.data.toList.drop 46 = dktX7_back_2 := dk_seg dksX7_back_1 22 rfl rfl
theorem dksX7_back_3 : cX7_back.data.toList.drop 68 = dktX7_back_3 := dk_seg dksX7_back_2 22 rfl rfl
theorem dX7_back_0 : decode cX7_back 0 = .ok (.aload_n 0, 1) := dk_42 (dk_at dksX7_back_0 0 rfl rfl)
theorem dX7_back_1 : decode cX7_back 1 = .ok (.getfield 446, 3) := dk_180 1 190 (dk_at dksX7_back_0 1 rfl rfl)
theorem dX7_back_4 : decode cX7_back 4 = .ok (.ifCond .ne 10, 3) := dk_154 0 10 (dk_at dksX7_back_0 4 rfl rfl)
theorem dX7_back_7 : decode cX7_back 7 = .ok (.aload_n 0, 1) := dk_42 (dk_at dksX7_back_0 7 rfl rfl)
theorem dX7_back_8 : decode cX7_back 8 = .ok (.bipush (-2), 2) := dk_16 254 (dk_at dksX7_back_0 8 rfl rfl)
theorem dX7_back_10 : decode cX7_back 10 = .ok (.invokevirtual 80, 3) := dk_182 0 80 (dk_at dksX7_back_0 10 rfl rfl)
theorem dX7_back_13 : decode cX7_back 13 = .ok (.ireturn, 1) := dk_172 (dk_at dksX7_back_0 13 rfl rfl)
theorem dX7_back_14 : decode cX7_back 14 = .ok (.iconst 0, 1) := dk_3 (dk_at dksX7_back_0 14 rfl rfl)
theorem dX7_back_15 : decode cX7_back 15 = .ok (.istore_n 1, 1) := dk_60 (dk_at dksX7_back_0 15 rfl rfl)
theorem dX7_back_16 : decode cX7_back 16 = .ok (.iload_n 1, 1) := dk_27 (dk_at dksX7_back_0 16 rfl rfl)
theorem dX7_back_17 : decode cX7_back 17 = .ok (.sipush 4536, 3) := dk_17 17 184 (dk_at dksX7_back_0 17 rfl rfl)
theorem dX7_back_20 : decode cX7_back 20 = .ok (.if_icmp .ge 21, 3) := dk_162 0 21 (dk_at dksX7_back_0 20 rfl rfl)
theorem dX7_back_23 : decode cX7_back 23 = .ok (.aload_n 0, 1) := dk_42 (dk_at dksX7_back_0 23 rfl rfl)
theorem dX7_back_24 : decode cX7_back 24 = .ok (.getfield 13, 3) := dk_180 0 13 (dk_at dksX7_back_1 0 rfl rfl)
theorem dX7_back_27 : decode cX7_back 27 = .ok (.iload_n 1, 1) := dk_27 (dk_at dksX7_back_1 3 rfl rfl)
theorem dX7_back_28 : decode cX7_back 28 = .ok (.aload_n 0, 1) := dk_42 (dk_at dksX7_back_1 4 rfl rfl)
theorem dX7_back_29 : decode cX7_back 29 = .ok (.getfield 58, 3) := dk_180 0 58 (dk_at dksX7_back_1 5 rfl rfl)
theorem dX7_back_32 : decode cX7_back 32 = .ok (.iload_n 1, 1) := dk_27 (dk_at dksX7_back_1 8 rfl rfl)
theorem dX7_back_33 : decode cX7_back 33 = .ok (.iaload, 1) := dk_46 (dk_at dksX7_back_1 9 rfl rfl)
theorem dX7_back_34 : decode cX7_back 34 = .ok (.iastore, 1) := dk_79 (dk_at dksX7_back_1 10 rfl rfl)
theorem dX7_back_35 : decode cX7_back 35 = .ok (.iinc 1 1, 3) := dk_132 1 1 (dk_at dksX7_back_1 11 rfl rfl)
theorem dX7_back_38 : decode cX7_back 38 = .ok (.goto (-22), 3) := dk_167 255 234 (dk_at dksX7_back_1 14 rfl rfl)
theorem dX7_back_41 : decode cX7_back 41 = .ok (.iconst 0, 1) := dk_3 (dk_at dksX7_back_1 17 rfl rfl)
theorem dX7_back_42 : decode cX7_back 42 = .ok (.istore_n 1, 1) := dk_60 (dk_at dksX7_back_1 18 rfl rfl)
theorem dX7_back_43 : decode cX7_back 43 = .ok (.iload_n 1, 1) := dk_27 (dk_at dksX7_back_1 19 rfl rfl)
theorem dX7_back_44 : decode cX7_back 44 = .ok (.bipush 8, 2) := dk_16 8 (dk_at dksX7_back_1 20 rfl rfl)
theorem dX7_back_46 : decode cX7_back 46 = .ok (.if_icmp .ge 21, 3) := dk_162 0 21 (dk_at dksX7_back_2 0 rfl rfl)
theorem dX7_back_49 : decode cX7_back 49 = .ok (.aload_n 0, 1) := dk_42 (dk_at dksX7_back_2 3 rfl rfl)
theorem dX7_back_50 : decode cX7_back 50 = .ok (.getfield 17, 3) := dk_180 0 17 (dk_at dksX7_back_2 4 rfl rfl)
theorem dX7_back_53 : decode cX7_back 53 = .ok (.iload_n 1, 1) := dk_27 (dk_at dksX7_back_2 7 rfl rfl)
theorem dX7_back_54 : decode cX7_back 54 = .ok (.aload_n 0, 1) := dk_42 (dk_at dksX7_back_2 8 rfl rfl)
theorem dX7_back_55 : decode cX7_back 55 = .ok (.getfield 61, 3) := dk_180 0 61 (dk_at dksX7_back_2 9 rfl rfl)
theorem dX7_back_58 : decode cX7_back 58 = .ok (.iload_n 1, 1) := dk_27 (dk_at dksX7_back_2 12 rfl rfl)
theorem dX7_back_59 : decode cX7_back 59 = .ok (.laload, 1) := dk_47 (dk_at dksX7_back_2 13 rfl rfl)
theorem dX7_back_60 : decode cX7_back 60 = .ok (.lastore, 1) := dk_80 (dk_at dksX7_back_2 14 rfl rfl)
theorem dX7_back_61 : decode cX7_back 61 = .ok (.iinc 1 1, 3) := dk_132 1 1 (dk_at dksX7_back_2 15 rfl rfl)
theorem dX7_back_64 : decode cX7_back 64 = .ok (.goto (-21), 3) := dk_167 255 235 (dk_at dksX7_back_2 18 rfl rfl)
theorem dX7_back_67 : decode cX7_back 67 = .ok (.aload_n 0, 1) := dk_42 (dk_at dksX7_back_2 21 rfl rfl)
theorem dX7_back_68 : decode cX7_back 68 = .ok (.getfield 13, 3) := dk_180 0 13 (dk_at dksX7_back_3 0 rfl rfl)
theorem dX7_back_71 : decode cX7_back 71 = .ok (.iconst 0, 1) := dk_3 (dk_at dksX7_back_3 3 rfl rfl)
theorem dX7_back_72 : decode cX7_back 72 = .ok (.iaload, 1) := dk_46 (dk_at dksX7_back_3 4 rfl rfl)
theorem dX7_back_73 : decode cX7_back 73 = .ok (.ireturn, 1) := dk_172 (dk_at dksX7_back_3 5 rfl rfl)
abbrev cX7_tally : ByteArray := prog_19_method_116_code
def yX7_tally : MethodName := ⟨RX7, "tally", "(I)I"⟩
def dkwX7_tally_7 : List UInt8 := [167, 255, 227, 28, 172, 42, 16, 249, 182, 0, 80, 172]
abbrev dktX7_tally_7 : List UInt8 := dkwX7_tally_7 ++ []
def dkwX7_tally_6 : List UInt8 := [46, 162, 0, 25, 28, 42, 29, 182, 0, 133, 153, 0, 7, 4, 167, 0, 4, 3, 96, 61, 132, 3, 1]
abbrev dktX7_tally_6 : List UInt8 := dkwX7_tally_6 ++ dktX7_tally_7
def dkwX7_tally_5 : List UInt8 := [8, 46, 172, 42, 180, 0, 13, 16, 6, 46, 172, 42, 182, 1, 134, 172, 3, 62, 29, 42, 180, 0, 13, 4]
abbrev dktX7_tally_5 : List UInt8 := dkwX7_tally_5 ++ dktX7_tally_6
def dkwX7_tally_4 : List UInt8 := [132, 3, 1, 167, 255, 238, 28, 172, 42, 180, 0, 13, 7, 46, 172, 42, 180, 1, 70, 172, 42, 180, 0, 13]
abbrev dktX7_tally_4 : List UInt8 := dkwX7_tally_4 ++ dktX7_tally_5
def dkwX7_tally_3 : List UInt8 := [180, 0, 13, 6, 46, 172, 3, 62, 29, 16, 60, 162, 0, 18, 28, 42, 29, 3, 182, 0, 149, 96, 61]
abbrev dktX7_tally_3 : List UInt8 := dkwX7_tally_3 ++ dktX7_tally_4
def dkwX7_tally_2 : List UInt8 := [42, 180, 0, 13, 3, 46, 172, 42, 180, 0, 13, 4, 46, 172, 42, 180, 0, 13, 5, 46, 172, 42]
abbrev dktX7_tally_2 : List UInt8 := dkwX7_tally_2 ++ dktX7_tally_3
def dkwX7_tally_1 : List UInt8 := [170, 0, 0, 0, 178, 0, 0, 0, 0, 0, 0, 0, 10, 0, 0, 0, 57, 0, 0, 0, 64, 0, 0, 0, 71, 0, 0, 0, 78, 0, 0, 0, 85, 0, 0, 0, 110, 0, 0, 0, 117, 0, 0, 0, 122, 0, 0, 0, 129, 0, 0, 0, 137, 0, 0, 0, 142]
abbrev dktX7_tally_1 : List UInt8 := dkwX7_tally_1 ++ dktX7_tally_2
def dkwX7_tally_0 : List UInt8 := [3, 61, 27]
abbrev dktX7_tally_0 : List UInt8 := dkwX7_tally_0 ++ dktX7_tally_1
theorem dksX7_tally_0 : cX7_tally.data.toList.drop 0 = dktX7_tally_0 := by decide +kernel
theorem dksX7_tally_1 : cX7_tally.data.toList.drop 3 = dktX7_tally_1 := dk_seg dksX7_tally_0 3 rfl rfl
theorem dksX7_tally_2 : cX7_tally.data.toList.drop 60 = dktX7_tally_2 := dk_seg dksX7_tally_1 57 rfl rfl
theorem dksX7_tally_3 : cX7_tally.data.toList.drop 82 = dktX7_tally_3 := dk_seg dksX7_tally_2 22 rfl rfl
theorem dksX7_tally_4 : cX7_tally.data.toList.drop 105 = dktX7_tally_4 := dk_seg dksX7_tally_3 23 rfl rfl
theorem dksX7_tally_5 : cX7_tally.data.toList.drop 129 = dktX7_tally_5 := dk_seg dksX7_tally_4 24 rfl rfl
theorem dksX7_tally_6 : cX7_tally.data.toList.drop 153 = dktX7_tally_6 := dk_seg dksX7_tally_5 24 rfl rfl
theorem dksX7_tally_7 : cX7_tally.data.toList.drop 176 = dktX7_tally_7 := dk_seg dksX7_tally_6 23 rfl rfl
theorem dX7_tally_0 : decode cX7_tally 0 = .ok (.iconst 0, 1) := dk_3 (dk_at dksX7_tally_0 0 rfl rfl)
theorem dX7_tally_1 : decode cX7_tally 1 = .ok (.istore_n 2, 1) := dk_61 (dk_at dksX7_tally_0 1 rfl rfl)
theorem dX7_tally_2 : decode cX7_tally 2 = .ok (.iload_n 1, 1) := dk_27 (dk_at dksX7_tally_0 2 rfl rfl)
theorem dX7_tally_3 : decode cX7_tally 3 = .ok (.tableswitch 178 0 10 #[57, 64, 71, 78, 85, 110, 117, 122, 129, 137, 142], 57) := by decide +kernel
theorem dX7_tally_60 : decode cX7_tally 60 = .ok (.aload_n 0, 1) := dk_42 (dk_at dksX7_tally_2 0 rfl rfl)
theorem dX7_tally_61 : decode cX7_tally 61 = .ok (.getfield 13, 3) := dk_180 0 13 (dk_at dksX7_tally_2 1 rfl rfl)
theorem dX7_tally_64 : decode cX7_tally 64 = .ok (.iconst 0, 1) := dk_3 (dk_at dksX7_tally_2 4 rfl rfl)
theorem dX7_tally_65 : decode cX7_tally 65 = .ok (.iaload, 1) := dk_46 (dk_at dksX7_tally_2 5 rfl rfl)
theorem dX7_tally_66 : decode cX7_tally 66 = .ok (.ireturn, 1) := dk_172 (dk_at dksX7_tally_2 6 rfl rfl)
theorem dX7_tally_67 : decode cX7_tally 67 = .ok (.aload_n 0, 1) := dk_42 (dk_at dksX7_tally_2 7 rfl rfl)
theorem dX7_tally_68 : decode cX7_tally 68 = .ok (.getfield 13, 3) := dk_180 0 13 (dk_at dksX7_tally_2 8 rfl rfl)
theorem dX7_tally_71 : decode cX7_tally 71 = .ok (.iconst 1, 1) := dk_4 (dk_at dksX7_tally_2 11 rfl rfl)
theorem dX7_tally_72 : decode cX7_tally 72 = .ok (.iaload, 1) := dk_46 (dk_at dksX7_tally_2 12 rfl rfl)
theorem dX7_tally_73 : decode cX7_tally 73 = .ok (.ireturn, 1) := dk_172 (dk_at dksX7_tally_2 13 rfl rfl)
theorem dX7_tally_74 : decode cX7_tally 74 = .ok (.aload_n 0, 1) := dk_42 (dk_at dksX7_tally_2 14 rfl rfl)
theorem dX7_tally_75 : decode cX7_tally 75 = .ok (.getfield 13, 3) := dk_180 0 13 (dk_at dksX7_tally_2 15 rfl rfl)
theorem dX7_tally_78 : decode cX7_tally 78 = .ok (.iconst 2, 1) := dk_5 (dk_at dksX7_tally_2 18 rfl rfl)
theorem dX7_tally_79 : decode cX7_tally 79 = .ok (.iaload, 1) := dk_46 (dk_at dksX7_tally_2 19 rfl rfl)
theorem dX7_tally_80 : decode cX7_tally 80 = .ok (.ireturn, 1) := dk_172 (dk_at dksX7_tally_2 20 rfl rfl)
theorem dX7_tally_81 : decode cX7_tally 81 = .ok (.aload_n 0, 1) := dk_42 (dk_at dksX7_tally_2 21 rfl rfl)
theorem dX7_tally_82 : decode cX7_tally 82 = .ok (.getfield 13, 3) := dk_180 0 13 (dk_at dksX7_tally_3 0 rfl rfl)
theorem dX7_tally_85 : decode cX7_tally 85 = .ok (.iconst 3, 1) := dk_6 (dk_at dksX7_tally_3 3 rfl rfl)
theorem dX7_tally_86 : decode cX7_tally 86 = .ok (.iaload, 1) := dk_46 (dk_at dksX7_tally_3 4 rfl rfl)
theorem dX7_tally_87 : decode cX7_tally 87 = .ok (.ireturn, 1) := dk_172 (dk_at dksX7_tally_3 5 rfl rfl)
theorem dX7_tally_88 : decode cX7_tally 88 = .ok (.iconst 0, 1) := dk_3 (dk_at dksX7_tally_3 6 rfl rfl)
theorem dX7_tally_89 : decode cX7_tally 89 = .ok (.istore_n 3, 1) := dk_62 (dk_at dksX7_tally_3 7 rfl rfl)
theorem dX7_tally_90 : decode cX7_tally 90 = .ok (.iload_n 3, 1) := dk_29 (dk_at dksX7_tally_3 8 rfl rfl)
theorem dX7_tally_91 : decode cX7_tally 91 = .ok (.bipush 60, 2) := dk_16 60 (dk_at dksX7_tally_3 9 rfl rfl)
theorem dX7_tally_93 : decode cX7_tally 93 = .ok (.if_icmp .ge 18, 3) := dk_162 0 18 (dk_at dksX7_tally_3 11 rfl rfl)
theorem dX7_tally_96 : decode cX7_tally 96 = .ok (.iload_n 2, 1) := dk_28 (dk_at dksX7_tally_3 14 rfl rfl)
theorem dX7_tally_97 : decode cX7_tally 97 = .ok (.aload_n 0, 1) := dk_42 (dk_at dksX7_tally_3 15 rfl rfl)
theorem dX7_tally_98 : decode cX7_tally 98 = .ok (.iload_n 3, 1) := dk_29 (dk_at dksX7_tally_3 16 rfl rfl)
theorem dX7_tally_99 : decode cX7_tally 99 = .ok (.iconst 0, 1) := dk_3 (dk_at dksX7_tally_3 17 rfl rfl)
theorem dX7_tally_100 : decode cX7_tally 100 = .ok (.invokevirtual 149, 3) := dk_182 0 149 (dk_at dksX7_tally_3 18 rfl rfl)
theorem dX7_tally_103 : decode cX7_tally 103 = .ok (.iadd, 1) := dk_96 (dk_at dksX7_tally_3 21 rfl rfl)
theorem dX7_tally_104 : decode cX7_tally 104 = .ok (.istore_n 2, 1) := dk_61 (dk_at dksX7_tally_3 22 rfl rfl)
theorem dX7_tally_105 : decode cX7_tally 105 = .ok (.iinc 3 1, 3) := dk_132 3 1 (dk_at dksX7_tally_4 0 rfl rfl)
theorem dX7_tally_108 : decode cX7_tally 108 = .ok (.goto (-18), 3) := dk_167 255 238 (dk_at dksX7_tally_4 3 rfl rfl)
theorem dX7_tally_111 : decode cX7_tally 111 = .ok (.iload_n 2, 1) := dk_28 (dk_at dksX7_tally_4 6 rfl rfl)
theorem dX7_tally_112 : decode cX7_tally 112 = .ok (.ireturn, 1) := dk_172 (dk_at dksX7_tally_4 7 rfl rfl)
theorem dX7_tally_113 : decode cX7_tally 113 = .ok (.aload_n 0, 1) := dk_42 (dk_at dksX7_tally_4 8 rfl rfl)
theorem dX7_tally_114 : decode cX7_tally 114 = .ok (.getfield 13, 3) := dk_180 0 13 (dk_at dksX7_tally_4 9 rfl rfl)
theorem dX7_tally_117 : decode cX7_tally 117 = .ok (.iconst 4, 1) := dk_7 (dk_at dksX7_tally_4 12 rfl rfl)
theorem dX7_tally_118 : decode cX7_tally 118 = .ok (.iaload, 1) := dk_46 (dk_at dksX7_tally_4 13 rfl rfl)
theorem dX7_tally_119 : decode cX7_tally 119 = .ok (.ireturn, 1) := dk_172 (dk_at dksX7_tally_4 14 rfl rfl)
theorem dX7_tally_120 : decode cX7_tally 120 = .ok (.aload_n 0, 1) := dk_42 (dk_at dksX7_tally_4 15 rfl rfl)
theorem dX7_tally_121 : decode cX7_tally 121 = .ok (.getfield 326, 3) := dk_180 1 70 (dk_at dksX7_tally_4 16 rfl rfl)
theorem dX7_tally_124 : decode cX7_tally 124 = .ok (.ireturn, 1) := dk_172 (dk_at dksX7_tally_4 19 rfl rfl)
theorem dX7_tally_125 : decode cX7_tally 125 = .ok (.aload_n 0, 1) := dk_42 (dk_at dksX7_tally_4 20 rfl rfl)
theorem dX7_tally_126 : decode cX7_tally 126 = .ok (.getfield 13, 3) := dk_180 0 13 (dk_at dksX7_tally_4 21 rfl rfl)
theorem dX7_tally_129 : decode cX7_tally 129 = .ok (.iconst 5, 1) := dk_8 (dk_at dksX7_tally_5 0 rfl rfl)
theorem dX7_tally_130 : decode cX7_tally 130 = .ok (.iaload, 1) := dk_46 (dk_at dksX7_tally_5 1 rfl rfl)
theorem dX7_tally_131 : decode cX7_tally 131 = .ok (.ireturn, 1) := dk_172 (dk_at dksX7_tally_5 2 rfl rfl)
theorem dX7_tally_132 : decode cX7_tally 132 = .ok (.aload_n 0, 1) := dk_42 (dk_at dksX7_tally_5 3 rfl rfl)
theorem dX7_tally_133 : decode cX7_tally 133 = .ok (.getfield 13, 3) := dk_180 0 13 (dk_at dksX7_tally_5 4 rfl rfl)
theorem dX7_tally_136 : decode cX7_tally 136 = .ok (.bipush 6, 2) := dk_16 6 (dk_at dksX7_tally_5 7 rfl rfl)
theorem dX7_tally_138 : decode cX7_tally 138 = .ok (.iaload, 1) := dk_46 (dk_at dksX7_tally_5 9 rfl rfl)
theorem dX7_tally_139 : decode cX7_tally 139 = .ok (.ireturn, 1) := dk_172 (dk_at dksX7_tally_5 10 rfl rfl)
theorem dX7_tally_140 : decode cX7_tally 140 = .ok (.aload_n 0, 1) := dk_42 (dk_at dksX7_tally_5 11 rfl rfl)
theorem dX7_tally_141 : decode cX7_tally 141 = .ok (.invokevirtual 390, 3) := dk_182 1 134 (dk_at dksX7_tally_5 12 rfl rfl)
theorem dX7_tally_144 : decode cX7_tally 144 = .ok (.ireturn, 1) := dk_172 (dk_at dksX7_tally_5 15 rfl rfl)
theorem dX7_tally_145 : decode cX7_tally 145 = .ok (.iconst 0, 1) := dk_3 (dk_at dksX7_tally_5 16 rfl rfl)
theorem dX7_tally_146 : decode cX7_tally 146 = .ok (.istore_n 3, 1) := dk_62 (dk_at dksX7_tally_5 17 rfl rfl)
theorem dX7_tally_147 : decode cX7_tally 147 = .ok (.iload_n 3, 1) := dk_29 (dk_at dksX7_tally_5 18 rfl rfl)
theorem dX7_tally_148 : decode cX7_tally 148 = .ok (.aload_n 0, 1) := dk_42 (dk_at dksX7_tally_5 19 rfl rfl)
theorem dX7_tally_149 : decode cX7_tally 149 = .ok (.getfield 13, 3) := dk_180 0 13 (dk_at dksX7_tally_5 20 rfl rfl)
theorem dX7_tally_152 : decode cX7_tally 152 = .ok (.iconst 1, 1) := dk_4 (dk_at dksX7_tally_5 23 rfl rfl)
theorem dX7_tally_153 : decode cX7_tally 153 = .ok (.iaload, 1) := dk_46 (dk_at dksX7_tally_6 0 rfl rfl)
theorem dX7_tally_154 : decode cX7_tally 154 = .ok (.if_icmp .ge 25, 3) := dk_162 0 25 (dk_at dksX7_tally_6 1 rfl rfl)
theorem dX7_tally_157 : decode cX7_tally 157 = .ok (.iload_n 2, 1) := dk_28 (dk_at dksX7_tally_6 4 rfl rfl)
theorem dX7_tally_158 : decode cX7_tally 158 = .ok (.aload_n 0, 1) := dk_42 (dk_at dksX7_tally_6 5 rfl rfl)
theorem dX7_tally_159 : decode cX7_tally 159 = .ok (.iload_n 3, 1) := dk_29 (dk_at dksX7_tally_6 6 rfl rfl)
theorem dX7_tally_160 : decode cX7_tally 160 = .ok (.invokevirtual 133, 3) := dk_182 0 133 (dk_at dksX7_tally_6 7 rfl rfl)
theorem dX7_tally_163 : decode cX7_tally 163 = .ok (.ifCond .eq 7, 3) := dk_153 0 7 (dk_at dksX7_tally_6 10 rfl rfl)
theorem dX7_tally_166 : decode cX7_tally 166 = .ok (.iconst 1, 1) := dk_4 (dk_at dksX7_tally_6 13 rfl rfl)
theorem dX7_tally_167 : decode cX7_tally 167 = .ok (.goto 4, 3) := dk_167 0 4 (dk_at dksX7_tally_6 14 rfl rfl)
theorem dX7_tally_170 : decode cX7_tally 170 = .ok (.iconst 0, 1) := dk_3 (dk_at dksX7_tally_6 17 rfl rfl)
theorem dX7_tally_171 : decode cX7_tally 171 = .ok (.iadd, 1) := dk_96 (dk_at dksX7_tally_6 18 rfl rfl)
theorem dX7_tally_172 : decode cX7_tally 172 = .ok (.istore_n 2, 1) := dk_61 (dk_at dksX7_tally_6 19 rfl rfl)
theorem dX7_tally_173 : decode cX7_tally 173 = .ok (.iinc 3 1, 3) := dk_132 3 1 (dk_at dksX7_tally_6 20 rfl rfl)
theorem dX7_tally_176 : decode cX7_tally 176 = .ok (.goto (-29), 3) := dk_167 255 227 (dk_at dksX7_tally_7 0 rfl rfl)
theorem dX7_tally_179 : decode cX7_tally 179 = .ok (.iload_n 2, 1) := dk_28 (dk_at dksX7_tally_7 3 rfl rfl)
theorem dX7_tally_180 : decode cX7_tally 180 = .ok (.ireturn, 1) := dk_172 (dk_at dksX7_tally_7 4 rfl rfl)
theorem dX7_tally_181 : decode cX7_tally 181 = .ok (.aload_n 0, 1) := dk_42 (dk_at dksX7_tally_7 5 rfl rfl)
theorem dX7_tally_182 : decode cX7_tally 182 = .ok (.bipush (-7), 2) := dk_16 249 (dk_at dksX7_tally_7 6 rfl rfl)
theorem dX7_tally_184 : decode cX7_tally 184 = .ok (.invokevirtual 80, 3) := dk_182 0 80 (dk_at dksX7_tally_7 8 rfl rfl)
theorem dX7_tally_187 : decode cX7_tally 187 = .ok (.ireturn, 1) := dk_172 (dk_at dksX7_tally_7 11 rfl rfl)
abbrev cX7_lay : ByteArray := prog_19_method_117_code
def yX7_lay : MethodName := ⟨RX7, "lay", "(I)I"⟩
def dkwX7_lay_2 : List UInt8 := [132, 2, 1, 167, 255, 241, 27, 172]
abbrev dktX7_lay_2 : List UInt8 := dkwX7_lay_2 ++ []
def dkwX7_lay_1 : List UInt8 := [42, 4, 181, 1, 100, 42, 27, 181, 1, 103, 3, 61, 28, 27, 162, 0, 16, 42, 180, 0, 70, 28, 3, 79]
abbrev dktX7_lay_1 : List UInt8 := dkwX7_lay_1 ++ dktX7_lay_2
def dkwX7_lay_0 : List UInt8 := [27, 156, 0, 10, 42, 16, 252, 182, 0, 80, 172, 27, 16, 100, 164, 0, 10, 42, 16, 249, 182, 0, 80, 172]
abbrev dktX7_lay_0 : List UInt8 := dkwX7_lay_0 ++ dktX7_lay_1
theorem dksX7_lay_0 : cX7_lay.data.toList.drop 0 = dktX7_lay_0 := by decide +kernel
theorem dksX7_lay_1 : cX7_lay.data.toList.drop 24 = dktX7_lay_1 := dk_seg dksX7_lay_0 24 rfl rfl
theorem dksX7_lay_2 : cX7_lay.data.toList.drop 48 = dktX7_lay_2 := dk_seg dksX7_lay_1 24 rfl rfl
theorem dX7_lay_0 : decode cX7_lay 0 = .ok (.iload_n 1, 1) := dk_27 (dk_at dksX7_lay_0 0 rfl rfl)
theorem dX7_lay_1 : decode cX7_lay 1 = .ok (.ifCond .ge 10, 3) := dk_156 0 10 (dk_at dksX7_lay_0 1 rfl rfl)
theorem dX7_lay_4 : decode cX7_lay 4 = .ok (.aload_n 0, 1) := dk_42 (dk_at dksX7_lay_0 4 rfl rfl)
theorem dX7_lay_5 : decode cX7_lay 5 = .ok (.bipush (-4), 2) := dk_16 252 (dk_at dksX7_lay_0 5 rfl rfl)
theorem dX7_lay_7 : decode cX7_lay 7 = .ok (.invokevirtual 80, 3) := dk_182 0 80 (dk_at dksX7_lay_0 7 rfl rfl)
theorem dX7_lay_10 : decode cX7_lay 10 = .ok (.ireturn, 1) := dk_172 (dk_at dksX7_lay_0 10 rfl rfl)
theorem dX7_lay_11 : decode cX7_lay 11 = .ok (.iload_n 1, 1) := dk_27 (dk_at dksX7_lay_0 11 rfl rfl)
theorem dX7_lay_12 : decode cX7_lay 12 = .ok (.bipush 100, 2) := dk_16 100 (dk_at dksX7_lay_0 12 rfl rfl)
theorem dX7_lay_14 : decode cX7_lay 14 = .ok (.if_icmp .le 10, 3) := dk_164 0 10 (dk_at dksX7_lay_0 14 rfl rfl)
theorem dX7_lay_17 : decode cX7_lay 17 = .ok (.aload_n 0, 1) := dk_42 (dk_at dksX7_lay_0 17 rfl rfl)
theorem dX7_lay_18 : decode cX7_lay 18 = .ok (.bipush (-7), 2) := dk_16 249 (dk_at dksX7_lay_0 18 rfl rfl)
theorem dX7_lay_20 : decode cX7_lay 20 = .ok (.invokevirtual 80, 3) := dk_182 0 80 (dk_at dksX7_lay_0 20 rfl rfl)
theorem dX7_lay_23 : decode cX7_lay 23 = .ok (.ireturn, 1) := dk_172 (dk_at dksX7_lay_0 23 rfl rfl)
theorem dX7_lay_24 : decode cX7_lay 24 = .ok (.aload_n 0, 1) := dk_42 (dk_at dksX7_lay_1 0 rfl rfl)
theorem dX7_lay_25 : decode cX7_lay 25 = .ok (.iconst 1, 1) := dk_4 (dk_at dksX7_lay_1 1 rfl rfl)
theorem dX7_lay_26 : decode cX7_lay 26 = .ok (.putfield 356, 3) := dk_181 1 100 (dk_at dksX7_lay_1 2 rfl rfl)
theorem dX7_lay_29 : decode cX7_lay 29 = .ok (.aload_n 0, 1) := dk_42 (dk_at dksX7_lay_1 5 rfl rfl)
theorem dX7_lay_30 : decode cX7_lay 30 = .ok (.iload_n 1, 1) := dk_27 (dk_at dksX7_lay_1 6 rfl rfl)
theorem dX7_lay_31 : decode cX7_lay 31 = .ok (.putfield 359, 3) := dk_181 1 103 (dk_at dksX7_lay_1 7 rfl rfl)
theorem dX7_lay_34 : decode cX7_lay 34 = .ok (.iconst 0, 1) := dk_3 (dk_at dksX7_lay_1 10 rfl rfl)
theorem dX7_lay_35 : decode cX7_lay 35 = .ok (.istore_n 2, 1) := dk_61 (dk_at dksX7_lay_1 11 rfl rfl)
theorem dX7_lay_36 : decode cX7_lay 36 = .ok (.iload_n 2, 1) := dk_28 (dk_at dksX7_lay_1 12 rfl rfl)
theorem dX7_lay_37 : decode cX7_lay 37 = .ok (.iload_n 1, 1) := dk_27 (dk_at dksX7_lay_1 13 rfl rfl)
theorem dX7_lay_38 : decode cX7_lay 38 = .ok (.if_icmp .ge 16, 3) := dk_162 0 16 (dk_at dksX7_lay_1 14 rfl rfl)
theorem dX7_lay_41 : decode cX7_lay 41 = .ok (.aload_n 0, 1) := dk_42 (dk_at dksX7_lay_1 17 rfl rfl)
theorem dX7_lay_42 : decode cX7_lay 42 = .ok (.getfield 70, 3) := dk_180 0 70 (dk_at dksX7_lay_1 18 rfl rfl)
theorem dX7_lay_45 : decode cX7_lay 45 = .ok (.iload_n 2, 1) := dk_28 (dk_at dksX7_lay_1 21 rfl rfl)
theorem dX7_lay_46 : decode cX7_lay 46 = .ok (.iconst 0, 1) := dk_3 (dk_at dksX7_lay_1 22 rfl rfl)
theorem dX7_lay_47 : decode cX7_lay 47 = .ok (.iastore, 1) := dk_79 (dk_at dksX7_lay_1 23 rfl rfl)
theorem dX7_lay_48 : decode cX7_lay 48 = .ok (.iinc 2 1, 3) := dk_132 2 1 (dk_at dksX7_lay_2 0 rfl rfl)
theorem dX7_lay_51 : decode cX7_lay 51 = .ok (.goto (-15), 3) := dk_167 255 241 (dk_at dksX7_lay_2 3 rfl rfl)
theorem dX7_lay_54 : decode cX7_lay 54 = .ok (.iload_n 1, 1) := dk_27 (dk_at dksX7_lay_2 6 rfl rfl)
theorem dX7_lay_55 : decode cX7_lay 55 = .ok (.ireturn, 1) := dk_172 (dk_at dksX7_lay_2 7 rfl rfl)
abbrev cX7_set : ByteArray := prog_19_method_118_code
def yX7_set : MethodName := ⟨RX7, "set", "(II)I"⟩
def dkwX7_set_2 : List UInt8 := [27, 28, 79, 29, 172]
abbrev dktX7_set_2 : List UInt8 := dkwX7_set_2 ++ []
def dkwX7_set_1 : List UInt8 := [184, 0, 76, 154, 0, 10, 42, 16, 253, 182, 0, 165, 172, 42, 180, 0, 70, 27, 46, 62, 42, 180, 0, 70]
abbrev dktX7_set_1 : List UInt8 := dkwX7_set_1 ++ dktX7_set_2
def dkwX7_set_0 : List UInt8 := [42, 180, 1, 100, 154, 0, 10, 42, 16, 254, 182, 0, 165, 172, 27, 3, 42, 180, 1, 103, 4, 100]
abbrev dktX7_set_0 : List UInt8 := dkwX7_set_0 ++ dktX7_set_1
theorem dksX7_set_0 : cX7_set.data.toList.drop 0 = dktX7_set_0 := by decide +kernel
theorem dksX7_set_1 : cX7_set.data.toList.drop 22 = dktX7_set_1 := dk_seg dksX7_set_0 22 rfl rfl
theorem dksX7_set_2 : cX7_set.data.toList.drop 46 = dktX7_set_2 := dk_seg dksX7_set_1 24 rfl rfl
theorem dX7_set_0 : decode cX7_set 0 = .ok (.aload_n 0, 1) := dk_42 (dk_at dksX7_set_0 0 rfl rfl)
theorem dX7_set_1 : decode cX7_set 1 = .ok (.getfield 356, 3) := dk_180 1 100 (dk_at dksX7_set_0 1 rfl rfl)
theorem dX7_set_4 : decode cX7_set 4 = .ok (.ifCond .ne 10, 3) := dk_154 0 10 (dk_at dksX7_set_0 4 rfl rfl)
theorem dX7_set_7 : decode cX7_set 7 = .ok (.aload_n 0, 1) := dk_42 (dk_at dksX7_set_0 7 rfl rfl)
theorem dX7_set_8 : decode cX7_set 8 = .ok (.bipush (-2), 2) := dk_16 254 (dk_at dksX7_set_0 8 rfl rfl)
theorem dX7_set_10 : decode cX7_set 10 = .ok (.invokevirtual 165, 3) := dk_182 0 165 (dk_at dksX7_set_0 10 rfl rfl)
theorem dX7_set_13 : decode cX7_set 13 = .ok (.ireturn, 1) := dk_172 (dk_at dksX7_set_0 13 rfl rfl)
theorem dX7_set_14 : decode cX7_set 14 = .ok (.iload_n 1, 1) := dk_27 (dk_at dksX7_set_0 14 rfl rfl)
theorem dX7_set_15 : decode cX7_set 15 = .ok (.iconst 0, 1) := dk_3 (dk_at dksX7_set_0 15 rfl rfl)
theorem dX7_set_16 : decode cX7_set 16 = .ok (.aload_n 0, 1) := dk_42 (dk_at dksX7_set_0 16 rfl rfl)
theorem dX7_set_17 : decode cX7_set 17 = .ok (.getfield 359, 3) := dk_180 1 103 (dk_at dksX7_set_0 17 rfl rfl)
theorem dX7_set_20 : decode cX7_set 20 = .ok (.iconst 1, 1) := dk_4 (dk_at dksX7_set_0 20 rfl rfl)
theorem dX7_set_21 : decode cX7_set 21 = .ok (.isub, 1) := dk_100 (dk_at dksX7_set_0 21 rfl rfl)
theorem dX7_set_22 : decode cX7_set 22 = .ok (.invokestatic 76, 3) := dk_184 0 76 (dk_at dksX7_set_1 0 rfl rfl)
theorem dX7_set_25 : decode cX7_set 25 = .ok (.ifCond .ne 10, 3) := dk_154 0 10 (dk_at dksX7_set_1 3 rfl rfl)
theorem dX7_set_28 : decode cX7_set 28 = .ok (.aload_n 0, 1) := dk_42 (dk_at dksX7_set_1 6 rfl rfl)
theorem dX7_set_29 : decode cX7_set 29 = .ok (.bipush (-3), 2) := dk_16 253 (dk_at dksX7_set_1 7 rfl rfl)
theorem dX7_set_31 : decode cX7_set 31 = .ok (.invokevirtual 165, 3) := dk_182 0 165 (dk_at dksX7_set_1 9 rfl rfl)
theorem dX7_set_34 : decode cX7_set 34 = .ok (.ireturn, 1) := dk_172 (dk_at dksX7_set_1 12 rfl rfl)
theorem dX7_set_35 : decode cX7_set 35 = .ok (.aload_n 0, 1) := dk_42 (dk_at dksX7_set_1 13 rfl rfl)
theorem dX7_set_36 : decode cX7_set 36 = .ok (.getfield 70, 3) := dk_180 0 70 (dk_at dksX7_set_1 14 rfl rfl)
theorem dX7_set_39 : decode cX7_set 39 = .ok (.iload_n 1, 1) := dk_27 (dk_at dksX7_set_1 17 rfl rfl)
theorem dX7_set_40 : decode cX7_set 40 = .ok (.iaload, 1) := dk_46 (dk_at dksX7_set_1 18 rfl rfl)
theorem dX7_set_41 : decode cX7_set 41 = .ok (.istore_n 3, 1) := dk_62 (dk_at dksX7_set_1 19 rfl rfl)
theorem dX7_set_42 : decode cX7_set 42 = .ok (.aload_n 0, 1) := dk_42 (dk_at dksX7_set_1 20 rfl rfl)
theorem dX7_set_43 : decode cX7_set 43 = .ok (.getfield 70, 3) := dk_180 0 70 (dk_at dksX7_set_1 21 rfl rfl)
theorem dX7_set_46 : decode cX7_set 46 = .ok (.iload_n 1, 1) := dk_27 (dk_at dksX7_set_2 0 rfl rfl)
theorem dX7_set_47 : decode cX7_set 47 = .ok (.iload_n 2, 1) := dk_28 (dk_at dksX7_set_2 1 rfl rfl)
theorem dX7_set_48 : decode cX7_set 48 = .ok (.iastore, 1) := dk_79 (dk_at dksX7_set_2 2 rfl rfl)
theorem dX7_set_49 : decode cX7_set 49 = .ok (.iload_n 3, 1) := dk_29 (dk_at dksX7_set_2 3 rfl rfl)
theorem dX7_set_50 : decode cX7_set 50 = .ok (.ireturn, 1) := dk_172 (dk_at dksX7_set_2 4 rfl rfl)
abbrev cX7_tear : ByteArray := prog_19_method_119_code
def yX7_tear : MethodName := ⟨RX7, "tear", "()I"⟩
def dkwX7_tear_0 : List UInt8 := [42, 180, 1, 100, 153, 0, 7, 4, 167, 0, 4, 3, 60, 42, 3, 181, 1, 100, 27, 172]
abbrev dktX7_tear_0 : List UInt8 := dkwX7_tear_0 ++ []
theorem dksX7_tear_0 : cX7_tear.data.toList.drop 0 = dktX7_tear_0 := by decide +kernel
theorem dX7_tear_0 : decode cX7_tear 0 = .ok (.aload_n 0, 1) := dk_42 (dk_at dksX7_tear_0 0 rfl rfl)
theorem dX7_tear_1 : decode cX7_tear 1 = .ok (.getfield 356, 3) := dk_180 1 100 (dk_at dksX7_tear_0 1 rfl rfl)
theorem dX7_tear_4 : decode cX7_tear 4 = .ok (.ifCond .eq 7, 3) := dk_153 0 7 (dk_at dksX7_tear_0 4 rfl rfl)
theorem dX7_tear_7 : decode cX7_tear 7 = .ok (.iconst 1, 1) := dk_4 (dk_at dksX7_tear_0 7 rfl rfl)
theorem dX7_tear_8 : decode cX7_tear 8 = .ok (.goto 4, 3) := dk_167 0 4 (dk_at dksX7_tear_0 8 rfl rfl)
theorem dX7_tear_11 : decode cX7_tear 11 = .ok (.iconst 0, 1) := dk_3 (dk_at dksX7_tear_0 11 rfl rfl)
theorem dX7_tear_12 : decode cX7_tear 12 = .ok (.istore_n 1, 1) := dk_60 (dk_at dksX7_tear_0 12 rfl rfl)
theorem dX7_tear_13 : decode cX7_tear 13 = .ok (.aload_n 0, 1) := dk_42 (dk_at dksX7_tear_0 13 rfl rfl)
theorem dX7_tear_14 : decode cX7_tear 14 = .ok (.iconst 0, 1) := dk_3 (dk_at dksX7_tear_0 14 rfl rfl)
theorem dX7_tear_15 : decode cX7_tear 15 = .ok (.putfield 356, 3) := dk_181 1 100 (dk_at dksX7_tear_0 15 rfl rfl)
theorem dX7_tear_18 : decode cX7_tear 18 = .ok (.iload_n 1, 1) := dk_27 (dk_at dksX7_tear_0 18 rfl rfl)
theorem dX7_tear_19 : decode cX7_tear 19 = .ok (.ireturn, 1) := dk_172 (dk_at dksX7_tear_0 19 rfl rfl)
abbrev cX7_row : ByteArray := prog_19_method_120_code
def yX7_row : MethodName := ⟨RX7, "row", "(I)I"⟩
def dkwX7_row_1 : List UInt8 := [184, 0, 76, 153, 0, 12, 42, 180, 0, 70, 27, 46, 167, 0, 9, 42, 16, 253, 182, 0, 165, 172]
abbrev dktX7_row_1 : List UInt8 := dkwX7_row_1 ++ []
def dkwX7_row_0 : List UInt8 := [42, 180, 1, 100, 154, 0, 10, 42, 16, 254, 182, 0, 165, 172, 27, 3, 42, 180, 1, 103, 4, 100]
abbrev dktX7_row_0 : List UInt8 := dkwX7_row_0 ++ dktX7_row_1
theorem dksX7_row_0 : cX7_row.data.toList.drop 0 = dktX7_row_0 := by decide +kernel
theorem dksX7_row_1 : cX7_row.data.toList.drop 22 = dktX7_row_1 := dk_seg dksX7_row_0 22 rfl rfl
theorem dX7_row_0 : decode cX7_row 0 = .ok (.aload_n 0, 1) := dk_42 (dk_at dksX7_row_0 0 rfl rfl)
theorem dX7_row_1 : decode cX7_row 1 = .ok (.getfield 356, 3) := dk_180 1 100 (dk_at dksX7_row_0 1 rfl rfl)
theorem dX7_row_4 : decode cX7_row 4 = .ok (.ifCond .ne 10, 3) := dk_154 0 10 (dk_at dksX7_row_0 4 rfl rfl)
theorem dX7_row_7 : decode cX7_row 7 = .ok (.aload_n 0, 1) := dk_42 (dk_at dksX7_row_0 7 rfl rfl)
theorem dX7_row_8 : decode cX7_row 8 = .ok (.bipush (-2), 2) := dk_16 254 (dk_at dksX7_row_0 8 rfl rfl)
theorem dX7_row_10 : decode cX7_row 10 = .ok (.invokevirtual 165, 3) := dk_182 0 165 (dk_at dksX7_row_0 10 rfl rfl)
theorem dX7_row_13 : decode cX7_row 13 = .ok (.ireturn, 1) := dk_172 (dk_at dksX7_row_0 13 rfl rfl)
theorem dX7_row_14 : decode cX7_row 14 = .ok (.iload_n 1, 1) := dk_27 (dk_at dksX7_row_0 14 rfl rfl)
theorem dX7_row_15 : decode cX7_row 15 = .ok (.iconst 0, 1) := dk_3 (dk_at dksX7_row_0 15 rfl rfl)
theorem dX7_row_16 : decode cX7_row 16 = .ok (.aload_n 0, 1) := dk_42 (dk_at dksX7_row_0 16 rfl rfl)
theorem dX7_row_17 : decode cX7_row 17 = .ok (.getfield 359, 3) := dk_180 1 103 (dk_at dksX7_row_0 17 rfl rfl)
theorem dX7_row_20 : decode cX7_row 20 = .ok (.iconst 1, 1) := dk_4 (dk_at dksX7_row_0 20 rfl rfl)
theorem dX7_row_21 : decode cX7_row 21 = .ok (.isub, 1) := dk_100 (dk_at dksX7_row_0 21 rfl rfl)
theorem dX7_row_22 : decode cX7_row 22 = .ok (.invokestatic 76, 3) := dk_184 0 76 (dk_at dksX7_row_1 0 rfl rfl)
theorem dX7_row_25 : decode cX7_row 25 = .ok (.ifCond .eq 12, 3) := dk_153 0 12 (dk_at dksX7_row_1 3 rfl rfl)
theorem dX7_row_28 : decode cX7_row 28 = .ok (.aload_n 0, 1) := dk_42 (dk_at dksX7_row_1 6 rfl rfl)
theorem dX7_row_29 : decode cX7_row 29 = .ok (.getfield 70, 3) := dk_180 0 70 (dk_at dksX7_row_1 7 rfl rfl)
theorem dX7_row_32 : decode cX7_row 32 = .ok (.iload_n 1, 1) := dk_27 (dk_at dksX7_row_1 10 rfl rfl)
theorem dX7_row_33 : decode cX7_row 33 = .ok (.iaload, 1) := dk_46 (dk_at dksX7_row_1 11 rfl rfl)
theorem dX7_row_34 : decode cX7_row 34 = .ok (.goto 9, 3) := dk_167 0 9 (dk_at dksX7_row_1 12 rfl rfl)
theorem dX7_row_37 : decode cX7_row 37 = .ok (.aload_n 0, 1) := dk_42 (dk_at dksX7_row_1 15 rfl rfl)
theorem dX7_row_38 : decode cX7_row 38 = .ok (.bipush (-3), 2) := dk_16 253 (dk_at dksX7_row_1 16 rfl rfl)
theorem dX7_row_40 : decode cX7_row 40 = .ok (.invokevirtual 165, 3) := dk_182 0 165 (dk_at dksX7_row_1 18 rfl rfl)
theorem dX7_row_43 : decode cX7_row 43 = .ok (.ireturn, 1) := dk_172 (dk_at dksX7_row_1 21 rfl rfl)
abbrev cX7_copy : ByteArray := prog_19_method_121_code
def yX7_copy : MethodName := ⟨RX7, "copy", "(III)I"⟩
def dkwX7_copy_5 : List UInt8 := [21, 4, 96, 42, 180, 0, 70, 27, 21, 4, 96, 46, 79, 132, 4, 255, 167, 255, 225, 29, 172]
abbrev dktX7_copy_5 : List UInt8 := dkwX7_copy_5 ++ []
def dkwX7_copy_4 : List UInt8 := [167, 255, 224, 29, 4, 100, 54, 4, 21, 4, 155, 0, 32, 27, 28, 162, 0, 27, 42, 180, 0, 70, 28]
abbrev dktX7_copy_4 : List UInt8 := dkwX7_copy_4 ++ dktX7_copy_5
def dkwX7_copy_3 : List UInt8 := [161, 0, 27, 42, 180, 0, 70, 28, 21, 4, 96, 42, 180, 0, 70, 27, 21, 4, 96, 46, 79, 132, 4, 1]
abbrev dktX7_copy_3 : List UInt8 := dkwX7_copy_3 ++ dktX7_copy_4
def dkwX7_copy_2 : List UInt8 := [29, 100, 164, 0, 10, 42, 16, 250, 182, 0, 80, 172, 3, 54, 4, 21, 4, 29, 162, 0, 32, 27, 28]
abbrev dktX7_copy_2 : List UInt8 := dkwX7_copy_2 ++ dktX7_copy_3
def dkwX7_copy_1 : List UInt8 := [172, 27, 155, 0, 27, 28, 155, 0, 23, 27, 42, 180, 1, 103, 29, 100, 163, 0, 13, 28, 42, 180, 1, 103]
abbrev dktX7_copy_1 : List UInt8 := dkwX7_copy_1 ++ dktX7_copy_2
def dkwX7_copy_0 : List UInt8 := [42, 180, 1, 100, 154, 0, 10, 42, 16, 254, 182, 0, 80, 172, 29, 156, 0, 10, 42, 16, 252, 182, 0, 80]
abbrev dktX7_copy_0 : List UInt8 := dkwX7_copy_0 ++ dktX7_copy_1
theorem dksX7_copy_0 : cX7_copy.data.toList.drop 0 = dktX7_copy_0 := by decide +kernel
theorem dksX7_copy_1 : cX7_copy.data.toList.drop 24 = dktX7_copy_1 := dk_seg dksX7_copy_0 24 rfl rfl
theorem dksX7_copy_2 : cX7_copy.data.toList.drop 48 = dktX7_copy_2 := dk_seg dksX7_copy_1 24 rfl rfl
theorem dksX7_copy_3 : cX7_copy.data.toList.drop 71 = dktX7_copy_3 := dk_seg dksX7_copy_2 23 rfl rfl
theorem dksX7_copy_4 : cX7_copy.data.toList.drop 95 = dktX7_copy_4 := dk_seg dksX7_copy_3 24 rfl rfl
theorem dksX7_copy_5 : cX7_copy.data.toList.drop 118 = dktX7_copy_5 := dk_seg dksX7_copy_4 23 rfl rfl
theorem dX7_copy_0 : decode cX7_copy 0 = .ok (.aload_n 0, 1) := dk_42 (dk_at dksX7_copy_0 0 rfl rfl)
theorem dX7_copy_1 : decode cX7_copy 1 = .ok (.getfield 356, 3) := dk_180 1 100 (dk_at dksX7_copy_0 1 rfl rfl)
theorem dX7_copy_4 : decode cX7_copy 4 = .ok (.ifCond .ne 10, 3) := dk_154 0 10 (dk_at dksX7_copy_0 4 rfl rfl)
theorem dX7_copy_7 : decode cX7_copy 7 = .ok (.aload_n 0, 1) := dk_42 (dk_at dksX7_copy_0 7 rfl rfl)
theorem dX7_copy_8 : decode cX7_copy 8 = .ok (.bipush (-2), 2) := dk_16 254 (dk_at dksX7_copy_0 8 rfl rfl)
theorem dX7_copy_10 : decode cX7_copy 10 = .ok (.invokevirtual 80, 3) := dk_182 0 80 (dk_at dksX7_copy_0 10 rfl rfl)
theorem dX7_copy_13 : decode cX7_copy 13 = .ok (.ireturn, 1) := dk_172 (dk_at dksX7_copy_0 13 rfl rfl)
theorem dX7_copy_14 : decode cX7_copy 14 = .ok (.iload_n 3, 1) := dk_29 (dk_at dksX7_copy_0 14 rfl rfl)
theorem dX7_copy_15 : decode cX7_copy 15 = .ok (.ifCond .ge 10, 3) := dk_156 0 10 (dk_at dksX7_copy_0 15 rfl rfl)
theorem dX7_copy_18 : decode cX7_copy 18 = .ok (.aload_n 0, 1) := dk_42 (dk_at dksX7_copy_0 18 rfl rfl)
theorem dX7_copy_19 : decode cX7_copy 19 = .ok (.bipush (-4), 2) := dk_16 252 (dk_at dksX7_copy_0 19 rfl rfl)
theorem dX7_copy_21 : decode cX7_copy 21 = .ok (.invokevirtual 80, 3) := dk_182 0 80 (dk_at dksX7_copy_0 21 rfl rfl)
theorem dX7_copy_24 : decode cX7_copy 24 = .ok (.ireturn, 1) := dk_172 (dk_at dksX7_copy_1 0 rfl rfl)
theorem dX7_copy_25 : decode cX7_copy 25 = .ok (.iload_n 1, 1) := dk_27 (dk_at dksX7_copy_1 1 rfl rfl)
theorem dX7_copy_26 : decode cX7_copy 26 = .ok (.ifCond .lt 27, 3) := dk_155 0 27 (dk_at dksX7_copy_1 2 rfl rfl)
theorem dX7_copy_29 : decode cX7_copy 29 = .ok (.iload_n 2, 1) := dk_28 (dk_at dksX7_copy_1 5 rfl rfl)
theorem dX7_copy_30 : decode cX7_copy 30 = .ok (.ifCond .lt 23, 3) := dk_155 0 23 (dk_at dksX7_copy_1 6 rfl rfl)
theorem dX7_copy_33 : decode cX7_copy 33 = .ok (.iload_n 1, 1) := dk_27 (dk_at dksX7_copy_1 9 rfl rfl)
theorem dX7_copy_34 : decode cX7_copy 34 = .ok (.aload_n 0, 1) := dk_42 (dk_at dksX7_copy_1 10 rfl rfl)
theorem dX7_copy_35 : decode cX7_copy 35 = .ok (.getfield 359, 3) := dk_180 1 103 (dk_at dksX7_copy_1 11 rfl rfl)
theorem dX7_copy_38 : decode cX7_copy 38 = .ok (.iload_n 3, 1) := dk_29 (dk_at dksX7_copy_1 14 rfl rfl)
theorem dX7_copy_39 : decode cX7_copy 39 = .ok (.isub, 1) := dk_100 (dk_at dksX7_copy_1 15 rfl rfl)
theorem dX7_copy_40 : decode cX7_copy 40 = .ok (.if_icmp .gt 13, 3) := dk_163 0 13 (dk_at dksX7_copy_1 16 rfl rfl)
theorem dX7_copy_43 : decode cX7_copy 43 = .ok (.iload_n 2, 1) := dk_28 (dk_at dksX7_copy_1 19 rfl rfl)
theorem dX7_copy_44 : decode cX7_copy 44 = .ok (.aload_n 0, 1) := dk_42 (dk_at dksX7_copy_1 20 rfl rfl)
theorem dX7_copy_45 : decode cX7_copy 45 = .ok (.getfield 359, 3) := dk_180 1 103 (dk_at dksX7_copy_1 21 rfl rfl)
theorem dX7_copy_48 : decode cX7_copy 48 = .ok (.iload_n 3, 1) := dk_29 (dk_at dksX7_copy_2 0 rfl rfl)
theorem dX7_copy_49 : decode cX7_copy 49 = .ok (.isub, 1) := dk_100 (dk_at dksX7_copy_2 1 rfl rfl)
theorem dX7_copy_50 : decode cX7_copy 50 = .ok (.if_icmp .le 10, 3) := dk_164 0 10 (dk_at dksX7_copy_2 2 rfl rfl)
theorem dX7_copy_53 : decode cX7_copy 53 = .ok (.aload_n 0, 1) := dk_42 (dk_at dksX7_copy_2 5 rfl rfl)
theorem dX7_copy_54 : decode cX7_copy 54 = .ok (.bipush (-6), 2) := dk_16 250 (dk_at dksX7_copy_2 6 rfl rfl)
theorem dX7_copy_56 : decode cX7_copy 56 = .ok (.invokevirtual 80, 3) := dk_182 0 80 (dk_at dksX7_copy_2 8 rfl rfl)
theorem dX7_copy_59 : decode cX7_copy 59 = .ok (.ireturn, 1) := dk_172 (dk_at dksX7_copy_2 11 rfl rfl)
theorem dX7_copy_60 : decode cX7_copy 60 = .ok (.iconst 0, 1) := dk_3 (dk_at dksX7_copy_2 12 rfl rfl)
theorem dX7_copy_61 : decode cX7_copy 61 = .ok (.istore 4, 2) := dk_54 4 (dk_at dksX7_copy_2 13 rfl rfl)
theorem dX7_copy_63 : decode cX7_copy 63 = .ok (.iload 4, 2) := dk_21 4 (dk_at dksX7_copy_2 15 rfl rfl)
theorem dX7_copy_65 : decode cX7_copy 65 = .ok (.iload_n 3, 1) := dk_29 (dk_at dksX7_copy_2 17 rfl rfl)
theorem dX7_copy_66 : decode cX7_copy 66 = .ok (.if_icmp .ge 32, 3) := dk_162 0 32 (dk_at dksX7_copy_2 18 rfl rfl)
theorem dX7_copy_69 : decode cX7_copy 69 = .ok (.iload_n 1, 1) := dk_27 (dk_at dksX7_copy_2 21 rfl rfl)
theorem dX7_copy_70 : decode cX7_copy 70 = .ok (.iload_n 2, 1) := dk_28 (dk_at dksX7_copy_2 22 rfl rfl)
theorem dX7_copy_71 : decode cX7_copy 71 = .ok (.if_icmp .lt 27, 3) := dk_161 0 27 (dk_at dksX7_copy_3 0 rfl rfl)
theorem dX7_copy_74 : decode cX7_copy 74 = .ok (.aload_n 0, 1) := dk_42 (dk_at dksX7_copy_3 3 rfl rfl)
theorem dX7_copy_75 : decode cX7_copy 75 = .ok (.getfield 70, 3) := dk_180 0 70 (dk_at dksX7_copy_3 4 rfl rfl)
theorem dX7_copy_78 : decode cX7_copy 78 = .ok (.iload_n 2, 1) := dk_28 (dk_at dksX7_copy_3 7 rfl rfl)
theorem dX7_copy_79 : decode cX7_copy 79 = .ok (.iload 4, 2) := dk_21 4 (dk_at dksX7_copy_3 8 rfl rfl)
theorem dX7_copy_81 : decode cX7_copy 81 = .ok (.iadd, 1) := dk_96 (dk_at dksX7_copy_3 10 rfl rfl)
theorem dX7_copy_82 : decode cX7_copy 82 = .ok (.aload_n 0, 1) := dk_42 (dk_at dksX7_copy_3 11 rfl rfl)
theorem dX7_copy_83 : decode cX7_copy 83 = .ok (.getfield 70, 3) := dk_180 0 70 (dk_at dksX7_copy_3 12 rfl rfl)
theorem dX7_copy_86 : decode cX7_copy 86 = .ok (.iload_n 1, 1) := dk_27 (dk_at dksX7_copy_3 15 rfl rfl)
theorem dX7_copy_87 : decode cX7_copy 87 = .ok (.iload 4, 2) := dk_21 4 (dk_at dksX7_copy_3 16 rfl rfl)
theorem dX7_copy_89 : decode cX7_copy 89 = .ok (.iadd, 1) := dk_96 (dk_at dksX7_copy_3 18 rfl rfl)
theorem dX7_copy_90 : decode cX7_copy 90 = .ok (.iaload, 1) := dk_46 (dk_at dksX7_copy_3 19 rfl rfl)
theorem dX7_copy_91 : decode cX7_copy 91 = .ok (.iastore, 1) := dk_79 (dk_at dksX7_copy_3 20 rfl rfl)
theorem dX7_copy_92 : decode cX7_copy 92 = .ok (.iinc 4 1, 3) := dk_132 4 1 (dk_at dksX7_copy_3 21 rfl rfl)
theorem dX7_copy_95 : decode cX7_copy 95 = .ok (.goto (-32), 3) := dk_167 255 224 (dk_at dksX7_copy_4 0 rfl rfl)
theorem dX7_copy_98 : decode cX7_copy 98 = .ok (.iload_n 3, 1) := dk_29 (dk_at dksX7_copy_4 3 rfl rfl)
theorem dX7_copy_99 : decode cX7_copy 99 = .ok (.iconst 1, 1) := dk_4 (dk_at dksX7_copy_4 4 rfl rfl)
theorem dX7_copy_100 : decode cX7_copy 100 = .ok (.isub, 1) := dk_100 (dk_at dksX7_copy_4 5 rfl rfl)
theorem dX7_copy_101 : decode cX7_copy 101 = .ok (.istore 4, 2) := dk_54 4 (dk_at dksX7_copy_4 6 rfl rfl)
theorem dX7_copy_103 : decode cX7_copy 103 = .ok (.iload 4, 2) := dk_21 4 (dk_at dksX7_copy_4 8 rfl rfl)
theorem dX7_copy_105 : decode cX7_copy 105 = .ok (.ifCond .lt 32, 3) := dk_155 0 32 (dk_at dksX7_copy_4 10 rfl rfl)
theorem dX7_copy_108 : decode cX7_copy 108 = .ok (.iload_n 1, 1) := dk_27 (dk_at dksX7_copy_4 13 rfl rfl)
theorem dX7_copy_109 : decode cX7_copy 109 = .ok (.iload_n 2, 1) := dk_28 (dk_at dksX7_copy_4 14 rfl rfl)
theorem dX7_copy_110 : decode cX7_copy 110 = .ok (.if_icmp .ge 27, 3) := dk_162 0 27 (dk_at dksX7_copy_4 15 rfl rfl)
theorem dX7_copy_113 : decode cX7_copy 113 = .ok (.aload_n 0, 1) := dk_42 (dk_at dksX7_copy_4 18 rfl rfl)
theorem dX7_copy_114 : decode cX7_copy 114 = .ok (.getfield 70, 3) := dk_180 0 70 (dk_at dksX7_copy_4 19 rfl rfl)
theorem dX7_copy_117 : decode cX7_copy 117 = .ok (.iload_n 2, 1) := dk_28 (dk_at dksX7_copy_4 22 rfl rfl)
theorem dX7_copy_118 : decode cX7_copy 118 = .ok (.iload 4, 2) := dk_21 4 (dk_at dksX7_copy_5 0 rfl rfl)
theorem dX7_copy_120 : decode cX7_copy 120 = .ok (.iadd, 1) := dk_96 (dk_at dksX7_copy_5 2 rfl rfl)
theorem dX7_copy_121 : decode cX7_copy 121 = .ok (.aload_n 0, 1) := dk_42 (dk_at dksX7_copy_5 3 rfl rfl)
theorem dX7_copy_122 : decode cX7_copy 122 = .ok (.getfield 70, 3) := dk_180 0 70 (dk_at dksX7_copy_5 4 rfl rfl)
theorem dX7_copy_125 : decode cX7_copy 125 = .ok (.iload_n 1, 1) := dk_27 (dk_at dksX7_copy_5 7 rfl rfl)
theorem dX7_copy_126 : decode cX7_copy 126 = .ok (.iload 4, 2) := dk_21 4 (dk_at dksX7_copy_5 8 rfl rfl)
theorem dX7_copy_128 : decode cX7_copy 128 = .ok (.iadd, 1) := dk_96 (dk_at dksX7_copy_5 10 rfl rfl)
theorem dX7_copy_129 : decode cX7_copy 129 = .ok (.iaload, 1) := dk_46 (dk_at dksX7_copy_5 11 rfl rfl)
theorem dX7_copy_130 : decode cX7_copy 130 = .ok (.iastore, 1) := dk_79 (dk_at dksX7_copy_5 12 rfl rfl)
theorem dX7_copy_131 : decode cX7_copy 131 = .ok (.iinc 4 (-1), 3) := dk_132 4 255 (dk_at dksX7_copy_5 13 rfl rfl)
theorem dX7_copy_134 : decode cX7_copy 134 = .ok (.goto (-31), 3) := dk_167 255 225 (dk_at dksX7_copy_5 16 rfl rfl)
theorem dX7_copy_137 : decode cX7_copy 137 = .ok (.iload_n 3, 1) := dk_29 (dk_at dksX7_copy_5 19 rfl rfl)
theorem dX7_copy_138 : decode cX7_copy 138 = .ok (.ireturn, 1) := dk_172 (dk_at dksX7_copy_5 20 rfl rfl)
