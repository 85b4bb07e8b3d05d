set_option maxRecDepth 100000
abbrev cX1_init : ByteArray := prog_4_method_1_code
def yX1_init : MethodName := ⟨RX1, "<init>", "()V"⟩
def dkwX1_init_15 : List UInt8 := [79, 132, 1, 1, 167, 255, 240, 42, 182, 0, 139, 177]
abbrev dktX1_init_15 : List UInt8 := dkwX1_init_15 ++ []
def dkwX1_init_14 : List UInt8 := [183, 0, 138, 83, 132, 1, 1, 167, 255, 234, 3, 60, 27, 16, 100, 162, 0, 16, 42, 180, 0, 113, 27, 2]
abbrev dktX1_init_14 : List UInt8 := dkwX1_init_14 ++ dktX1_init_15
def dkwX1_init_13 : List UInt8 := [188, 10, 181, 0, 135, 3, 60, 27, 16, 60, 162, 0, 22, 42, 180, 0, 81, 27, 187, 0, 79, 89]
abbrev dktX1_init_13 : List UInt8 := dkwX1_init_13 ++ dktX1_init_14
def dkwX1_init_12 : List UInt8 := [17, 3, 192, 188, 10, 181, 0, 125, 42, 2, 181, 0, 128, 42, 16, 24, 188, 4, 181, 0, 131, 42, 16, 24]
abbrev dktX1_init_12 : List UInt8 := dkwX1_init_12 ++ dktX1_init_13
def dkwX1_init_11 : List UInt8 := [16, 6, 188, 10, 181, 0, 116, 42, 16, 6, 188, 10, 181, 0, 119, 42, 16, 24, 188, 10, 181, 0, 122, 42]
abbrev dktX1_init_11 : List UInt8 := dkwX1_init_11 ++ dktX1_init_12
def dkwX1_init_10 : List UInt8 := [16, 30, 188, 10, 181, 0, 107, 42, 16, 12, 188, 10, 181, 0, 110, 42, 16, 100, 188, 10, 181, 0, 113, 42]
abbrev dktX1_init_10 : List UInt8 := dkwX1_init_10 ++ dktX1_init_11
def dkwX1_init_9 : List UInt8 := [16, 16, 188, 10, 181, 0, 98, 42, 16, 30, 188, 10, 181, 0, 101, 42, 16, 30, 188, 10, 181, 0, 104, 42]
abbrev dktX1_init_9 : List UInt8 := dkwX1_init_9 ++ dktX1_init_10
def dkwX1_init_8 : List UInt8 := [188, 11, 181, 0, 85, 42, 16, 16, 189, 0, 89, 181, 0, 91, 42, 16, 16, 188, 10, 181, 0, 95, 42]
abbrev dktX1_init_8 : List UInt8 := dkwX1_init_8 ++ dktX1_init_9
def dkwX1_init_7 : List UInt8 := [181, 0, 73, 42, 16, 8, 188, 10, 181, 0, 76, 42, 16, 60, 189, 0, 79, 181, 0, 81, 42, 16, 8]
abbrev dktX1_init_7 : List UInt8 := dkwX1_init_7 ++ dktX1_init_8
def dkwX1_init_6 : List UInt8 := [181, 0, 64, 42, 16, 8, 188, 10, 181, 0, 67, 42, 16, 8, 188, 10, 181, 0, 70, 42, 16, 8, 188, 10]
abbrev dktX1_init_6 : List UInt8 := dkwX1_init_6 ++ dktX1_init_7
def dkwX1_init_5 : List UInt8 := [181, 0, 55, 42, 16, 12, 188, 10, 181, 0, 58, 42, 16, 12, 188, 10, 181, 0, 61, 42, 16, 6, 188, 10]
abbrev dktX1_init_5 : List UInt8 := dkwX1_init_5 ++ dktX1_init_6
def dkwX1_init_4 : List UInt8 := [188, 10, 181, 0, 45, 42, 16, 60, 188, 10, 181, 0, 48, 42, 4, 181, 0, 51, 42, 16, 12, 188, 10]
abbrev dktX1_init_4 : List UInt8 := dkwX1_init_4 ++ dktX1_init_5
def dkwX1_init_3 : List UInt8 := [188, 10, 181, 0, 36, 42, 16, 24, 188, 10, 181, 0, 39, 42, 16, 24, 188, 10, 181, 0, 42, 42, 16, 60]
abbrev dktX1_init_3 : List UInt8 := dkwX1_init_3 ++ dktX1_init_4
def dkwX1_init_2 : List UInt8 := [188, 10, 181, 0, 27, 42, 16, 24, 188, 10, 181, 0, 30, 42, 16, 24, 188, 10, 181, 0, 33, 42, 16, 24]
abbrev dktX1_init_2 : List UInt8 := dkwX1_init_2 ++ dktX1_init_3
def dkwX1_init_1 : List UInt8 := [188, 10, 181, 0, 18, 42, 16, 24, 188, 10, 181, 0, 21, 42, 16, 24, 188, 10, 181, 0, 24, 42, 16, 24]
abbrev dktX1_init_1 : List UInt8 := dkwX1_init_1 ++ dktX1_init_2
def dkwX1_init_0 : List UInt8 := [42, 183, 0, 3, 42, 16, 24, 188, 10, 181, 0, 9, 42, 16, 24, 188, 10, 181, 0, 15, 42, 16, 24]
abbrev dktX1_init_0 : List UInt8 := dkwX1_init_0 ++ dktX1_init_1
theorem dksX1_init_0 : cX1_init.data.toList.drop 0 = dktX1_init_0 := by decide +kernel
theorem dksX1_init_1 : cX1_init.data.toList.drop 23 = dktX1_init_1 := dk_seg dksX1_init_0 23 rfl rfl
theorem dksX1_init_2 : cX1_init.data.toList.drop 47 = dktX1_init_2 := dk_seg dksX1_init_1 24 rfl rfl
theorem dksX1_init_3 : cX1_init.data.toList.drop 71 = dktX1_init_3 := dk_seg dksX1_init_2 24 rfl rfl
theorem dksX1_init_4 : cX1_init.data.toList.drop 95 = dktX1_init_4 := dk_seg dksX1_init_3 24 rfl rfl
theorem dksX1_init_5 : cX1_init.data.toList.drop 118 = dktX1_init_5 := dk_seg dksX1_init_4 23 rfl rfl
theorem dksX1_init_6 : cX1_init.data.toList.drop 142 = dktX1_init_6 := dk_seg dksX1_init_5 24 rfl rfl
theorem dksX1_init_7 : cX1_init.data.toList.drop 166 = dktX1_init_7 := dk_seg dksX1_init_6 24 rfl rfl
theorem dksX1_init_8 : cX1_init.data.toList.drop 189 = dktX1_init_8 := dk_seg dksX1_init_7 23 rfl rfl
theorem dksX1_init_9 : cX1_init.data.toList.drop 212 = dktX1_init_9 := dk_seg dksX1_init_8 23 rfl rfl
theorem dksX1_init_10 : cX1_init.data.toList.drop 236 = dktX1_init_10 := dk_seg dksX1_init_9 24 rfl rfl
theorem dksX1_init_11 : cX1_init.data.toList.drop 260 = dktX1_init_11 := dk_seg dksX1_init_10 24 rfl rfl
theorem dksX1_init_12 : cX1_init.data.toList.drop 284 = dktX1_init_12 := dk_seg dksX1_init_11 24 rfl rfl
theorem dksX1_init_13 : cX1_init.data.toList.drop 308 = dktX1_init_13 := dk_seg dksX1_init_12 24 rfl rfl
theorem dksX1_init_14 : cX1_init.data.toList.drop 330 = dktX1_init_14 := dk_seg dksX1_init_13 22 rfl rfl
theorem dksX1_init_15 : cX1_init.data.toList.drop 354 = dktX1_init_15 := dk_seg dksX1_init_14 24 rfl rfl
theorem dX1_init_0 : decode cX1_init 0 = .ok (.aload_n 0, 1) := dk_42 (dk_at dksX1_init_0 0 rfl rfl)
theorem dX1_init_1 : decode cX1_init 1 = .ok (.invokespecial 3, 3) := dk_183 0 3 (dk_at dksX1_init_0 1 rfl rfl)
theorem dX1_init_4 : decode cX1_init 4 = .ok (.aload_n 0, 1) := dk_42 (dk_at dksX1_init_0 4 rfl rfl)
theorem dX1_init_5 : decode cX1_init 5 = .ok (.bipush 24, 2) := dk_16 24 (dk_at dksX1_init_0 5 rfl rfl)
theorem dX1_init_7 : decode cX1_init 7 = .ok (.newarray .int, 2) := dk_188_10 (dk_at dksX1_init_0 7 rfl rfl)
theorem dX1_init_9 : decode cX1_init 9 = .ok (.putfield 9, 3) := dk_181 0 9 (dk_at dksX1_init_0 9 rfl rfl)
theorem dX1_init_12 : decode cX1_init 12 = .ok (.aload_n 0, 1) := dk_42 (dk_at dksX1_init_0 12 rfl rfl)
theorem dX1_init_13 : decode cX1_init 13 = .ok (.bipush 24, 2) := dk_16 24 (dk_at dksX1_init_0 13 rfl rfl)
theorem dX1_init_15 : decode cX1_init 15 = .ok (.newarray .int, 2) := dk_188_10 (dk_at dksX1_init_0 15 rfl rfl)
theorem dX1_init_17 : decode cX1_init 17 = .ok (.putfield 15, 3) := dk_181 0 15 (dk_at dksX1_init_0 17 rfl rfl)
theorem dX1_init_20 : decode cX1_init 20 = .ok (.aload_n 0, 1) := dk_42 (dk_at dksX1_init_0 20 rfl rfl)
theorem dX1_init_21 : decode cX1_init 21 = .ok (.bipush 24, 2) := dk_16 24 (dk_at dksX1_init_0 21 rfl rfl)
theorem dX1_init_23 : decode cX1_init 23 = .ok (.newarray .int, 2) := dk_188_10 (dk_at dksX1_init_1 0 rfl rfl)
theorem dX1_init_25 : decode cX1_init 25 = .ok (.putfield 18, 3) := dk_181 0 18 (dk_at dksX1_init_1 2 rfl rfl)
theorem dX1_init_28 : decode cX1_init 28 = .ok (.aload_n 0, 1) := dk_42 (dk_at dksX1_init_1 5 rfl rfl)
theorem dX1_init_29 : decode cX1_init 29 = .ok (.bipush 24, 2) := dk_16 24 (dk_at dksX1_init_1 6 rfl rfl)
theorem dX1_init_31 : decode cX1_init 31 = .ok (.newarray .int, 2) := dk_188_10 (dk_at dksX1_init_1 8 rfl rfl)
theorem dX1_init_33 : decode cX1_init 33 = .ok (.putfield 21, 3) := dk_181 0 21 (dk_at dksX1_init_1 10 rfl rfl)
theorem dX1_init_36 : decode cX1_init 36 = .ok (.aload_n 0, 1) := dk_42 (dk_at dksX1_init_1 13 rfl rfl)
theorem dX1_init_37 : decode cX1_init 37 = .ok (.bipush 24, 2) := dk_16 24 (dk_at dksX1_init_1 14 rfl rfl)
theorem dX1_init_39 : decode cX1_init 39 = .ok (.newarray .int, 2) := dk_188_10 (dk_at dksX1_init_1 16 rfl rfl)
theorem dX1_init_41 : decode cX1_init 41 = .ok (.putfield 24, 3) := dk_181 0 24 (dk_at dksX1_init_1 18 rfl rfl)
theorem dX1_init_44 : decode cX1_init 44 = .ok (.aload_n 0, 1) := dk_42 (dk_at dksX1_init_1 21 rfl rfl)
theorem dX1_init_45 : decode cX1_init 45 = .ok (.bipush 24, 2) := dk_16 24 (dk_at dksX1_init_1 22 rfl rfl)
theorem dX1_init_47 : decode cX1_init 47 = .ok (.newarray .int, 2) := dk_188_10 (dk_at dksX1_init_2 0 rfl rfl)
theorem dX1_init_49 : decode cX1_init 49 = .ok (.putfield 27, 3) := dk_181 0 27 (dk_at dksX1_init_2 2 rfl rfl)
theorem dX1_init_52 : decode cX1_init 52 = .ok (.aload_n 0, 1) := dk_42 (dk_at dksX1_init_2 5 rfl rfl)
theorem dX1_init_53 : decode cX1_init 53 = .ok (.bipush 24, 2) := dk_16 24 (dk_at dksX1_init_2 6 rfl rfl)
theorem dX1_init_55 : decode cX1_init 55 = .ok (.newarray .int, 2) := dk_188_10 (dk_at dksX1_init_2 8 rfl rfl)
theorem dX1_init_57 : decode cX1_init 57 = .ok (.putfield 30, 3) := dk_181 0 30 (dk_at dksX1_init_2 10 rfl rfl)
theorem dX1_init_60 : decode cX1_init 60 = .ok (.aload_n 0, 1) := dk_42 (dk_at dksX1_init_2 13 rfl rfl)
theorem dX1_init_61 : decode cX1_init 61 = .ok (.bipush 24, 2) := dk_16 24 (dk_at dksX1_init_2 14 rfl rfl)
theorem dX1_init_63 : decode cX1_init 63 = .ok (.newarray .int, 2) := dk_188_10 (dk_at dksX1_init_2 16 rfl rfl)
theorem dX1_init_65 : decode cX1_init 65 = .ok (.putfield 33, 3) := dk_181 0 33 (dk_at dksX1_init_2 18 rfl rfl)
theorem dX1_init_68 : decode cX1_init 68 = .ok (.aload_n 0, 1) := dk_42 (dk_at dksX1_init_2 21 rfl rfl)
theorem dX1_init_69 : decode cX1_init 69 = .ok (.bipush 24, 2) := dk_16 24 (dk_at dksX1_init_2 22 rfl rfl)
theorem dX1_init_71 : decode cX1_init 71 = .ok (.newarray .int, 2) := dk_188_10 (dk_at dksX1_init_3 0 rfl rfl)
theorem dX1_init_73 : decode cX1_init 73 = .ok (.putfield 36, 3) := dk_181 0 36 (dk_at dksX1_init_3 2 rfl rfl)
theorem dX1_init_76 : decode cX1_init 76 = .ok (.aload_n 0, 1) := dk_42 (dk_at dksX1_init_3 5 rfl rfl)
theorem dX1_init_77 : decode cX1_init 77 = .ok (.bipush 24, 2) := dk_16 24 (dk_at dksX1_init_3 6 rfl rfl)
theorem dX1_init_79 : decode cX1_init 79 = .ok (.newarray .int, 2) := dk_188_10 (dk_at dksX1_init_3 8 rfl rfl)
theorem dX1_init_81 : decode cX1_init 81 = .ok (.putfield 39, 3) := dk_181 0 39 (dk_at dksX1_init_3 10 rfl rfl)
theorem dX1_init_84 : decode cX1_init 84 = .ok (.aload_n 0, 1) := dk_42 (dk_at dksX1_init_3 13 rfl rfl)
theorem dX1_init_85 : decode cX1_init 85 = .ok (.bipush 24, 2) := dk_16 24 (dk_at dksX1_init_3 14 rfl rfl)
theorem dX1_init_87 : decode cX1_init 87 = .ok (.newarray .int, 2) := dk_188_10 (dk_at dksX1_init_3 16 rfl rfl)
theorem dX1_init_89 : decode cX1_init 89 = .ok (.putfield 42, 3) := dk_181 0 42 (dk_at dksX1_init_3 18 rfl rfl)
theorem dX1_init_92 : decode cX1_init 92 = .ok (.aload_n 0, 1) := dk_42 (dk_at dksX1_init_3 21 rfl rfl)
theorem dX1_init_93 : decode cX1_init 93 = .ok (.bipush 60, 2) := dk_16 60 (dk_at dksX1_init_3 22 rfl rfl)
theorem dX1_init_95 : decode cX1_init 95 = .ok (.newarray .int, 2) := dk_188_10 (dk_at dksX1_init_4 0 rfl rfl)
theorem dX1_init_97 : decode cX1_init 97 = .ok (.putfield 45, 3) := dk_181 0 45 (dk_at dksX1_init_4 2 rfl rfl)
theorem dX1_init_100 : decode cX1_init 100 = .ok (.aload_n 0, 1) := dk_42 (dk_at dksX1_init_4 5 rfl rfl)
theorem dX1_init_101 : decode cX1_init 101 = .ok (.bipush 60, 2) := dk_16 60 (dk_at dksX1_init_4 6 rfl rfl)
theorem dX1_init_103 : decode cX1_init 103 = .ok (.newarray .int, 2) := dk_188_10 (dk_at dksX1_init_4 8 rfl rfl)
theorem dX1_init_105 : decode cX1_init 105 = .ok (.putfield 48, 3) := dk_181 0 48 (dk_at dksX1_init_4 10 rfl rfl)
theorem dX1_init_108 : decode cX1_init 108 = .ok (.aload_n 0, 1) := dk_42 (dk_at dksX1_init_4 13 rfl rfl)
theorem dX1_init_109 : decode cX1_init 109 = .ok (.iconst 1, 1) := dk_4 (dk_at dksX1_init_4 14 rfl rfl)
theorem dX1_init_110 : decode cX1_init 110 = .ok (.putfield 51, 3) := dk_181 0 51 (dk_at dksX1_init_4 15 rfl rfl)
theorem dX1_init_113 : decode cX1_init 113 = .ok (.aload_n 0, 1) := dk_42 (dk_at dksX1_init_4 18 rfl rfl)
theorem dX1_init_114 : decode cX1_init 114 = .ok (.bipush 12, 2) := dk_16 12 (dk_at dksX1_init_4 19 rfl rfl)
theorem dX1_init_116 : decode cX1_init 116 = .ok (.newarray .int, 2) := dk_188_10 (dk_at dksX1_init_4 21 rfl rfl)
theorem dX1_init_118 : decode cX1_init 118 = .ok (.putfield 55, 3) := dk_181 0 55 (dk_at dksX1_init_5 0 rfl rfl)
theorem dX1_init_121 : decode cX1_init 121 = .ok (.aload_n 0, 1) := dk_42 (dk_at dksX1_init_5 3 rfl rfl)
theorem dX1_init_122 : decode cX1_init 122 = .ok (.bipush 12, 2) := dk_16 12 (dk_at dksX1_init_5 4 rfl rfl)
theorem dX1_init_124 : decode cX1_init 124 = .ok (.newarray .int, 2) := dk_188_10 (dk_at dksX1_init_5 6 rfl rfl)
theorem dX1_init_126 : decode cX1_init 126 = .ok (.putfield 58, 3) := dk_181 0 58 (dk_at dksX1_init_5 8 rfl rfl)
theorem dX1_init_129 : decode cX1_init 129 = .ok (.aload_n 0, 1) := dk_42 (dk_at dksX1_init_5 11 rfl rfl)
theorem dX1_init_130 : decode cX1_init 130 = .ok (.bipush 12, 2) := dk_16 12 (dk_at dksX1_init_5 12 rfl rfl)
theorem dX1_init_132 : decode cX1_init 132 = .ok (.newarray .int, 2) := dk_188_10 (dk_at dksX1_init_5 14 rfl rfl)
theorem dX1_init_134 : decode cX1_init 134 = .ok (.putfield 61, 3) := dk_181 0 61 (dk_at dksX1_init_5 16 rfl rfl)
theorem dX1_init_137 : decode cX1_init 137 = .ok (.aload_n 0, 1) := dk_42 (dk_at dksX1_init_5 19 rfl rfl)
theorem dX1_init_138 : decode cX1_init 138 = .ok (.bipush 6, 2) := dk_16 6 (dk_at dksX1_init_5 20 rfl rfl)
theorem dX1_init_140 : decode cX1_init 140 = .ok (.newarray .int, 2) := dk_188_10 (dk_at dksX1_init_5 22 rfl rfl)
theorem dX1_init_142 : decode cX1_init 142 = .ok (.putfield 64, 3) := dk_181 0 64 (dk_at dksX1_init_6 0 rfl rfl)
theorem dX1_init_145 : decode cX1_init 145 = .ok (.aload_n 0, 1) := dk_42 (dk_at dksX1_init_6 3 rfl rfl)
theorem dX1_init_146 : decode cX1_init 146 = .ok (.bipush 8, 2) := dk_16 8 (dk_at dksX1_init_6 4 rfl rfl)
theorem dX1_init_148 : decode cX1_init 148 = .ok (.newarray .int, 2) := dk_188_10 (dk_at dksX1_init_6 6 rfl rfl)
theorem dX1_init_150 : decode cX1_init 150 = .ok (.putfield 67, 3) := dk_181 0 67 (dk_at dksX1_init_6 8 rfl rfl)
theorem dX1_init_153 : decode cX1_init 153 = .ok (.aload_n 0, 1) := dk_42 (dk_at dksX1_init_6 11 rfl rfl)
theorem dX1_init_154 : decode cX1_init 154 = .ok (.bipush 8, 2) := dk_16 8 (dk_at dksX1_init_6 12 rfl rfl)
theorem dX1_init_156 : decode cX1_init 156 = .ok (.newarray .int, 2) := dk_188_10 (dk_at dksX1_init_6 14 rfl rfl)
theorem dX1_init_158 : decode cX1_init 158 = .ok (.putfield 70, 3) := dk_181 0 70 (dk_at dksX1_init_6 16 rfl rfl)
theorem dX1_init_161 : decode cX1_init 161 = .ok (.aload_n 0, 1) := dk_42 (dk_at dksX1_init_6 19 rfl rfl)
theorem dX1_init_162 : decode cX1_init 162 = .ok (.bipush 8, 2) := dk_16 8 (dk_at dksX1_init_6 20 rfl rfl)
theorem dX1_init_164 : decode cX1_init 164 = .ok (.newarray .int, 2) := dk_188_10 (dk_at dksX1_init_6 22 rfl rfl)
theorem dX1_init_166 : decode cX1_init 166 = .ok (.putfield 73, 3) := dk_181 0 73 (dk_at dksX1_init_7 0 rfl rfl)
theorem dX1_init_169 : decode cX1_init 169 = .ok (.aload_n 0, 1) := dk_42 (dk_at dksX1_init_7 3 rfl rfl)
theorem dX1_init_170 : decode cX1_init 170 = .ok (.bipush 8, 2) := dk_16 8 (dk_at dksX1_init_7 4 rfl rfl)
theorem dX1_init_172 : decode cX1_init 172 = .ok (.newarray .int, 2) := dk_188_10 (dk_at dksX1_init_7 6 rfl rfl)
theorem dX1_init_174 : decode cX1_init 174 = .ok (.putfield 76, 3) := dk_181 0 76 (dk_at dksX1_init_7 8 rfl rfl)
theorem dX1_init_177 : decode cX1_init 177 = .ok (.aload_n 0, 1) := dk_42 (dk_at dksX1_init_7 11 rfl rfl)
theorem dX1_init_178 : decode cX1_init 178 = .ok (.bipush 60, 2) := dk_16 60 (dk_at dksX1_init_7 12 rfl rfl)
theorem dX1_init_180 : decode cX1_init 180 = .ok (.anewarray 79, 3) := dk_189 0 79 (dk_at dksX1_init_7 14 rfl rfl)
theorem dX1_init_183 : decode cX1_init 183 = .ok (.putfield 81, 3) := dk_181 0 81 (dk_at dksX1_init_7 17 rfl rfl)
theorem dX1_init_186 : decode cX1_init 186 = .ok (.aload_n 0, 1) := dk_42 (dk_at dksX1_init_7 20 rfl rfl)
theorem dX1_init_187 : decode cX1_init 187 = .ok (.bipush 8, 2) := dk_16 8 (dk_at dksX1_init_7 21 rfl rfl)
theorem dX1_init_189 : decode cX1_init 189 = .ok (.newarray .long, 2) := dk_188_11 (dk_at dksX1_init_8 0 rfl rfl)
theorem dX1_init_191 : decode cX1_init 191 = .ok (.putfield 85, 3) := dk_181 0 85 (dk_at dksX1_init_8 2 rfl rfl)
theorem dX1_init_194 : decode cX1_init 194 = .ok (.aload_n 0, 1) := dk_42 (dk_at dksX1_init_8 5 rfl rfl)
theorem dX1_init_195 : decode cX1_init 195 = .ok (.bipush 16, 2) := dk_16 16 (dk_at dksX1_init_8 6 rfl rfl)
theorem dX1_init_197 : decode cX1_init 197 = .ok (.anewarray 89, 3) := dk_189 0 89 (dk_at dksX1_init_8 8 rfl rfl)
theorem dX1_init_200 : decode cX1_init 200 = .ok (.putfield 91, 3) := dk_181 0 91 (dk_at dksX1_init_8 11 rfl rfl)
theorem dX1_init_203 : decode cX1_init 203 = .ok (.aload_n 0, 1) := dk_42 (dk_at dksX1_init_8 14 rfl rfl)
theorem dX1_init_204 : decode cX1_init 204 = .ok (.bipush 16, 2) := dk_16 16 (dk_at dksX1_init_8 15 rfl rfl)
theorem dX1_init_206 : decode cX1_init 206 = .ok (.newarray .int, 2) := dk_188_10 (dk_at dksX1_init_8 17 rfl rfl)
theorem dX1_init_208 : decode cX1_init 208 = .ok (.putfield 95, 3) := dk_181 0 95 (dk_at dksX1_init_8 19 rfl rfl)
theorem dX1_init_211 : decode cX1_init 211 = .ok (.aload_n 0, 1) := dk_42 (dk_at dksX1_init_8 22 rfl rfl)
theorem dX1_init_212 : decode cX1_init 212 = .ok (.bipush 16, 2) := dk_16 16 (dk_at dksX1_init_9 0 rfl rfl)
theorem dX1_init_214 : decode cX1_init 214 = .ok (.newarray .int, 2) := dk_188_10 (dk_at dksX1_init_9 2 rfl rfl)
theorem dX1_init_216 : decode cX1_init 216 = .ok (.putfield 98, 3) := dk_181 0 98 (dk_at dksX1_init_9 4 rfl rfl)
theorem dX1_init_219 : decode cX1_init 219 = .ok (.aload_n 0, 1) := dk_42 (dk_at dksX1_init_9 7 rfl rfl)
theorem dX1_init_220 : decode cX1_init 220 = .ok (.bipush 30, 2) := dk_16 30 (dk_at dksX1_init_9 8 rfl rfl)
theorem dX1_init_222 : decode cX1_init 222 = .ok (.newarray .int, 2) := dk_188_10 (dk_at dksX1_init_9 10 rfl rfl)
theorem dX1_init_224 : decode cX1_init 224 = .ok (.putfield 101, 3) := dk_181 0 101 (dk_at dksX1_init_9 12 rfl rfl)
theorem dX1_init_227 : decode cX1_init 227 = .ok (.aload_n 0, 1) := dk_42 (dk_at dksX1_init_9 15 rfl rfl)
theorem dX1_init_228 : decode cX1_init 228 = .ok (.bipush 30, 2) := dk_16 30 (dk_at dksX1_init_9 16 rfl rfl)
theorem dX1_init_230 : decode cX1_init 230 = .ok (.newarray .int, 2) := dk_188_10 (dk_at dksX1_init_9 18 rfl rfl)
theorem dX1_init_232 : decode cX1_init 232 = .ok (.putfield 104, 3) := dk_181 0 104 (dk_at dksX1_init_9 20 rfl rfl)
theorem dX1_init_235 : decode cX1_init 235 = .ok (.aload_n 0, 1) := dk_42 (dk_at dksX1_init_9 23 rfl rfl)
theorem dX1_init_236 : decode cX1_init 236 = .ok (.bipush 30, 2) := dk_16 30 (dk_at dksX1_init_10 0 rfl rfl)
theorem dX1_init_238 : decode cX1_init 238 = .ok (.newarray .int, 2) := dk_188_10 (dk_at dksX1_init_10 2 rfl rfl)
theorem dX1_init_240 : decode cX1_init 240 = .ok (.putfield 107, 3) := dk_181 0 107 (dk_at dksX1_init_10 4 rfl rfl)
theorem dX1_init_243 : decode cX1_init 243 = .ok (.aload_n 0, 1) := dk_42 (dk_at dksX1_init_10 7 rfl rfl)
theorem dX1_init_244 : decode cX1_init 244 = .ok (.bipush 12, 2) := dk_16 12 (dk_at dksX1_init_10 8 rfl rfl)
theorem dX1_init_246 : decode cX1_init 246 = .ok (.newarray .int, 2) := dk_188_10 (dk_at dksX1_init_10 10 rfl rfl)
theorem dX1_init_248 : decode cX1_init 248 = .ok (.putfield 110, 3) := dk_181 0 110 (dk_at dksX1_init_10 12 rfl rfl)
theorem dX1_init_251 : decode cX1_init 251 = .ok (.aload_n 0, 1) := dk_42 (dk_at dksX1_init_10 15 rfl rfl)
theorem dX1_init_252 : decode cX1_init 252 = .ok (.bipush 100, 2) := dk_16 100 (dk_at dksX1_init_10 16 rfl rfl)
theorem dX1_init_254 : decode cX1_init 254 = .ok (.newarray .int, 2) := dk_188_10 (dk_at dksX1_init_10 18 rfl rfl)
theorem dX1_init_256 : decode cX1_init 256 = .ok (.putfield 113, 3) := dk_181 0 113 (dk_at dksX1_init_10 20 rfl rfl)
theorem dX1_init_259 : decode cX1_init 259 = .ok (.aload_n 0, 1) := dk_42 (dk_at dksX1_init_10 23 rfl rfl)
theorem dX1_init_260 : decode cX1_init 260 = .ok (.bipush 6, 2) := dk_16 6 (dk_at dksX1_init_11 0 rfl rfl)
theorem dX1_init_262 : decode cX1_init 262 = .ok (.newarray .int, 2) := dk_188_10 (dk_at dksX1_init_11 2 rfl rfl)
theorem dX1_init_264 : decode cX1_init 264 = .ok (.putfield 116, 3) := dk_181 0 116 (dk_at dksX1_init_11 4 rfl rfl)
theorem dX1_init_267 : decode cX1_init 267 = .ok (.aload_n 0, 1) := dk_42 (dk_at dksX1_init_11 7 rfl rfl)
theorem dX1_init_268 : decode cX1_init 268 = .ok (.bipush 6, 2) := dk_16 6 (dk_at dksX1_init_11 8 rfl rfl)
theorem dX1_init_270 : decode cX1_init 270 = .ok (.newarray .int, 2) := dk_188_10 (dk_at dksX1_init_11 10 rfl rfl)
theorem dX1_init_272 : decode cX1_init 272 = .ok (.putfield 119, 3) := dk_181 0 119 (dk_at dksX1_init_11 12 rfl rfl)
theorem dX1_init_275 : decode cX1_init 275 = .ok (.aload_n 0, 1) := dk_42 (dk_at dksX1_init_11 15 rfl rfl)
theorem dX1_init_276 : decode cX1_init 276 = .ok (.bipush 24, 2) := dk_16 24 (dk_at dksX1_init_11 16 rfl rfl)
theorem dX1_init_278 : decode cX1_init 278 = .ok (.newarray .int, 2) := dk_188_10 (dk_at dksX1_init_11 18 rfl rfl)
theorem dX1_init_280 : decode cX1_init 280 = .ok (.putfield 122, 3) := dk_181 0 122 (dk_at dksX1_init_11 20 rfl rfl)
theorem dX1_init_283 : decode cX1_init 283 = .ok (.aload_n 0, 1) := dk_42 (dk_at dksX1_init_11 23 rfl rfl)
theorem dX1_init_284 : decode cX1_init 284 = .ok (.sipush 960, 3) := dk_17 3 192 (dk_at dksX1_init_12 0 rfl rfl)
theorem dX1_init_287 : decode cX1_init 287 = .ok (.newarray .int, 2) := dk_188_10 (dk_at dksX1_init_12 3 rfl rfl)
theorem dX1_init_289 : decode cX1_init 289 = .ok (.putfield 125, 3) := dk_181 0 125 (dk_at dksX1_init_12 5 rfl rfl)
theorem dX1_init_292 : decode cX1_init 292 = .ok (.aload_n 0, 1) := dk_42 (dk_at dksX1_init_12 8 rfl rfl)
theorem dX1_init_293 : decode cX1_init 293 = .ok (.iconst (-1), 1) := dk_2 (dk_at dksX1_init_12 9 rfl rfl)
theorem dX1_init_294 : decode cX1_init 294 = .ok (.putfield 128, 3) := dk_181 0 128 (dk_at dksX1_init_12 10 rfl rfl)
theorem dX1_init_297 : decode cX1_init 297 = .ok (.aload_n 0, 1) := dk_42 (dk_at dksX1_init_12 13 rfl rfl)
theorem dX1_init_298 : decode cX1_init 298 = .ok (.bipush 24, 2) := dk_16 24 (dk_at dksX1_init_12 14 rfl rfl)
theorem dX1_init_300 : decode cX1_init 300 = .ok (.newarray .boolean, 2) := dk_188_4 (dk_at dksX1_init_12 16 rfl rfl)
theorem dX1_init_302 : decode cX1_init 302 = .ok (.putfield 131, 3) := dk_181 0 131 (dk_at dksX1_init_12 18 rfl rfl)
theorem dX1_init_305 : decode cX1_init 305 = .ok (.aload_n 0, 1) := dk_42 (dk_at dksX1_init_12 21 rfl rfl)
theorem dX1_init_306 : decode cX1_init 306 = .ok (.bipush 24, 2) := dk_16 24 (dk_at dksX1_init_12 22 rfl rfl)
theorem dX1_init_308 : decode cX1_init 308 = .ok (.newarray .int, 2) := dk_188_10 (dk_at dksX1_init_13 0 rfl rfl)
theorem dX1_init_310 : decode cX1_init 310 = .ok (.putfield 135, 3) := dk_181 0 135 (dk_at dksX1_init_13 2 rfl rfl)
theorem dX1_init_313 : decode cX1_init 313 = .ok (.iconst 0, 1) := dk_3 (dk_at dksX1_init_13 5 rfl rfl)
theorem dX1_init_314 : decode cX1_init 314 = .ok (.istore_n 1, 1) := dk_60 (dk_at dksX1_init_13 6 rfl rfl)
theorem dX1_init_315 : decode cX1_init 315 = .ok (.iload_n 1, 1) := dk_27 (dk_at dksX1_init_13 7 rfl rfl)
theorem dX1_init_316 : decode cX1_init 316 = .ok (.bipush 60, 2) := dk_16 60 (dk_at dksX1_init_13 8 rfl rfl)
theorem dX1_init_318 : decode cX1_init 318 = .ok (.if_icmp .ge 22, 3) := dk_162 0 22 (dk_at dksX1_init_13 10 rfl rfl)
theorem dX1_init_321 : decode cX1_init 321 = .ok (.aload_n 0, 1) := dk_42 (dk_at dksX1_init_13 13 rfl rfl)
theorem dX1_init_322 : decode cX1_init 322 = .ok (.getfield 81, 3) := dk_180 0 81 (dk_at dksX1_init_13 14 rfl rfl)
theorem dX1_init_325 : decode cX1_init 325 = .ok (.iload_n 1, 1) := dk_27 (dk_at dksX1_init_13 17 rfl rfl)
theorem dX1_init_326 : decode cX1_init 326 = .ok (.new 79, 3) := dk_187 0 79 (dk_at dksX1_init_13 18 rfl rfl)
theorem dX1_init_329 : decode cX1_init 329 = .ok (.dup, 1) := dk_89 (dk_at dksX1_init_13 21 rfl rfl)
theorem dX1_init_330 : decode cX1_init 330 = .ok (.invokespecial 138, 3) := dk_183 0 138 (dk_at dksX1_init_14 0 rfl rfl)
theorem dX1_init_333 : decode cX1_init 333 = .ok (.aastore, 1) := dk_83 (dk_at dksX1_init_14 3 rfl rfl)
theorem dX1_init_334 : decode cX1_init 334 = .ok (.iinc 1 1, 3) := dk_132 1 1 (dk_at dksX1_init_14 4 rfl rfl)
theorem dX1_init_337 : decode cX1_init 337 = .ok (.goto (-22), 3) := dk_167 255 234 (dk_at dksX1_init_14 7 rfl rfl)
theorem dX1_init_340 : decode cX1_init 340 = .ok (.iconst 0, 1) := dk_3 (dk_at dksX1_init_14 10 rfl rfl)
theorem dX1_init_341 : decode cX1_init 341 = .ok (.istore_n 1, 1) := dk_60 (dk_at dksX1_init_14 11 rfl rfl)
theorem dX1_init_342 : decode cX1_init 342 = .ok (.iload_n 1, 1) := dk_27 (dk_at dksX1_init_14 12 rfl rfl)
theorem dX1_init_343 : decode cX1_init 343 = .ok (.bipush 100, 2) := dk_16 100 (dk_at dksX1_init_14 13 rfl rfl)
theorem dX1_init_345 : decode cX1_init 345 = .ok (.if_icmp .ge 16, 3) := dk_162 0 16 (dk_at dksX1_init_14 15 rfl rfl)
theorem dX1_init_348 : decode cX1_init 348 = .ok (.aload_n 0, 1) := dk_42 (dk_at dksX1_init_14 18 rfl rfl)
theorem dX1_init_349 : decode cX1_init 349 = .ok (.getfield 113, 3) := dk_180 0 113 (dk_at dksX1_init_14 19 rfl rfl)
theorem dX1_init_352 : decode cX1_init 352 = .ok (.iload_n 1, 1) := dk_27 (dk_at dksX1_init_14 22 rfl rfl)
theorem dX1_init_353 : decode cX1_init 353 = .ok (.iconst (-1), 1) := dk_2 (dk_at dksX1_init_14 23 rfl rfl)
theorem dX1_init_354 : decode cX1_init 354 = .ok (.iastore, 1) := dk_79 (dk_at dksX1_init_15 0 rfl rfl)
theorem dX1_init_355 : decode cX1_init 355 = .ok (.iinc 1 1, 3) := dk_132 1 1 (dk_at dksX1_init_15 1 rfl rfl)
theorem dX1_init_358 : decode cX1_init 358 = .ok (.goto (-16), 3) := dk_167 255 240 (dk_at dksX1_init_15 4 rfl rfl)
theorem dX1_init_361 : decode cX1_init 361 = .ok (.aload_n 0, 1) := dk_42 (dk_at dksX1_init_15 7 rfl rfl)
theorem dX1_init_362 : decode cX1_init 362 = .ok (.invokevirtual 139, 3) := dk_182 0 139 (dk_at dksX1_init_15 8 rfl rfl)
theorem dX1_init_365 : decode cX1_init 365 = .ok (.return_, 1) := dk_177 (dk_at dksX1_init_15 11 rfl rfl)
abbrev cX1_measure : ByteArray := prog_4_method_12_code
def yX1_measure : MethodName := ⟨RX1, "measure", "()V"⟩
def dkwX1_measure_5 : List UInt8 := [184, 0, 189, 79, 132, 2, 1, 167, 255, 171, 132, 1, 1, 167, 255, 157, 177]
abbrev dktX1_measure_5 : List UInt8 := dkwX1_measure_5 ++ []
def dkwX1_measure_4 : List UInt8 := [21, 4, 42, 180, 0, 64, 21, 4, 46, 42, 180, 0, 64, 29, 46, 42, 180, 0, 61, 28, 46, 96]
abbrev dktX1_measure_4 : List UInt8 := dkwX1_measure_4 ++ dktX1_measure_5
def dkwX1_measure_3 : List UInt8 := [29, 46, 42, 180, 0, 64, 21, 4, 46, 42, 180, 0, 61, 28, 46, 96, 184, 0, 189, 79, 42, 180, 0, 64]
abbrev dktX1_measure_3 : List UInt8 := dkwX1_measure_3 ++ dktX1_measure_4
def dkwX1_measure_2 : List UInt8 := [42, 180, 0, 55, 28, 46, 62, 42, 180, 0, 58, 28, 46, 54, 4, 42, 180, 0, 64, 29, 42, 180, 0, 64]
abbrev dktX1_measure_2 : List UInt8 := dkwX1_measure_2 ++ dktX1_measure_3
def dkwX1_measure_1 : List UInt8 := [132, 1, 1, 167, 255, 231, 3, 60, 27, 16, 6, 162, 0, 99, 3, 61, 28, 42, 180, 0, 174, 162, 0, 83]
abbrev dktX1_measure_1 : List UInt8 := dkwX1_measure_1 ++ dktX1_measure_2
def dkwX1_measure_0 : List UInt8 := [3, 60, 27, 16, 6, 162, 0, 25, 42, 180, 0, 64, 27, 27, 154, 0, 7, 3, 167, 0, 5, 18, 188, 79]
abbrev dktX1_measure_0 : List UInt8 := dkwX1_measure_0 ++ dktX1_measure_1
theorem dksX1_measure_0 : cX1_measure.data.toList.drop 0 = dktX1_measure_0 := by decide +kernel
theorem dksX1_measure_1 : cX1_measure.data.toList.drop 24 = dktX1_measure_1 := dk_seg dksX1_measure_0 24 rfl rfl
theorem dksX1_measure_2 : cX1_measure.data.toList.drop 48 = dktX1_measure_2 := dk_seg dksX1_measure_1 24 rfl rfl
theorem dksX1_measure_3 : cX1_measure.data.toList.drop 72 = dktX1_measure_3 := dk_seg dksX1_measure_2 24 rfl rfl
theorem dksX1_measure_4 : cX1_measure.data.toList.drop 96 = dktX1_measure_4 := dk_seg dksX1_measure_3 24 rfl rfl
theorem dksX1_measure_5 : cX1_measure.data.toList.drop 118 = dktX1_measure_5 := dk_seg dksX1_measure_4 22 rfl rfl
theorem dX1_measure_0 : decode cX1_measure 0 = .ok (.iconst 0, 1) := dk_3 (dk_at dksX1_measure_0 0 rfl rfl)
theorem dX1_measure_1 : decode cX1_measure 1 = .ok (.istore_n 1, 1) := dk_60 (dk_at dksX1_measure_0 1 rfl rfl)
theorem dX1_measure_2 : decode cX1_measure 2 = .ok (.iload_n 1, 1) := dk_27 (dk_at dksX1_measure_0 2 rfl rfl)
theorem dX1_measure_3 : decode cX1_measure 3 = .ok (.bipush 6, 2) := dk_16 6 (dk_at dksX1_measure_0 3 rfl rfl)
theorem dX1_measure_5 : decode cX1_measure 5 = .ok (.if_icmp .ge 25, 3) := dk_162 0 25 (dk_at dksX1_measure_0 5 rfl rfl)
theorem dX1_measure_8 : decode cX1_measure 8 = .ok (.aload_n 0, 1) := dk_42 (dk_at dksX1_measure_0 8 rfl rfl)
theorem dX1_measure_9 : decode cX1_measure 9 = .ok (.getfield 64, 3) := dk_180 0 64 (dk_at dksX1_measure_0 9 rfl rfl)
theorem dX1_measure_12 : decode cX1_measure 12 = .ok (.iload_n 1, 1) := dk_27 (dk_at dksX1_measure_0 12 rfl rfl)
theorem dX1_measure_13 : decode cX1_measure 13 = .ok (.iload_n 1, 1) := dk_27 (dk_at dksX1_measure_0 13 rfl rfl)
theorem dX1_measure_14 : decode cX1_measure 14 = .ok (.ifCond .ne 7, 3) := dk_154 0 7 (dk_at dksX1_measure_0 14 rfl rfl)
theorem dX1_measure_17 : decode cX1_measure 17 = .ok (.iconst 0, 1) := dk_3 (dk_at dksX1_measure_0 17 rfl rfl)
theorem dX1_measure_18 : decode cX1_measure 18 = .ok (.goto 5, 3) := dk_167 0 5 (dk_at dksX1_measure_0 18 rfl rfl)
theorem dX1_measure_21 : decode cX1_measure 21 = .ok (.ldc 188, 2) := dk_18 188 (dk_at dksX1_measure_0 21 rfl rfl)
theorem dX1_measure_23 : decode cX1_measure 23 = .ok (.iastore, 1) := dk_79 (dk_at dksX1_measure_0 23 rfl rfl)
theorem dX1_measure_24 : decode cX1_measure 24 = .ok (.iinc 1 1, 3) := dk_132 1 1 (dk_at dksX1_measure_1 0 rfl rfl)
theorem dX1_measure_27 : decode cX1_measure 27 = .ok (.goto (-25), 3) := dk_167 255 231 (dk_at dksX1_measure_1 3 rfl rfl)
theorem dX1_measure_30 : decode cX1_measure 30 = .ok (.iconst 0, 1) := dk_3 (dk_at dksX1_measure_1 6 rfl rfl)
theorem dX1_measure_31 : decode cX1_measure 31 = .ok (.istore_n 1, 1) := dk_60 (dk_at dksX1_measure_1 7 rfl rfl)
theorem dX1_measure_32 : decode cX1_measure 32 = .ok (.iload_n 1, 1) := dk_27 (dk_at dksX1_measure_1 8 rfl rfl)
theorem dX1_measure_33 : decode cX1_measure 33 = .ok (.bipush 6, 2) := dk_16 6 (dk_at dksX1_measure_1 9 rfl rfl)
theorem dX1_measure_35 : decode cX1_measure 35 = .ok (.if_icmp .ge 99, 3) := dk_162 0 99 (dk_at dksX1_measure_1 11 rfl rfl)
theorem dX1_measure_38 : decode cX1_measure 38 = .ok (.iconst 0, 1) := dk_3 (dk_at dksX1_measure_1 14 rfl rfl)
theorem dX1_measure_39 : decode cX1_measure 39 = .ok (.istore_n 2, 1) := dk_61 (dk_at dksX1_measure_1 15 rfl rfl)
theorem dX1_measure_40 : decode cX1_measure 40 = .ok (.iload_n 2, 1) := dk_28 (dk_at dksX1_measure_1 16 rfl rfl)
theorem dX1_measure_41 : decode cX1_measure 41 = .ok (.aload_n 0, 1) := dk_42 (dk_at dksX1_measure_1 17 rfl rfl)
theorem dX1_measure_42 : decode cX1_measure 42 = .ok (.getfield 174, 3) := dk_180 0 174 (dk_at dksX1_measure_1 18 rfl rfl)
theorem dX1_measure_45 : decode cX1_measure 45 = .ok (.if_icmp .ge 83, 3) := dk_162 0 83 (dk_at dksX1_measure_1 21 rfl rfl)
theorem dX1_measure_48 : decode cX1_measure 48 = .ok (.aload_n 0, 1) := dk_42 (dk_at dksX1_measure_2 0 rfl rfl)
theorem dX1_measure_49 : decode cX1_measure 49 = .ok (.getfield 55, 3) := dk_180 0 55 (dk_at dksX1_measure_2 1 rfl rfl)
theorem dX1_measure_52 : decode cX1_measure 52 = .ok (.iload_n 2, 1) := dk_28 (dk_at dksX1_measure_2 4 rfl rfl)
theorem dX1_measure_53 : decode cX1_measure 53 = .ok (.iaload, 1) := dk_46 (dk_at dksX1_measure_2 5 rfl rfl)
theorem dX1_measure_54 : decode cX1_measure 54 = .ok (.istore_n 3, 1) := dk_62 (dk_at dksX1_measure_2 6 rfl rfl)
theorem dX1_measure_55 : decode cX1_measure 55 = .ok (.aload_n 0, 1) := dk_42 (dk_at dksX1_measure_2 7 rfl rfl)
theorem dX1_measure_56 : decode cX1_measure 56 = .ok (.getfield 58, 3) := dk_180 0 58 (dk_at dksX1_measure_2 8 rfl rfl)
theorem dX1_measure_59 : decode cX1_measure 59 = .ok (.iload_n 2, 1) := dk_28 (dk_at dksX1_measure_2 11 rfl rfl)
theorem dX1_measure_60 : decode cX1_measure 60 = .ok (.iaload, 1) := dk_46 (dk_at dksX1_measure_2 12 rfl rfl)
theorem dX1_measure_61 : decode cX1_measure 61 = .ok (.istore 4, 2) := dk_54 4 (dk_at dksX1_measure_2 13 rfl rfl)
theorem dX1_measure_63 : decode cX1_measure 63 = .ok (.aload_n 0, 1) := dk_42 (dk_at dksX1_measure_2 15 rfl rfl)
theorem dX1_measure_64 : decode cX1_measure 64 = .ok (.getfield 64, 3) := dk_180 0 64 (dk_at dksX1_measure_2 16 rfl rfl)
theorem dX1_measure_67 : decode cX1_measure 67 = .ok (.iload_n 3, 1) := dk_29 (dk_at dksX1_measure_2 19 rfl rfl)
theorem dX1_measure_68 : decode cX1_measure 68 = .ok (.aload_n 0, 1) := dk_42 (dk_at dksX1_measure_2 20 rfl rfl)
theorem dX1_measure_69 : decode cX1_measure 69 = .ok (.getfield 64, 3) := dk_180 0 64 (dk_at dksX1_measure_2 21 rfl rfl)
theorem dX1_measure_72 : decode cX1_measure 72 = .ok (.iload_n 3, 1) := dk_29 (dk_at dksX1_measure_3 0 rfl rfl)
theorem dX1_measure_73 : decode cX1_measure 73 = .ok (.iaload, 1) := dk_46 (dk_at dksX1_measure_3 1 rfl rfl)
theorem dX1_measure_74 : decode cX1_measure 74 = .ok (.aload_n 0, 1) := dk_42 (dk_at dksX1_measure_3 2 rfl rfl)
theorem dX1_measure_75 : decode cX1_measure 75 = .ok (.getfield 64, 3) := dk_180 0 64 (dk_at dksX1_measure_3 3 rfl rfl)
theorem dX1_measure_78 : decode cX1_measure 78 = .ok (.iload 4, 2) := dk_21 4 (dk_at dksX1_measure_3 6 rfl rfl)
theorem dX1_measure_80 : decode cX1_measure 80 = .ok (.iaload, 1) := dk_46 (dk_at dksX1_measure_3 8 rfl rfl)
theorem dX1_measure_81 : decode cX1_measure 81 = .ok (.aload_n 0, 1) := dk_42 (dk_at dksX1_measure_3 9 rfl rfl)
theorem dX1_measure_82 : decode cX1_measure 82 = .ok (.getfield 61, 3) := dk_180 0 61 (dk_at dksX1_measure_3 10 rfl rfl)
theorem dX1_measure_85 : decode cX1_measure 85 = .ok (.iload_n 2, 1) := dk_28 (dk_at dksX1_measure_3 13 rfl rfl)
theorem dX1_measure_86 : decode cX1_measure 86 = .ok (.iaload, 1) := dk_46 (dk_at dksX1_measure_3 14 rfl rfl)
theorem dX1_measure_87 : decode cX1_measure 87 = .ok (.iadd, 1) := dk_96 (dk_at dksX1_measure_3 15 rfl rfl)
theorem dX1_measure_88 : decode cX1_measure 88 = .ok (.invokestatic 189, 3) := dk_184 0 189 (dk_at dksX1_measure_3 16 rfl rfl)
theorem dX1_measure_91 : decode cX1_measure 91 = .ok (.iastore, 1) := dk_79 (dk_at dksX1_measure_3 19 rfl rfl)
theorem dX1_measure_92 : decode cX1_measure 92 = .ok (.aload_n 0, 1) := dk_42 (dk_at dksX1_measure_3 20 rfl rfl)
theorem dX1_measure_93 : decode cX1_measure 93 = .ok (.getfield 64, 3) := dk_180 0 64 (dk_at dksX1_measure_3 21 rfl rfl)
theorem dX1_measure_96 : decode cX1_measure 96 = .ok (.iload 4, 2) := dk_21 4 (dk_at dksX1_measure_4 0 rfl rfl)
theorem dX1_measure_98 : decode cX1_measure 98 = .ok (.aload_n 0, 1) := dk_42 (dk_at dksX1_measure_4 2 rfl rfl)
theorem dX1_measure_99 : decode cX1_measure 99 = .ok (.getfield 64, 3) := dk_180 0 64 (dk_at dksX1_measure_4 3 rfl rfl)
theorem dX1_measure_102 : decode cX1_measure 102 = .ok (.iload 4, 2) := dk_21 4 (dk_at dksX1_measure_4 6 rfl rfl)
theorem dX1_measure_104 : decode cX1_measure 104 = .ok (.iaload, 1) := dk_46 (dk_at dksX1_measure_4 8 rfl rfl)
theorem dX1_measure_105 : decode cX1_measure 105 = .ok (.aload_n 0, 1) := dk_42 (dk_at dksX1_measure_4 9 rfl rfl)
theorem dX1_measure_106 : decode cX1_measure 106 = .ok (.getfield 64, 3) := dk_180 0 64 (dk_at dksX1_measure_4 10 rfl rfl)
theorem dX1_measure_109 : decode cX1_measure 109 = .ok (.iload_n 3, 1) := dk_29 (dk_at dksX1_measure_4 13 rfl rfl)
theorem dX1_measure_110 : decode cX1_measure 110 = .ok (.iaload, 1) := dk_46 (dk_at dksX1_measure_4 14 rfl rfl)
theorem dX1_measure_111 : decode cX1_measure 111 = .ok (.aload_n 0, 1) := dk_42 (dk_at dksX1_measure_4 15 rfl rfl)
theorem dX1_measure_112 : decode cX1_measure 112 = .ok (.getfield 61, 3) := dk_180 0 61 (dk_at dksX1_measure_4 16 rfl rfl)
theorem dX1_measure_115 : decode cX1_measure 115 = .ok (.iload_n 2, 1) := dk_28 (dk_at dksX1_measure_4 19 rfl rfl)
theorem dX1_measure_116 : decode cX1_measure 116 = .ok (.iaload, 1) := dk_46 (dk_at dksX1_measure_4 20 rfl rfl)
theorem dX1_measure_117 : decode cX1_measure 117 = .ok (.iadd, 1) := dk_96 (dk_at dksX1_measure_4 21 rfl rfl)
theorem dX1_measure_118 : decode cX1_measure 118 = .ok (.invokestatic 189, 3) := dk_184 0 189 (dk_at dksX1_measure_5 0 rfl rfl)
theorem dX1_measure_121 : decode cX1_measure 121 = .ok (.iastore, 1) := dk_79 (dk_at dksX1_measure_5 3 rfl rfl)
theorem dX1_measure_122 : decode cX1_measure 122 = .ok (.iinc 2 1, 3) := dk_132 2 1 (dk_at dksX1_measure_5 4 rfl rfl)
theorem dX1_measure_125 : decode cX1_measure 125 = .ok (.goto (-85), 3) := dk_167 255 171 (dk_at dksX1_measure_5 7 rfl rfl)
theorem dX1_measure_128 : decode cX1_measure 128 = .ok (.iinc 1 1, 3) := dk_132 1 1 (dk_at dksX1_measure_5 10 rfl rfl)
theorem dX1_measure_131 : decode cX1_measure 131 = .ok (.goto (-99), 3) := dk_167 255 157 (dk_at dksX1_measure_5 13 rfl rfl)
theorem dX1_measure_134 : decode cX1_measure 134 = .ok (.return_, 1) := dk_177 (dk_at dksX1_measure_5 16 rfl rfl)
abbrev cX1_areNeighbours : ByteArray := prog_4_method_8_code
def yX1_areNeighbours : MethodName := ⟨RX1, "areNeighbours", "(II)Z"⟩
def dkwX1_areNeighbours_2 : List UInt8 := [160, 0, 5, 4, 172, 132, 3, 1, 167, 255, 203, 3, 172]
abbrev dktX1_areNeighbours_2 : List UInt8 := dkwX1_areNeighbours_2 ++ []
def dkwX1_areNeighbours_1 : List UInt8 := [29, 46, 28, 159, 0, 23, 42, 180, 0, 45, 29, 46, 28, 160, 0, 15, 42, 180, 0, 48, 29, 46, 27]
abbrev dktX1_areNeighbours_1 : List UInt8 := dkwX1_areNeighbours_1 ++ dktX1_areNeighbours_2
def dkwX1_areNeighbours_0 : List UInt8 := [3, 62, 29, 42, 180, 0, 171, 162, 0, 51, 42, 180, 0, 45, 29, 46, 27, 160, 0, 13, 42, 180, 0, 48]
abbrev dktX1_areNeighbours_0 : List UInt8 := dkwX1_areNeighbours_0 ++ dktX1_areNeighbours_1
theorem dksX1_areNeighbours_0 : cX1_areNeighbours.data.toList.drop 0 = dktX1_areNeighbours_0 := by decide +kernel
theorem dksX1_areNeighbours_1 : cX1_areNeighbours.data.toList.drop 24 = dktX1_areNeighbours_1 := dk_seg dksX1_areNeighbours_0 24 rfl rfl
theorem dksX1_areNeighbours_2 : cX1_areNeighbours.data.toList.drop 47 = dktX1_areNeighbours_2 := dk_seg dksX1_areNeighbours_1 23 rfl rfl
theorem dX1_areNeighbours_0 : decode cX1_areNeighbours 0 = .ok (.iconst 0, 1) := dk_3 (dk_at dksX1_areNeighbours_0 0 rfl rfl)
theorem dX1_areNeighbours_1 : decode cX1_areNeighbours 1 = .ok (.istore_n 3, 1) := dk_62 (dk_at dksX1_areNeighbours_0 1 rfl rfl)
theorem dX1_areNeighbours_2 : decode cX1_areNeighbours 2 = .ok (.iload_n 3, 1) := dk_29 (dk_at dksX1_areNeighbours_0 2 rfl rfl)
theorem dX1_areNeighbours_3 : decode cX1_areNeighbours 3 = .ok (.aload_n 0, 1) := dk_42 (dk_at dksX1_areNeighbours_0 3 rfl rfl)
theorem dX1_areNeighbours_4 : decode cX1_areNeighbours 4 = .ok (.getfield 171, 3) := dk_180 0 171 (dk_at dksX1_areNeighbours_0 4 rfl rfl)
theorem dX1_areNeighbours_7 : decode cX1_areNeighbours 7 = .ok (.if_icmp .ge 51, 3) := dk_162 0 51 (dk_at dksX1_areNeighbours_0 7 rfl rfl)
theorem dX1_areNeighbours_10 : decode cX1_areNeighbours 10 = .ok (.aload_n 0, 1) := dk_42 (dk_at dksX1_areNeighbours_0 10 rfl rfl)
theorem dX1_areNeighbours_11 : decode cX1_areNeighbours 11 = .ok (.getfield 45, 3) := dk_180 0 45 (dk_at dksX1_areNeighbours_0 11 rfl rfl)
theorem dX1_areNeighbours_14 : decode cX1_areNeighbours 14 = .ok (.iload_n 3, 1) := dk_29 (dk_at dksX1_areNeighbours_0 14 rfl rfl)
theorem dX1_areNeighbours_15 : decode cX1_areNeighbours 15 = .ok (.iaload, 1) := dk_46 (dk_at dksX1_areNeighbours_0 15 rfl rfl)
theorem dX1_areNeighbours_16 : decode cX1_areNeighbours 16 = .ok (.iload_n 1, 1) := dk_27 (dk_at dksX1_areNeighbours_0 16 rfl rfl)
theorem dX1_areNeighbours_17 : decode cX1_areNeighbours 17 = .ok (.if_icmp .ne 13, 3) := dk_160 0 13 (dk_at dksX1_areNeighbours_0 17 rfl rfl)
theorem dX1_areNeighbours_20 : decode cX1_areNeighbours 20 = .ok (.aload_n 0, 1) := dk_42 (dk_at dksX1_areNeighbours_0 20 rfl rfl)
theorem dX1_areNeighbours_21 : decode cX1_areNeighbours 21 = .ok (.getfield 48, 3) := dk_180 0 48 (dk_at dksX1_areNeighbours_0 21 rfl rfl)
theorem dX1_areNeighbours_24 : decode cX1_areNeighbours 24 = .ok (.iload_n 3, 1) := dk_29 (dk_at dksX1_areNeighbours_1 0 rfl rfl)
theorem dX1_areNeighbours_25 : decode cX1_areNeighbours 25 = .ok (.iaload, 1) := dk_46 (dk_at dksX1_areNeighbours_1 1 rfl rfl)
theorem dX1_areNeighbours_26 : decode cX1_areNeighbours 26 = .ok (.iload_n 2, 1) := dk_28 (dk_at dksX1_areNeighbours_1 2 rfl rfl)
theorem dX1_areNeighbours_27 : decode cX1_areNeighbours 27 = .ok (.if_icmp .eq 23, 3) := dk_159 0 23 (dk_at dksX1_areNeighbours_1 3 rfl rfl)
theorem dX1_areNeighbours_30 : decode cX1_areNeighbours 30 = .ok (.aload_n 0, 1) := dk_42 (dk_at dksX1_areNeighbours_1 6 rfl rfl)
theorem dX1_areNeighbours_31 : decode cX1_areNeighbours 31 = .ok (.getfield 45, 3) := dk_180 0 45 (dk_at dksX1_areNeighbours_1 7 rfl rfl)
theorem dX1_areNeighbours_34 : decode cX1_areNeighbours 34 = .ok (.iload_n 3, 1) := dk_29 (dk_at dksX1_areNeighbours_1 10 rfl rfl)
theorem dX1_areNeighbours_35 : decode cX1_areNeighbours 35 = .ok (.iaload, 1) := dk_46 (dk_at dksX1_areNeighbours_1 11 rfl rfl)
theorem dX1_areNeighbours_36 : decode cX1_areNeighbours 36 = .ok (.iload_n 2, 1) := dk_28 (dk_at dksX1_areNeighbours_1 12 rfl rfl)
theorem dX1_areNeighbours_37 : decode cX1_areNeighbours 37 = .ok (.if_icmp .ne 15, 3) := dk_160 0 15 (dk_at dksX1_areNeighbours_1 13 rfl rfl)
theorem dX1_areNeighbours_40 : decode cX1_areNeighbours 40 = .ok (.aload_n 0, 1) := dk_42 (dk_at dksX1_areNeighbours_1 16 rfl rfl)
theorem dX1_areNeighbours_41 : decode cX1_areNeighbours 41 = .ok (.getfield 48, 3) := dk_180 0 48 (dk_at dksX1_areNeighbours_1 17 rfl rfl)
theorem dX1_areNeighbours_44 : decode cX1_areNeighbours 44 = .ok (.iload_n 3, 1) := dk_29 (dk_at dksX1_areNeighbours_1 20 rfl rfl)
theorem dX1_areNeighbours_45 : decode cX1_areNeighbours 45 = .ok (.iaload, 1) := dk_46 (dk_at dksX1_areNeighbours_1 21 rfl rfl)
theorem dX1_areNeighbours_46 : decode cX1_areNeighbours 46 = .ok (.iload_n 1, 1) := dk_27 (dk_at dksX1_areNeighbours_1 22 rfl rfl)
theorem dX1_areNeighbours_47 : decode cX1_areNeighbours 47 = .ok (.if_icmp .ne 5, 3) := dk_160 0 5 (dk_at dksX1_areNeighbours_2 0 rfl rfl)
theorem dX1_areNeighbours_50 : decode cX1_areNeighbours 50 = .ok (.iconst 1, 1) := dk_4 (dk_at dksX1_areNeighbours_2 3 rfl rfl)
theorem dX1_areNeighbours_51 : decode cX1_areNeighbours 51 = .ok (.ireturn, 1) := dk_172 (dk_at dksX1_areNeighbours_2 4 rfl rfl)
theorem dX1_areNeighbours_52 : decode cX1_areNeighbours 52 = .ok (.iinc 3 1, 3) := dk_132 3 1 (dk_at dksX1_areNeighbours_2 5 rfl rfl)
theorem dX1_areNeighbours_55 : decode cX1_areNeighbours 55 = .ok (.goto (-53), 3) := dk_167 255 203 (dk_at dksX1_areNeighbours_2 8 rfl rfl)
theorem dX1_areNeighbours_58 : decode cX1_areNeighbours 58 = .ok (.iconst 0, 1) := dk_3 (dk_at dksX1_areNeighbours_2 11 rfl rfl)
theorem dX1_areNeighbours_59 : decode cX1_areNeighbours 59 = .ok (.ireturn, 1) := dk_172 (dk_at dksX1_areNeighbours_2 12 rfl rfl)
abbrev cX1_wood : ByteArray := prog_4_method_7_code
def yX1_wood : MethodName := ⟨RX1, "wood", "(I)I"⟩
def dkwX1_wood_0 : List UInt8 := [42, 27, 42, 180, 0, 27, 27, 46, 42, 180, 0, 30, 27, 46, 182, 0, 184, 172]
abbrev dktX1_wood_0 : List UInt8 := dkwX1_wood_0 ++ []
theorem dksX1_wood_0 : cX1_wood.data.toList.drop 0 = dktX1_wood_0 := by decide +kernel
theorem dX1_wood_0 : decode cX1_wood 0 = .ok (.aload_n 0, 1) := dk_42 (dk_at dksX1_wood_0 0 rfl rfl)
theorem dX1_wood_1 : decode cX1_wood 1 = .ok (.iload_n 1, 1) := dk_27 (dk_at dksX1_wood_0 1 rfl rfl)
theorem dX1_wood_2 : decode cX1_wood 2 = .ok (.aload_n 0, 1) := dk_42 (dk_at dksX1_wood_0 2 rfl rfl)
theorem dX1_wood_3 : decode cX1_wood 3 = .ok (.getfield 27, 3) := dk_180 0 27 (dk_at dksX1_wood_0 3 rfl rfl)
theorem dX1_wood_6 : decode cX1_wood 6 = .ok (.iload_n 1, 1) := dk_27 (dk_at dksX1_wood_0 6 rfl rfl)
theorem dX1_wood_7 : decode cX1_wood 7 = .ok (.iaload, 1) := dk_46 (dk_at dksX1_wood_0 7 rfl rfl)
theorem dX1_wood_8 : decode cX1_wood 8 = .ok (.aload_n 0, 1) := dk_42 (dk_at dksX1_wood_0 8 rfl rfl)
theorem dX1_wood_9 : decode cX1_wood 9 = .ok (.getfield 30, 3) := dk_180 0 30 (dk_at dksX1_wood_0 9 rfl rfl)
theorem dX1_wood_12 : decode cX1_wood 12 = .ok (.iload_n 1, 1) := dk_27 (dk_at dksX1_wood_0 12 rfl rfl)
theorem dX1_wood_13 : decode cX1_wood 13 = .ok (.iaload, 1) := dk_46 (dk_at dksX1_wood_0 13 rfl rfl)
theorem dX1_wood_14 : decode cX1_wood 14 = .ok (.invokevirtual 184, 3) := dk_182 0 184 (dk_at dksX1_wood_0 14 rfl rfl)
theorem dX1_wood_17 : decode cX1_wood 17 = .ok (.ireturn, 1) := dk_172 (dk_at dksX1_wood_0 17 rfl rfl)
abbrev cX1_woodAt : ByteArray := prog_4_method_6_code
def yX1_woodAt : MethodName := ⟨RX1, "woodAt", "(III)I"⟩
def dkwX1_woodAt_1 : List UInt8 := [104, 16, 100, 108, 172]
abbrev dktX1_woodAt_1 : List UInt8 := dkwX1_woodAt_1 ++ []
def dkwX1_woodAt_0 : List UInt8 := [42, 180, 0, 24, 27, 46, 42, 180, 0, 18, 27, 46, 42, 180, 0, 15, 27, 46, 28, 184, 0, 180, 104, 29]
abbrev dktX1_woodAt_0 : List UInt8 := dkwX1_woodAt_0 ++ dktX1_woodAt_1
theorem dksX1_woodAt_0 : cX1_woodAt.data.toList.drop 0 = dktX1_woodAt_0 := by decide +kernel
theorem dksX1_woodAt_1 : cX1_woodAt.data.toList.drop 24 = dktX1_woodAt_1 := dk_seg dksX1_woodAt_0 24 rfl rfl
theorem dX1_woodAt_0 : decode cX1_woodAt 0 = .ok (.aload_n 0, 1) := dk_42 (dk_at dksX1_woodAt_0 0 rfl rfl)
theorem dX1_woodAt_1 : decode cX1_woodAt 1 = .ok (.getfield 24, 3) := dk_180 0 24 (dk_at dksX1_woodAt_0 1 rfl rfl)
theorem dX1_woodAt_4 : decode cX1_woodAt 4 = .ok (.iload_n 1, 1) := dk_27 (dk_at dksX1_woodAt_0 4 rfl rfl)
theorem dX1_woodAt_5 : decode cX1_woodAt 5 = .ok (.iaload, 1) := dk_46 (dk_at dksX1_woodAt_0 5 rfl rfl)
theorem dX1_woodAt_6 : decode cX1_woodAt 6 = .ok (.aload_n 0, 1) := dk_42 (dk_at dksX1_woodAt_0 6 rfl rfl)
theorem dX1_woodAt_7 : decode cX1_woodAt 7 = .ok (.getfield 18, 3) := dk_180 0 18 (dk_at dksX1_woodAt_0 7 rfl rfl)
theorem dX1_woodAt_10 : decode cX1_woodAt 10 = .ok (.iload_n 1, 1) := dk_27 (dk_at dksX1_woodAt_0 10 rfl rfl)
theorem dX1_woodAt_11 : decode cX1_woodAt 11 = .ok (.iaload, 1) := dk_46 (dk_at dksX1_woodAt_0 11 rfl rfl)
theorem dX1_woodAt_12 : decode cX1_woodAt 12 = .ok (.aload_n 0, 1) := dk_42 (dk_at dksX1_woodAt_0 12 rfl rfl)
theorem dX1_woodAt_13 : decode cX1_woodAt 13 = .ok (.getfield 15, 3) := dk_180 0 15 (dk_at dksX1_woodAt_0 13 rfl rfl)
theorem dX1_woodAt_16 : decode cX1_woodAt 16 = .ok (.iload_n 1, 1) := dk_27 (dk_at dksX1_woodAt_0 16 rfl rfl)
theorem dX1_woodAt_17 : decode cX1_woodAt 17 = .ok (.iaload, 1) := dk_46 (dk_at dksX1_woodAt_0 17 rfl rfl)
theorem dX1_woodAt_18 : decode cX1_woodAt 18 = .ok (.iload_n 2, 1) := dk_28 (dk_at dksX1_woodAt_0 18 rfl rfl)
theorem dX1_woodAt_19 : decode cX1_woodAt 19 = .ok (.invokestatic 180, 3) := dk_184 0 180 (dk_at dksX1_woodAt_0 19 rfl rfl)
theorem dX1_woodAt_22 : decode cX1_woodAt 22 = .ok (.imul, 1) := dk_104 (dk_at dksX1_woodAt_0 22 rfl rfl)
theorem dX1_woodAt_23 : decode cX1_woodAt 23 = .ok (.iload_n 3, 1) := dk_29 (dk_at dksX1_woodAt_0 23 rfl rfl)
theorem dX1_woodAt_24 : decode cX1_woodAt 24 = .ok (.imul, 1) := dk_104 (dk_at dksX1_woodAt_1 0 rfl rfl)
theorem dX1_woodAt_25 : decode cX1_woodAt 25 = .ok (.bipush 100, 2) := dk_16 100 (dk_at dksX1_woodAt_1 1 rfl rfl)
theorem dX1_woodAt_27 : decode cX1_woodAt 27 = .ok (.idiv, 1) := dk_108 (dk_at dksX1_woodAt_1 3 rfl rfl)
theorem dX1_woodAt_28 : decode cX1_woodAt 28 = .ok (.ireturn, 1) := dk_172 (dk_at dksX1_woodAt_1 4 rfl rfl)
abbrev cX1_isLate : ByteArray := prog_4_method_38_code
def yX1_isLate : MethodName := ⟨RX1, "isLate", "(I)Z"⟩
def dkwX1_isLate_1 : List UInt8 := [180, 0, 39, 27, 46, 100, 42, 16, 7, 27, 182, 0, 223, 161, 0, 7, 4, 167, 0, 4, 3, 172]
abbrev dktX1_isLate_1 : List UInt8 := dkwX1_isLate_1 ++ []
def dkwX1_isLate_0 : List UInt8 := [42, 27, 182, 0, 232, 153, 0, 38, 42, 180, 0, 39, 27, 46, 2, 159, 0, 28, 42, 180, 0, 142, 42]
abbrev dktX1_isLate_0 : List UInt8 := dkwX1_isLate_0 ++ dktX1_isLate_1
theorem dksX1_isLate_0 : cX1_isLate.data.toList.drop 0 = dktX1_isLate_0 := by decide +kernel
theorem dksX1_isLate_1 : cX1_isLate.data.toList.drop 23 = dktX1_isLate_1 := dk_seg dksX1_isLate_0 23 rfl rfl
theorem dX1_isLate_0 : decode cX1_isLate 0 = .ok (.aload_n 0, 1) := dk_42 (dk_at dksX1_isLate_0 0 rfl rfl)
theorem dX1_isLate_1 : decode cX1_isLate 1 = .ok (.iload_n 1, 1) := dk_27 (dk_at dksX1_isLate_0 1 rfl rfl)
theorem dX1_isLate_2 : decode cX1_isLate 2 = .ok (.invokevirtual 232, 3) := dk_182 0 232 (dk_at dksX1_isLate_0 2 rfl rfl)
theorem dX1_isLate_5 : decode cX1_isLate 5 = .ok (.ifCond .eq 38, 3) := dk_153 0 38 (dk_at dksX1_isLate_0 5 rfl rfl)
theorem dX1_isLate_8 : decode cX1_isLate 8 = .ok (.aload_n 0, 1) := dk_42 (dk_at dksX1_isLate_0 8 rfl rfl)
theorem dX1_isLate_9 : decode cX1_isLate 9 = .ok (.getfield 39, 3) := dk_180 0 39 (dk_at dksX1_isLate_0 9 rfl rfl)
theorem dX1_isLate_12 : decode cX1_isLate 12 = .ok (.iload_n 1, 1) := dk_27 (dk_at dksX1_isLate_0 12 rfl rfl)
theorem dX1_isLate_13 : decode cX1_isLate 13 = .ok (.iaload, 1) := dk_46 (dk_at dksX1_isLate_0 13 rfl rfl)
theorem dX1_isLate_14 : decode cX1_isLate 14 = .ok (.iconst (-1), 1) := dk_2 (dk_at dksX1_isLate_0 14 rfl rfl)
theorem dX1_isLate_15 : decode cX1_isLate 15 = .ok (.if_icmp .eq 28, 3) := dk_159 0 28 (dk_at dksX1_isLate_0 15 rfl rfl)
theorem dX1_isLate_18 : decode cX1_isLate 18 = .ok (.aload_n 0, 1) := dk_42 (dk_at dksX1_isLate_0 18 rfl rfl)
theorem dX1_isLate_19 : decode cX1_isLate 19 = .ok (.getfield 142, 3) := dk_180 0 142 (dk_at dksX1_isLate_0 19 rfl rfl)
theorem dX1_isLate_22 : decode cX1_isLate 22 = .ok (.aload_n 0, 1) := dk_42 (dk_at dksX1_isLate_0 22 rfl rfl)
theorem dX1_isLate_23 : decode cX1_isLate 23 = .ok (.getfield 39, 3) := dk_180 0 39 (dk_at dksX1_isLate_1 0 rfl rfl)
theorem dX1_isLate_26 : decode cX1_isLate 26 = .ok (.iload_n 1, 1) := dk_27 (dk_at dksX1_isLate_1 3 rfl rfl)
theorem dX1_isLate_27 : decode cX1_isLate 27 = .ok (.iaload, 1) := dk_46 (dk_at dksX1_isLate_1 4 rfl rfl)
theorem dX1_isLate_28 : decode cX1_isLate 28 = .ok (.isub, 1) := dk_100 (dk_at dksX1_isLate_1 5 rfl rfl)
theorem dX1_isLate_29 : decode cX1_isLate 29 = .ok (.aload_n 0, 1) := dk_42 (dk_at dksX1_isLate_1 6 rfl rfl)
theorem dX1_isLate_30 : decode cX1_isLate 30 = .ok (.bipush 7, 2) := dk_16 7 (dk_at dksX1_isLate_1 7 rfl rfl)
theorem dX1_isLate_32 : decode cX1_isLate 32 = .ok (.iload_n 1, 1) := dk_27 (dk_at dksX1_isLate_1 9 rfl rfl)
theorem dX1_isLate_33 : decode cX1_isLate 33 = .ok (.invokevirtual 223, 3) := dk_182 0 223 (dk_at dksX1_isLate_1 10 rfl rfl)
theorem dX1_isLate_36 : decode cX1_isLate 36 = .ok (.if_icmp .lt 7, 3) := dk_161 0 7 (dk_at dksX1_isLate_1 13 rfl rfl)
theorem dX1_isLate_39 : decode cX1_isLate 39 = .ok (.iconst 1, 1) := dk_4 (dk_at dksX1_isLate_1 16 rfl rfl)
theorem dX1_isLate_40 : decode cX1_isLate 40 = .ok (.goto 4, 3) := dk_167 0 4 (dk_at dksX1_isLate_1 17 rfl rfl)
theorem dX1_isLate_43 : decode cX1_isLate 43 = .ok (.iconst 0, 1) := dk_3 (dk_at dksX1_isLate_1 20 rfl rfl)
theorem dX1_isLate_44 : decode cX1_isLate 44 = .ok (.ireturn, 1) := dk_172 (dk_at dksX1_isLate_1 21 rfl rfl)
abbrev cX1_isBare : ByteArray := prog_4_method_5_code
def yX1_isBare : MethodName := ⟨RX1, "isBare", "(I)Z"⟩
def dkwX1_isBare_0 : List UInt8 := [42, 180, 0, 30, 27, 46, 154, 0, 7, 4, 167, 0, 4, 3, 172]
abbrev dktX1_isBare_0 : List UInt8 := dkwX1_isBare_0 ++ []
theorem dksX1_isBare_0 : cX1_isBare.data.toList.drop 0 = dktX1_isBare_0 := by decide +kernel
theorem dX1_isBare_0 : decode cX1_isBare 0 = .ok (.aload_n 0, 1) := dk_42 (dk_at dksX1_isBare_0 0 rfl rfl)
theorem dX1_isBare_1 : decode cX1_isBare 1 = .ok (.getfield 30, 3) := dk_180 0 30 (dk_at dksX1_isBare_0 1 rfl rfl)
theorem dX1_isBare_4 : decode cX1_isBare 4 = .ok (.iload_n 1, 1) := dk_27 (dk_at dksX1_isBare_0 4 rfl rfl)
theorem dX1_isBare_5 : decode cX1_isBare 5 = .ok (.iaload, 1) := dk_46 (dk_at dksX1_isBare_0 5 rfl rfl)
theorem dX1_isBare_6 : decode cX1_isBare 6 = .ok (.ifCond .ne 7, 3) := dk_154 0 7 (dk_at dksX1_isBare_0 6 rfl rfl)
theorem dX1_isBare_9 : decode cX1_isBare 9 = .ok (.iconst 1, 1) := dk_4 (dk_at dksX1_isBare_0 9 rfl rfl)
theorem dX1_isBare_10 : decode cX1_isBare 10 = .ok (.goto 4, 3) := dk_167 0 4 (dk_at dksX1_isBare_0 10 rfl rfl)
theorem dX1_isBare_13 : decode cX1_isBare 13 = .ok (.iconst 0, 1) := dk_3 (dk_at dksX1_isBare_0 13 rfl rfl)
theorem dX1_isBare_14 : decode cX1_isBare 14 = .ok (.ireturn, 1) := dk_172 (dk_at dksX1_isBare_0 14 rfl rfl)
abbrev cX1_saysNow : ByteArray := prog_4_method_17_code
def yX1_saysNow : MethodName := ⟨RX1, "saysNow", "(II)I"⟩
def dkwX1_saysNow_0 : List UInt8 := [42, 27, 28, 42, 180, 0, 142, 182, 0, 218, 172]
abbrev dktX1_saysNow_0 : List UInt8 := dkwX1_saysNow_0 ++ []
theorem dksX1_saysNow_0 : cX1_saysNow.data.toList.drop 0 = dktX1_saysNow_0 := by decide +kernel
theorem dX1_saysNow_0 : decode cX1_saysNow 0 = .ok (.aload_n 0, 1) := dk_42 (dk_at dksX1_saysNow_0 0 rfl rfl)
theorem dX1_saysNow_1 : decode cX1_saysNow 1 = .ok (.iload_n 1, 1) := dk_27 (dk_at dksX1_saysNow_0 1 rfl rfl)
theorem dX1_saysNow_2 : decode cX1_saysNow 2 = .ok (.iload_n 2, 1) := dk_28 (dk_at dksX1_saysNow_0 2 rfl rfl)
theorem dX1_saysNow_3 : decode cX1_saysNow 3 = .ok (.aload_n 0, 1) := dk_42 (dk_at dksX1_saysNow_0 3 rfl rfl)
theorem dX1_saysNow_4 : decode cX1_saysNow 4 = .ok (.getfield 142, 3) := dk_180 0 142 (dk_at dksX1_saysNow_0 4 rfl rfl)
theorem dX1_saysNow_7 : decode cX1_saysNow 7 = .ok (.invokevirtual 218, 3) := dk_182 0 218 (dk_at dksX1_saysNow_0 7 rfl rfl)
theorem dX1_saysNow_10 : decode cX1_saysNow 10 = .ok (.ireturn, 1) := dk_172 (dk_at dksX1_saysNow_0 10 rfl rfl)
abbrev cX1_says : ByteArray := prog_4_method_16_code
def yX1_says : MethodName := ⟨RX1, "says", "(III)I"⟩
def dkwX1_says_2 : List UInt8 := [160, 0, 8, 16, 99, 167, 0, 4, 3, 172]
abbrev dktX1_says_2 : List UInt8 := dkwX1_says_2 ++ []
def dkwX1_says_1 : List UInt8 := [180, 0, 215, 42, 28, 29, 182, 0, 206, 172, 27, 4, 160, 0, 9, 17, 39, 15, 167, 0, 15, 27, 16, 7]
abbrev dktX1_says_1 : List UInt8 := dkwX1_says_1 ++ dktX1_says_2
def dkwX1_says_0 : List UInt8 := [42, 27, 28, 29, 182, 0, 212, 54, 4, 21, 4, 2, 159, 0, 20, 42, 180, 0, 91, 21, 4, 50]
abbrev dktX1_says_0 : List UInt8 := dkwX1_says_0 ++ dktX1_says_1
theorem dksX1_says_0 : cX1_says.data.toList.drop 0 = dktX1_says_0 := by decide +kernel
theorem dksX1_says_1 : cX1_says.data.toList.drop 22 = dktX1_says_1 := dk_seg dksX1_says_0 22 rfl rfl
theorem dksX1_says_2 : cX1_says.data.toList.drop 46 = dktX1_says_2 := dk_seg dksX1_says_1 24 rfl rfl
theorem dX1_says_0 : decode cX1_says 0 = .ok (.aload_n 0, 1) := dk_42 (dk_at dksX1_says_0 0 rfl rfl)
theorem dX1_says_1 : decode cX1_says 1 = .ok (.iload_n 1, 1) := dk_27 (dk_at dksX1_says_0 1 rfl rfl)
theorem dX1_says_2 : decode cX1_says 2 = .ok (.iload_n 2, 1) := dk_28 (dk_at dksX1_says_0 2 rfl rfl)
theorem dX1_says_3 : decode cX1_says 3 = .ok (.iload_n 3, 1) := dk_29 (dk_at dksX1_says_0 3 rfl rfl)
theorem dX1_says_4 : decode cX1_says 4 = .ok (.invokevirtual 212, 3) := dk_182 0 212 (dk_at dksX1_says_0 4 rfl rfl)
theorem dX1_says_7 : decode cX1_says 7 = .ok (.istore 4, 2) := dk_54 4 (dk_at dksX1_says_0 7 rfl rfl)
theorem dX1_says_9 : decode cX1_says 9 = .ok (.iload 4, 2) := dk_21 4 (dk_at dksX1_says_0 9 rfl rfl)
theorem dX1_says_11 : decode cX1_says 11 = .ok (.iconst (-1), 1) := dk_2 (dk_at dksX1_says_0 11 rfl rfl)
theorem dX1_says_12 : decode cX1_says 12 = .ok (.if_icmp .eq 20, 3) := dk_159 0 20 (dk_at dksX1_says_0 12 rfl rfl)
theorem dX1_says_15 : decode cX1_says 15 = .ok (.aload_n 0, 1) := dk_42 (dk_at dksX1_says_0 15 rfl rfl)
theorem dX1_says_16 : decode cX1_says 16 = .ok (.getfield 91, 3) := dk_180 0 91 (dk_at dksX1_says_0 16 rfl rfl)
theorem dX1_says_19 : decode cX1_says 19 = .ok (.iload 4, 2) := dk_21 4 (dk_at dksX1_says_0 19 rfl rfl)
theorem dX1_says_21 : decode cX1_says 21 = .ok (.aaload, 1) := dk_50 (dk_at dksX1_says_0 21 rfl rfl)
theorem dX1_says_22 : decode cX1_says 22 = .ok (.getfield 215, 3) := dk_180 0 215 (dk_at dksX1_says_1 0 rfl rfl)
theorem dX1_says_25 : decode cX1_says 25 = .ok (.aload_n 0, 1) := dk_42 (dk_at dksX1_says_1 3 rfl rfl)
theorem dX1_says_26 : decode cX1_says 26 = .ok (.iload_n 2, 1) := dk_28 (dk_at dksX1_says_1 4 rfl rfl)
theorem dX1_says_27 : decode cX1_says 27 = .ok (.iload_n 3, 1) := dk_29 (dk_at dksX1_says_1 5 rfl rfl)
theorem dX1_says_28 : decode cX1_says 28 = .ok (.invokevirtual 206, 3) := dk_182 0 206 (dk_at dksX1_says_1 6 rfl rfl)
theorem dX1_says_31 : decode cX1_says 31 = .ok (.ireturn, 1) := dk_172 (dk_at dksX1_says_1 9 rfl rfl)
theorem dX1_says_32 : decode cX1_says 32 = .ok (.iload_n 1, 1) := dk_27 (dk_at dksX1_says_1 10 rfl rfl)
theorem dX1_says_33 : decode cX1_says 33 = .ok (.iconst 1, 1) := dk_4 (dk_at dksX1_says_1 11 rfl rfl)
theorem dX1_says_34 : decode cX1_says 34 = .ok (.if_icmp .ne 9, 3) := dk_160 0 9 (dk_at dksX1_says_1 12 rfl rfl)
theorem dX1_says_37 : decode cX1_says 37 = .ok (.sipush 9999, 3) := dk_17 39 15 (dk_at dksX1_says_1 15 rfl rfl)
theorem dX1_says_40 : decode cX1_says 40 = .ok (.goto 15, 3) := dk_167 0 15 (dk_at dksX1_says_1 18 rfl rfl)
theorem dX1_says_43 : decode cX1_says 43 = .ok (.iload_n 1, 1) := dk_27 (dk_at dksX1_says_1 21 rfl rfl)
theorem dX1_says_44 : decode cX1_says 44 = .ok (.bipush 7, 2) := dk_16 7 (dk_at dksX1_says_1 22 rfl rfl)
theorem dX1_says_46 : decode cX1_says 46 = .ok (.if_icmp .ne 8, 3) := dk_160 0 8 (dk_at dksX1_says_2 0 rfl rfl)
theorem dX1_says_49 : decode cX1_says 49 = .ok (.bipush 99, 2) := dk_16 99 (dk_at dksX1_says_2 3 rfl rfl)
theorem dX1_says_51 : decode cX1_says 51 = .ok (.goto 4, 3) := dk_167 0 4 (dk_at dksX1_says_2 5 rfl rfl)
theorem dX1_says_54 : decode cX1_says 54 = .ok (.iconst 0, 1) := dk_3 (dk_at dksX1_says_2 8 rfl rfl)
theorem dX1_says_55 : decode cX1_says 55 = .ok (.ireturn, 1) := dk_172 (dk_at dksX1_says_2 9 rfl rfl)
abbrev cX1_lineFor : ByteArray := prog_4_method_15_code
def yX1_lineFor : MethodName := ⟨RX1, "lineFor", "(III)I"⟩
def dkwX1_lineFor_3 : List UInt8 := [153, 0, 6, 21, 4, 172, 132, 4, 255, 167, 255, 183, 2, 172]
abbrev dktX1_lineFor_3 : List UInt8 := dkwX1_lineFor_3 ++ []
def dkwX1_lineFor_2 : List UInt8 := [21, 6, 153, 0, 28, 25, 5, 180, 0, 202, 198, 0, 17, 25, 5, 180, 0, 202, 42, 28, 29, 182, 0, 206]
abbrev dktX1_lineFor_2 : List UInt8 := dkwX1_lineFor_2 ++ dktX1_lineFor_3
def dkwX1_lineFor_1 : List UInt8 := [180, 0, 195, 27, 160, 0, 17, 42, 21, 4, 29, 182, 0, 198, 153, 0, 7, 4, 167, 0, 4, 3, 54, 6]
abbrev dktX1_lineFor_1 : List UInt8 := dkwX1_lineFor_1 ++ dktX1_lineFor_2
def dkwX1_lineFor_0 : List UInt8 := [42, 180, 0, 162, 4, 100, 54, 4, 21, 4, 155, 0, 74, 42, 180, 0, 91, 21, 4, 50, 58, 5, 25, 5]
abbrev dktX1_lineFor_0 : List UInt8 := dkwX1_lineFor_0 ++ dktX1_lineFor_1
theorem dksX1_lineFor_0 : cX1_lineFor.data.toList.drop 0 = dktX1_lineFor_0 := by decide +kernel
theorem dksX1_lineFor_1 : cX1_lineFor.data.toList.drop 24 = dktX1_lineFor_1 := dk_seg dksX1_lineFor_0 24 rfl rfl
theorem dksX1_lineFor_2 : cX1_lineFor.data.toList.drop 48 = dktX1_lineFor_2 := dk_seg dksX1_lineFor_1 24 rfl rfl
theorem dksX1_lineFor_3 : cX1_lineFor.data.toList.drop 72 = dktX1_lineFor_3 := dk_seg dksX1_lineFor_2 24 rfl rfl
theorem dX1_lineFor_0 : decode cX1_lineFor 0 = .ok (.aload_n 0, 1) := dk_42 (dk_at dksX1_lineFor_0 0 rfl rfl)
theorem dX1_lineFor_1 : decode cX1_lineFor 1 = .ok (.getfield 162, 3) := dk_180 0 162 (dk_at dksX1_lineFor_0 1 rfl rfl)
theorem dX1_lineFor_4 : decode cX1_lineFor 4 = .ok (.iconst 1, 1) := dk_4 (dk_at dksX1_lineFor_0 4 rfl rfl)
theorem dX1_lineFor_5 : decode cX1_lineFor 5 = .ok (.isub, 1) := dk_100 (dk_at dksX1_lineFor_0 5 rfl rfl)
theorem dX1_lineFor_6 : decode cX1_lineFor 6 = .ok (.istore 4, 2) := dk_54 4 (dk_at dksX1_lineFor_0 6 rfl rfl)
theorem dX1_lineFor_8 : decode cX1_lineFor 8 = .ok (.iload 4, 2) := dk_21 4 (dk_at dksX1_lineFor_0 8 rfl rfl)
theorem dX1_lineFor_10 : decode cX1_lineFor 10 = .ok (.ifCond .lt 74, 3) := dk_155 0 74 (dk_at dksX1_lineFor_0 10 rfl rfl)
theorem dX1_lineFor_13 : decode cX1_lineFor 13 = .ok (.aload_n 0, 1) := dk_42 (dk_at dksX1_lineFor_0 13 rfl rfl)
theorem dX1_lineFor_14 : decode cX1_lineFor 14 = .ok (.getfield 91, 3) := dk_180 0 91 (dk_at dksX1_lineFor_0 14 rfl rfl)
theorem dX1_lineFor_17 : decode cX1_lineFor 17 = .ok (.iload 4, 2) := dk_21 4 (dk_at dksX1_lineFor_0 17 rfl rfl)
theorem dX1_lineFor_19 : decode cX1_lineFor 19 = .ok (.aaload, 1) := dk_50 (dk_at dksX1_lineFor_0 19 rfl rfl)
theorem dX1_lineFor_20 : decode cX1_lineFor 20 = .ok (.astore 5, 2) := dk_58 5 (dk_at dksX1_lineFor_0 20 rfl rfl)
theorem dX1_lineFor_22 : decode cX1_lineFor 22 = .ok (.aload 5, 2) := dk_25 5 (dk_at dksX1_lineFor_0 22 rfl rfl)
theorem dX1_lineFor_24 : decode cX1_lineFor 24 = .ok (.getfield 195, 3) := dk_180 0 195 (dk_at dksX1_lineFor_1 0 rfl rfl)
theorem dX1_lineFor_27 : decode cX1_lineFor 27 = .ok (.iload_n 1, 1) := dk_27 (dk_at dksX1_lineFor_1 3 rfl rfl)
theorem dX1_lineFor_28 : decode cX1_lineFor 28 = .ok (.if_icmp .ne 17, 3) := dk_160 0 17 (dk_at dksX1_lineFor_1 4 rfl rfl)
theorem dX1_lineFor_31 : decode cX1_lineFor 31 = .ok (.aload_n 0, 1) := dk_42 (dk_at dksX1_lineFor_1 7 rfl rfl)
theorem dX1_lineFor_32 : decode cX1_lineFor 32 = .ok (.iload 4, 2) := dk_21 4 (dk_at dksX1_lineFor_1 8 rfl rfl)
theorem dX1_lineFor_34 : decode cX1_lineFor 34 = .ok (.iload_n 3, 1) := dk_29 (dk_at dksX1_lineFor_1 10 rfl rfl)
theorem dX1_lineFor_35 : decode cX1_lineFor 35 = .ok (.invokevirtual 198, 3) := dk_182 0 198 (dk_at dksX1_lineFor_1 11 rfl rfl)
theorem dX1_lineFor_38 : decode cX1_lineFor 38 = .ok (.ifCond .eq 7, 3) := dk_153 0 7 (dk_at dksX1_lineFor_1 14 rfl rfl)
theorem dX1_lineFor_41 : decode cX1_lineFor 41 = .ok (.iconst 1, 1) := dk_4 (dk_at dksX1_lineFor_1 17 rfl rfl)
theorem dX1_lineFor_42 : decode cX1_lineFor 42 = .ok (.goto 4, 3) := dk_167 0 4 (dk_at dksX1_lineFor_1 18 rfl rfl)
theorem dX1_lineFor_45 : decode cX1_lineFor 45 = .ok (.iconst 0, 1) := dk_3 (dk_at dksX1_lineFor_1 21 rfl rfl)
theorem dX1_lineFor_46 : decode cX1_lineFor 46 = .ok (.istore 6, 2) := dk_54 6 (dk_at dksX1_lineFor_1 22 rfl rfl)
theorem dX1_lineFor_48 : decode cX1_lineFor 48 = .ok (.iload 6, 2) := dk_21 6 (dk_at dksX1_lineFor_2 0 rfl rfl)
theorem dX1_lineFor_50 : decode cX1_lineFor 50 = .ok (.ifCond .eq 28, 3) := dk_153 0 28 (dk_at dksX1_lineFor_2 2 rfl rfl)
theorem dX1_lineFor_53 : decode cX1_lineFor 53 = .ok (.aload 5, 2) := dk_25 5 (dk_at dksX1_lineFor_2 5 rfl rfl)
theorem dX1_lineFor_55 : decode cX1_lineFor 55 = .ok (.getfield 202, 3) := dk_180 0 202 (dk_at dksX1_lineFor_2 7 rfl rfl)
theorem dX1_lineFor_58 : decode cX1_lineFor 58 = .ok (.ifnull 17, 3) := dk_198 0 17 (dk_at dksX1_lineFor_2 10 rfl rfl)
theorem dX1_lineFor_61 : decode cX1_lineFor 61 = .ok (.aload 5, 2) := dk_25 5 (dk_at dksX1_lineFor_2 13 rfl rfl)
theorem dX1_lineFor_63 : decode cX1_lineFor 63 = .ok (.getfield 202, 3) := dk_180 0 202 (dk_at dksX1_lineFor_2 15 rfl rfl)
theorem dX1_lineFor_66 : decode cX1_lineFor 66 = .ok (.aload_n 0, 1) := dk_42 (dk_at dksX1_lineFor_2 18 rfl rfl)
theorem dX1_lineFor_67 : decode cX1_lineFor 67 = .ok (.iload_n 2, 1) := dk_28 (dk_at dksX1_lineFor_2 19 rfl rfl)
theorem dX1_lineFor_68 : decode cX1_lineFor 68 = .ok (.iload_n 3, 1) := dk_29 (dk_at dksX1_lineFor_2 20 rfl rfl)
theorem dX1_lineFor_69 : decode cX1_lineFor 69 = .ok (.invokevirtual 206, 3) := dk_182 0 206 (dk_at dksX1_lineFor_2 21 rfl rfl)
theorem dX1_lineFor_72 : decode cX1_lineFor 72 = .ok (.ifCond .eq 6, 3) := dk_153 0 6 (dk_at dksX1_lineFor_3 0 rfl rfl)
theorem dX1_lineFor_75 : decode cX1_lineFor 75 = .ok (.iload 4, 2) := dk_21 4 (dk_at dksX1_lineFor_3 3 rfl rfl)
theorem dX1_lineFor_77 : decode cX1_lineFor 77 = .ok (.ireturn, 1) := dk_172 (dk_at dksX1_lineFor_3 5 rfl rfl)
theorem dX1_lineFor_78 : decode cX1_lineFor 78 = .ok (.iinc 4 (-1), 3) := dk_132 4 255 (dk_at dksX1_lineFor_3 6 rfl rfl)
theorem dX1_lineFor_81 : decode cX1_lineFor 81 = .ok (.goto (-73), 3) := dk_167 255 183 (dk_at dksX1_lineFor_3 9 rfl rfl)
theorem dX1_lineFor_84 : decode cX1_lineFor 84 = .ok (.iconst (-1), 1) := dk_2 (dk_at dksX1_lineFor_3 12 rfl rfl)
theorem dX1_lineFor_85 : decode cX1_lineFor 85 = .ok (.ireturn, 1) := dk_172 (dk_at dksX1_lineFor_3 13 rfl rfl)
abbrev cX1_isInForce : ByteArray := prog_4_method_14_code
def yX1_isInForce : MethodName := ⟨RX1, "isInForce", "(II)Z"⟩
def dkwX1_isInForce_1 : List UInt8 := [180, 0, 98, 27, 46, 162, 0, 7, 4, 167, 0, 4, 3, 172]
abbrev dktX1_isInForce_1 : List UInt8 := dkwX1_isInForce_1 ++ []
def dkwX1_isInForce_0 : List UInt8 := [42, 180, 0, 95, 27, 46, 28, 163, 0, 27, 42, 180, 0, 98, 27, 46, 2, 159, 0, 13, 28, 42]
abbrev dktX1_isInForce_0 : List UInt8 := dkwX1_isInForce_0 ++ dktX1_isInForce_1
theorem dksX1_isInForce_0 : cX1_isInForce.data.toList.drop 0 = dktX1_isInForce_0 := by decide +kernel
theorem dksX1_isInForce_1 : cX1_isInForce.data.toList.drop 22 = dktX1_isInForce_1 := dk_seg dksX1_isInForce_0 22 rfl rfl
theorem dX1_isInForce_0 : decode cX1_isInForce 0 = .ok (.aload_n 0, 1) := dk_42 (dk_at dksX1_isInForce_0 0 rfl rfl)
theorem dX1_isInForce_1 : decode cX1_isInForce 1 = .ok (.getfield 95, 3) := dk_180 0 95 (dk_at dksX1_isInForce_0 1 rfl rfl)
theorem dX1_isInForce_4 : decode cX1_isInForce 4 = .ok (.iload_n 1, 1) := dk_27 (dk_at dksX1_isInForce_0 4 rfl rfl)
theorem dX1_isInForce_5 : decode cX1_isInForce 5 = .ok (.iaload, 1) := dk_46 (dk_at dksX1_isInForce_0 5 rfl rfl)
theorem dX1_isInForce_6 : decode cX1_isInForce 6 = .ok (.iload_n 2, 1) := dk_28 (dk_at dksX1_isInForce_0 6 rfl rfl)
theorem dX1_isInForce_7 : decode cX1_isInForce 7 = .ok (.if_icmp .gt 27, 3) := dk_163 0 27 (dk_at dksX1_isInForce_0 7 rfl rfl)
theorem dX1_isInForce_10 : decode cX1_isInForce 10 = .ok (.aload_n 0, 1) := dk_42 (dk_at dksX1_isInForce_0 10 rfl rfl)
theorem dX1_isInForce_11 : decode cX1_isInForce 11 = .ok (.getfield 98, 3) := dk_180 0 98 (dk_at dksX1_isInForce_0 11 rfl rfl)
theorem dX1_isInForce_14 : decode cX1_isInForce 14 = .ok (.iload_n 1, 1) := dk_27 (dk_at dksX1_isInForce_0 14 rfl rfl)
theorem dX1_isInForce_15 : decode cX1_isInForce 15 = .ok (.iaload, 1) := dk_46 (dk_at dksX1_isInForce_0 15 rfl rfl)
theorem dX1_isInForce_16 : decode cX1_isInForce 16 = .ok (.iconst (-1), 1) := dk_2 (dk_at dksX1_isInForce_0 16 rfl rfl)
theorem dX1_isInForce_17 : decode cX1_isInForce 17 = .ok (.if_icmp .eq 13, 3) := dk_159 0 13 (dk_at dksX1_isInForce_0 17 rfl rfl)
theorem dX1_isInForce_20 : decode cX1_isInForce 20 = .ok (.iload_n 2, 1) := dk_28 (dk_at dksX1_isInForce_0 20 rfl rfl)
theorem dX1_isInForce_21 : decode cX1_isInForce 21 = .ok (.aload_n 0, 1) := dk_42 (dk_at dksX1_isInForce_0 21 rfl rfl)
theorem dX1_isInForce_22 : decode cX1_isInForce 22 = .ok (.getfield 98, 3) := dk_180 0 98 (dk_at dksX1_isInForce_1 0 rfl rfl)
theorem dX1_isInForce_25 : decode cX1_isInForce 25 = .ok (.iload_n 1, 1) := dk_27 (dk_at dksX1_isInForce_1 3 rfl rfl)
theorem dX1_isInForce_26 : decode cX1_isInForce 26 = .ok (.iaload, 1) := dk_46 (dk_at dksX1_isInForce_1 4 rfl rfl)
theorem dX1_isInForce_27 : decode cX1_isInForce 27 = .ok (.if_icmp .ge 7, 3) := dk_162 0 7 (dk_at dksX1_isInForce_1 5 rfl rfl)
theorem dX1_isInForce_30 : decode cX1_isInForce 30 = .ok (.iconst 1, 1) := dk_4 (dk_at dksX1_isInForce_1 8 rfl rfl)
theorem dX1_isInForce_31 : decode cX1_isInForce 31 = .ok (.goto 4, 3) := dk_167 0 4 (dk_at dksX1_isInForce_1 9 rfl rfl)
theorem dX1_isInForce_34 : decode cX1_isInForce 34 = .ok (.iconst 0, 1) := dk_3 (dk_at dksX1_isInForce_1 12 rfl rfl)
theorem dX1_isInForce_35 : decode cX1_isInForce 35 = .ok (.ireturn, 1) := dk_172 (dk_at dksX1_isInForce_1 13 rfl rfl)
abbrev cX1_told : ByteArray := prog_4_method_13_code
def yX1_told : MethodName := ⟨RX1, "told", "(II)I"⟩
def dkwX1_told_6 : List UInt8 := [180, 0, 30, 28, 46, 172, 42, 180, 0, 24, 28, 46, 172, 42, 180, 0, 9, 28, 46, 172, 3, 172]
abbrev dktX1_told_6 : List UInt8 := dkwX1_told_6 ++ []
def dkwX1_told_5 : List UInt8 := [180, 0, 128, 2, 160, 0, 12, 42, 180, 0, 27, 28, 46, 167, 0, 7, 42, 180, 0, 128, 172, 42]
abbrev dktX1_told_5 : List UInt8 := dkwX1_told_5 ++ dktX1_told_6
def dkwX1_told_4 : List UInt8 := [42, 180, 0, 18, 28, 46, 172, 42, 180, 0, 15, 28, 46, 172, 42, 180, 0, 21, 28, 46, 172, 42]
abbrev dktX1_told_4 : List UInt8 := dkwX1_told_4 ++ dktX1_told_5
def dkwX1_told_3 : List UInt8 := [170, 0, 0, 0, 105, 0, 0, 0, 0, 0, 0, 0, 6, 0, 0, 0, 41, 0, 0, 0, 48, 0, 0, 0, 55, 0, 0, 0, 62, 0, 0, 0, 84, 0, 0, 0, 91, 0, 0, 0, 98]
abbrev dktX1_told_3 : List UInt8 := dkwX1_told_3 ++ dktX1_told_4
def dkwX1_told_2 : List UInt8 := [42, 180, 0, 73, 29, 46, 167, 0, 4, 3, 172, 27]
abbrev dktX1_told_2 : List UInt8 := dkwX1_told_2 ++ dktX1_told_3
def dkwX1_told_1 : List UInt8 := [167, 0, 34, 27, 16, 8, 160, 0, 12, 42, 180, 0, 70, 29, 46, 167, 0, 19, 27, 16, 9, 160, 0, 12]
abbrev dktX1_told_1 : List UInt8 := dkwX1_told_1 ++ dktX1_told_2
def dkwX1_told_0 : List UInt8 := [28, 16, 100, 161, 0, 55, 28, 16, 100, 100, 62, 27, 16, 6, 160, 0, 12, 42, 180, 0, 67, 29, 46]
abbrev dktX1_told_0 : List UInt8 := dkwX1_told_0 ++ dktX1_told_1
theorem dksX1_told_0 : cX1_told.data.toList.drop 0 = dktX1_told_0 := by decide +kernel
theorem dksX1_told_1 : cX1_told.data.toList.drop 23 = dktX1_told_1 := dk_seg dksX1_told_0 23 rfl rfl
theorem dksX1_told_2 : cX1_told.data.toList.drop 47 = dktX1_told_2 := dk_seg dksX1_told_1 24 rfl rfl
theorem dksX1_told_3 : cX1_told.data.toList.drop 59 = dktX1_told_3 := dk_seg dksX1_told_2 12 rfl rfl
theorem dksX1_told_4 : cX1_told.data.toList.drop 100 = dktX1_told_4 := dk_seg dksX1_told_3 41 rfl rfl
theorem dksX1_told_5 : cX1_told.data.toList.drop 122 = dktX1_told_5 := dk_seg dksX1_told_4 22 rfl rfl
theorem dksX1_told_6 : cX1_told.data.toList.drop 144 = dktX1_told_6 := dk_seg dksX1_told_5 22 rfl rfl
theorem dX1_told_0 : decode cX1_told 0 = .ok (.iload_n 2, 1) := dk_28 (dk_at dksX1_told_0 0 rfl rfl)
theorem dX1_told_1 : decode cX1_told 1 = .ok (.bipush 100, 2) := dk_16 100 (dk_at dksX1_told_0 1 rfl rfl)
theorem dX1_told_3 : decode cX1_told 3 = .ok (.if_icmp .lt 55, 3) := dk_161 0 55 (dk_at dksX1_told_0 3 rfl rfl)
theorem dX1_told_6 : decode cX1_told 6 = .ok (.iload_n 2, 1) := dk_28 (dk_at dksX1_told_0 6 rfl rfl)
theorem dX1_told_7 : decode cX1_told 7 = .ok (.bipush 100, 2) := dk_16 100 (dk_at dksX1_told_0 7 rfl rfl)
theorem dX1_told_9 : decode cX1_told 9 = .ok (.isub, 1) := dk_100 (dk_at dksX1_told_0 9 rfl rfl)
theorem dX1_told_10 : decode cX1_told 10 = .ok (.istore_n 3, 1) := dk_62 (dk_at dksX1_told_0 10 rfl rfl)
theorem dX1_told_11 : decode cX1_told 11 = .ok (.iload_n 1, 1) := dk_27 (dk_at dksX1_told_0 11 rfl rfl)
theorem dX1_told_12 : decode cX1_told 12 = .ok (.bipush 6, 2) := dk_16 6 (dk_at dksX1_told_0 12 rfl rfl)
theorem dX1_told_14 : decode cX1_told 14 = .ok (.if_icmp .ne 12, 3) := dk_160 0 12 (dk_at dksX1_told_0 14 rfl rfl)
theorem dX1_told_17 : decode cX1_told 17 = .ok (.aload_n 0, 1) := dk_42 (dk_at dksX1_told_0 17 rfl rfl)
theorem dX1_told_18 : decode cX1_told 18 = .ok (.getfield 67, 3) := dk_180 0 67 (dk_at dksX1_told_0 18 rfl rfl)
theorem dX1_told_21 : decode cX1_told 21 = .ok (.iload_n 3, 1) := dk_29 (dk_at dksX1_told_0 21 rfl rfl)
theorem dX1_told_22 : decode cX1_told 22 = .ok (.iaload, 1) := dk_46 (dk_at dksX1_told_0 22 rfl rfl)
theorem dX1_told_23 : decode cX1_told 23 = .ok (.goto 34, 3) := dk_167 0 34 (dk_at dksX1_told_1 0 rfl rfl)
theorem dX1_told_26 : decode cX1_told 26 = .ok (.iload_n 1, 1) := dk_27 (dk_at dksX1_told_1 3 rfl rfl)
theorem dX1_told_27 : decode cX1_told 27 = .ok (.bipush 8, 2) := dk_16 8 (dk_at dksX1_told_1 4 rfl rfl)
theorem dX1_told_29 : decode cX1_told 29 = .ok (.if_icmp .ne 12, 3) := dk_160 0 12 (dk_at dksX1_told_1 6 rfl rfl)
theorem dX1_told_32 : decode cX1_told 32 = .ok (.aload_n 0, 1) := dk_42 (dk_at dksX1_told_1 9 rfl rfl)
theorem dX1_told_33 : decode cX1_told 33 = .ok (.getfield 70, 3) := dk_180 0 70 (dk_at dksX1_told_1 10 rfl rfl)
theorem dX1_told_36 : decode cX1_told 36 = .ok (.iload_n 3, 1) := dk_29 (dk_at dksX1_told_1 13 rfl rfl)
theorem dX1_told_37 : decode cX1_told 37 = .ok (.iaload, 1) := dk_46 (dk_at dksX1_told_1 14 rfl rfl)
theorem dX1_told_38 : decode cX1_told 38 = .ok (.goto 19, 3) := dk_167 0 19 (dk_at dksX1_told_1 15 rfl rfl)
theorem dX1_told_41 : decode cX1_told 41 = .ok (.iload_n 1, 1) := dk_27 (dk_at dksX1_told_1 18 rfl rfl)
theorem dX1_told_42 : decode cX1_told 42 = .ok (.bipush 9, 2) := dk_16 9 (dk_at dksX1_told_1 19 rfl rfl)
theorem dX1_told_44 : decode cX1_told 44 = .ok (.if_icmp .ne 12, 3) := dk_160 0 12 (dk_at dksX1_told_1 21 rfl rfl)
theorem dX1_told_47 : decode cX1_told 47 = .ok (.aload_n 0, 1) := dk_42 (dk_at dksX1_told_2 0 rfl rfl)
theorem dX1_told_48 : decode cX1_told 48 = .ok (.getfield 73, 3) := dk_180 0 73 (dk_at dksX1_told_2 1 rfl rfl)
theorem dX1_told_51 : decode cX1_told 51 = .ok (.iload_n 3, 1) := dk_29 (dk_at dksX1_told_2 4 rfl rfl)
theorem dX1_told_52 : decode cX1_told 52 = .ok (.iaload, 1) := dk_46 (dk_at dksX1_told_2 5 rfl rfl)
theorem dX1_told_53 : decode cX1_told 53 = .ok (.goto 4, 3) := dk_167 0 4 (dk_at dksX1_told_2 6 rfl rfl)
theorem dX1_told_56 : decode cX1_told 56 = .ok (.iconst 0, 1) := dk_3 (dk_at dksX1_told_2 9 rfl rfl)
theorem dX1_told_57 : decode cX1_told 57 = .ok (.ireturn, 1) := dk_172 (dk_at dksX1_told_2 10 rfl rfl)
theorem dX1_told_58 : decode cX1_told 58 = .ok (.iload_n 1, 1) := dk_27 (dk_at dksX1_told_2 11 rfl rfl)
theorem dX1_told_59 : decode cX1_told 59 = .ok (.tableswitch 105 0 6 #[41, 48, 55, 62, 84, 91, 98], 41) := by decide +kernel
theorem dX1_told_100 : decode cX1_told 100 = .ok (.aload_n 0, 1) := dk_42 (dk_at dksX1_told_4 0 rfl rfl)
theorem dX1_told_101 : decode cX1_told 101 = .ok (.getfield 18, 3) := dk_180 0 18 (dk_at dksX1_told_4 1 rfl rfl)
theorem dX1_told_104 : decode cX1_told 104 = .ok (.iload_n 2, 1) := dk_28 (dk_at dksX1_told_4 4 rfl rfl)
theorem dX1_told_105 : decode cX1_told 105 = .ok (.iaload, 1) := dk_46 (dk_at dksX1_told_4 5 rfl rfl)
theorem dX1_told_106 : decode cX1_told 106 = .ok (.ireturn, 1) := dk_172 (dk_at dksX1_told_4 6 rfl rfl)
theorem dX1_told_107 : decode cX1_told 107 = .ok (.aload_n 0, 1) := dk_42 (dk_at dksX1_told_4 7 rfl rfl)
theorem dX1_told_108 : decode cX1_told 108 = .ok (.getfield 15, 3) := dk_180 0 15 (dk_at dksX1_told_4 8 rfl rfl)
theorem dX1_told_111 : decode cX1_told 111 = .ok (.iload_n 2, 1) := dk_28 (dk_at dksX1_told_4 11 rfl rfl)
theorem dX1_told_112 : decode cX1_told 112 = .ok (.iaload, 1) := dk_46 (dk_at dksX1_told_4 12 rfl rfl)
theorem dX1_told_113 : decode cX1_told 113 = .ok (.ireturn, 1) := dk_172 (dk_at dksX1_told_4 13 rfl rfl)
theorem dX1_told_114 : decode cX1_told 114 = .ok (.aload_n 0, 1) := dk_42 (dk_at dksX1_told_4 14 rfl rfl)
theorem dX1_told_115 : decode cX1_told 115 = .ok (.getfield 21, 3) := dk_180 0 21 (dk_at dksX1_told_4 15 rfl rfl)
theorem dX1_told_118 : decode cX1_told 118 = .ok (.iload_n 2, 1) := dk_28 (dk_at dksX1_told_4 18 rfl rfl)
theorem dX1_told_119 : decode cX1_told 119 = .ok (.iaload, 1) := dk_46 (dk_at dksX1_told_4 19 rfl rfl)
theorem dX1_told_120 : decode cX1_told 120 = .ok (.ireturn, 1) := dk_172 (dk_at dksX1_told_4 20 rfl rfl)
theorem dX1_told_121 : decode cX1_told 121 = .ok (.aload_n 0, 1) := dk_42 (dk_at dksX1_told_4 21 rfl rfl)
theorem dX1_told_122 : decode cX1_told 122 = .ok (.getfield 128, 3) := dk_180 0 128 (dk_at dksX1_told_5 0 rfl rfl)
theorem dX1_told_125 : decode cX1_told 125 = .ok (.iconst (-1), 1) := dk_2 (dk_at dksX1_told_5 3 rfl rfl)
theorem dX1_told_126 : decode cX1_told 126 = .ok (.if_icmp .ne 12, 3) := dk_160 0 12 (dk_at dksX1_told_5 4 rfl rfl)
theorem dX1_told_129 : decode cX1_told 129 = .ok (.aload_n 0, 1) := dk_42 (dk_at dksX1_told_5 7 rfl rfl)
theorem dX1_told_130 : decode cX1_told 130 = .ok (.getfield 27, 3) := dk_180 0 27 (dk_at dksX1_told_5 8 rfl rfl)
theorem dX1_told_133 : decode cX1_told 133 = .ok (.iload_n 2, 1) := dk_28 (dk_at dksX1_told_5 11 rfl rfl)
theorem dX1_told_134 : decode cX1_told 134 = .ok (.iaload, 1) := dk_46 (dk_at dksX1_told_5 12 rfl rfl)
theorem dX1_told_135 : decode cX1_told 135 = .ok (.goto 7, 3) := dk_167 0 7 (dk_at dksX1_told_5 13 rfl rfl)
theorem dX1_told_138 : decode cX1_told 138 = .ok (.aload_n 0, 1) := dk_42 (dk_at dksX1_told_5 16 rfl rfl)
theorem dX1_told_139 : decode cX1_told 139 = .ok (.getfield 128, 3) := dk_180 0 128 (dk_at dksX1_told_5 17 rfl rfl)
theorem dX1_told_142 : decode cX1_told 142 = .ok (.ireturn, 1) := dk_172 (dk_at dksX1_told_5 20 rfl rfl)
theorem dX1_told_143 : decode cX1_told 143 = .ok (.aload_n 0, 1) := dk_42 (dk_at dksX1_told_5 21 rfl rfl)
theorem dX1_told_144 : decode cX1_told 144 = .ok (.getfield 30, 3) := dk_180 0 30 (dk_at dksX1_told_6 0 rfl rfl)
theorem dX1_told_147 : decode cX1_told 147 = .ok (.iload_n 2, 1) := dk_28 (dk_at dksX1_told_6 3 rfl rfl)
theorem dX1_told_148 : decode cX1_told 148 = .ok (.iaload, 1) := dk_46 (dk_at dksX1_told_6 4 rfl rfl)
theorem dX1_told_149 : decode cX1_told 149 = .ok (.ireturn, 1) := dk_172 (dk_at dksX1_told_6 5 rfl rfl)
theorem dX1_told_150 : decode cX1_told 150 = .ok (.aload_n 0, 1) := dk_42 (dk_at dksX1_told_6 6 rfl rfl)
theorem dX1_told_151 : decode cX1_told 151 = .ok (.getfield 24, 3) := dk_180 0 24 (dk_at dksX1_told_6 7 rfl rfl)
theorem dX1_told_154 : decode cX1_told 154 = .ok (.iload_n 2, 1) := dk_28 (dk_at dksX1_told_6 10 rfl rfl)
theorem dX1_told_155 : decode cX1_told 155 = .ok (.iaload, 1) := dk_46 (dk_at dksX1_told_6 11 rfl rfl)
theorem dX1_told_156 : decode cX1_told 156 = .ok (.ireturn, 1) := dk_172 (dk_at dksX1_told_6 12 rfl rfl)
theorem dX1_told_157 : decode cX1_told 157 = .ok (.aload_n 0, 1) := dk_42 (dk_at dksX1_told_6 13 rfl rfl)
theorem dX1_told_158 : decode cX1_told 158 = .ok (.getfield 9, 3) := dk_180 0 9 (dk_at dksX1_told_6 14 rfl rfl)
theorem dX1_told_161 : decode cX1_told 161 = .ok (.iload_n 2, 1) := dk_28 (dk_at dksX1_told_6 17 rfl rfl)
theorem dX1_told_162 : decode cX1_told 162 = .ok (.iaload, 1) := dk_46 (dk_at dksX1_told_6 18 rfl rfl)
theorem dX1_told_163 : decode cX1_told 163 = .ok (.ireturn, 1) := dk_172 (dk_at dksX1_told_6 19 rfl rfl)
theorem dX1_told_164 : decode cX1_told 164 = .ok (.iconst 0, 1) := dk_3 (dk_at dksX1_told_6 20 rfl rfl)
theorem dX1_told_165 : decode cX1_told 165 = .ok (.ireturn, 1) := dk_172 (dk_at dksX1_told_6 21 rfl rfl)
abbrev cX1_between : ByteArray := prog_4_method_18_code
def yX1_between : MethodName := ⟨RX1, "between", "(II)I"⟩
def dkwX1_between_0 : List UInt8 := [3, 28, 27, 184, 0, 189, 184, 0, 220, 172]
abbrev dktX1_between_0 : List UInt8 := dkwX1_between_0 ++ []
theorem dksX1_between_0 : cX1_between.data.toList.drop 0 = dktX1_between_0 := by decide +kernel
theorem dX1_between_0 : decode cX1_between 0 = .ok (.iconst 0, 1) := dk_3 (dk_at dksX1_between_0 0 rfl rfl)
theorem dX1_between_1 : decode cX1_between 1 = .ok (.iload_n 2, 1) := dk_28 (dk_at dksX1_between_0 1 rfl rfl)
theorem dX1_between_2 : decode cX1_between 2 = .ok (.iload_n 1, 1) := dk_27 (dk_at dksX1_between_0 2 rfl rfl)
theorem dX1_between_3 : decode cX1_between 3 = .ok (.invokestatic 189, 3) := dk_184 0 189 (dk_at dksX1_between_0 3 rfl rfl)
theorem dX1_between_6 : decode cX1_between 6 = .ok (.invokestatic 220, 3) := dk_184 0 220 (dk_at dksX1_between_0 6 rfl rfl)
theorem dX1_between_9 : decode cX1_between 9 = .ok (.ireturn, 1) := dk_172 (dk_at dksX1_between_0 9 rfl rfl)
abbrev cX1_at : ByteArray := prog_4_method_27_code
def yX1_at : MethodName := ⟨RX1, "at", "(I)LWoodState$Lot;"⟩
def dkwX1_at_0 : List UInt8 := [42, 180, 0, 81, 27, 50, 180, 0, 252, 192, 1, 0, 176]
abbrev dktX1_at_0 : List UInt8 := dkwX1_at_0 ++ []
theorem dksX1_at_0 : cX1_at.data.toList.drop 0 = dktX1_at_0 := by decide +kernel
theorem dX1_at_0 : decode cX1_at 0 = .ok (.aload_n 0, 1) := dk_42 (dk_at dksX1_at_0 0 rfl rfl)
theorem dX1_at_1 : decode cX1_at 1 = .ok (.getfield 81, 3) := dk_180 0 81 (dk_at dksX1_at_0 1 rfl rfl)
theorem dX1_at_4 : decode cX1_at 4 = .ok (.iload_n 1, 1) := dk_27 (dk_at dksX1_at_0 4 rfl rfl)
theorem dX1_at_5 : decode cX1_at 5 = .ok (.aaload, 1) := dk_50 (dk_at dksX1_at_0 5 rfl rfl)
theorem dX1_at_6 : decode cX1_at 6 = .ok (.getfield 252, 3) := dk_180 0 252 (dk_at dksX1_at_0 6 rfl rfl)
theorem dX1_at_9 : decode cX1_at 9 = .ok (.checkcast 256, 3) := dk_192 1 0 (dk_at dksX1_at_0 9 rfl rfl)
theorem dX1_at_12 : decode cX1_at 12 = .ok (.areturn, 1) := dk_176 (dk_at dksX1_at_0 12 rfl rfl)
abbrev cX1_lack : ByteArray := prog_4_method_42_code
def yX1_lack : MethodName := ⟨RX1, "lack", "(I)I"⟩
def dkwX1_lack_1 : List UInt8 := [182, 1, 65, 100, 184, 0, 220, 172]
abbrev dktX1_lack_1 : List UInt8 := dkwX1_lack_1 ++ []
def dkwX1_lack_0 : List UInt8 := [42, 180, 0, 122, 27, 46, 61, 3, 42, 27, 28, 5, 100, 182, 1, 68, 42, 27, 28, 4, 100, 7]
abbrev dktX1_lack_0 : List UInt8 := dkwX1_lack_0 ++ dktX1_lack_1
theorem dksX1_lack_0 : cX1_lack.data.toList.drop 0 = dktX1_lack_0 := by decide +kernel
theorem dksX1_lack_1 : cX1_lack.data.toList.drop 22 = dktX1_lack_1 := dk_seg dksX1_lack_0 22 rfl rfl
theorem dX1_lack_0 : decode cX1_lack 0 = .ok (.aload_n 0, 1) := dk_42 (dk_at dksX1_lack_0 0 rfl rfl)
theorem dX1_lack_1 : decode cX1_lack 1 = .ok (.getfield 122, 3) := dk_180 0 122 (dk_at dksX1_lack_0 1 rfl rfl)
theorem dX1_lack_4 : decode cX1_lack 4 = .ok (.iload_n 1, 1) := dk_27 (dk_at dksX1_lack_0 4 rfl rfl)
theorem dX1_lack_5 : decode cX1_lack 5 = .ok (.iaload, 1) := dk_46 (dk_at dksX1_lack_0 5 rfl rfl)
theorem dX1_lack_6 : decode cX1_lack 6 = .ok (.istore_n 2, 1) := dk_61 (dk_at dksX1_lack_0 6 rfl rfl)
theorem dX1_lack_7 : decode cX1_lack 7 = .ok (.iconst 0, 1) := dk_3 (dk_at dksX1_lack_0 7 rfl rfl)
theorem dX1_lack_8 : decode cX1_lack 8 = .ok (.aload_n 0, 1) := dk_42 (dk_at dksX1_lack_0 8 rfl rfl)
theorem dX1_lack_9 : decode cX1_lack 9 = .ok (.iload_n 1, 1) := dk_27 (dk_at dksX1_lack_0 9 rfl rfl)
theorem dX1_lack_10 : decode cX1_lack 10 = .ok (.iload_n 2, 1) := dk_28 (dk_at dksX1_lack_0 10 rfl rfl)
theorem dX1_lack_11 : decode cX1_lack 11 = .ok (.iconst 2, 1) := dk_5 (dk_at dksX1_lack_0 11 rfl rfl)
theorem dX1_lack_12 : decode cX1_lack 12 = .ok (.isub, 1) := dk_100 (dk_at dksX1_lack_0 12 rfl rfl)
theorem dX1_lack_13 : decode cX1_lack 13 = .ok (.invokevirtual 324, 3) := dk_182 1 68 (dk_at dksX1_lack_0 13 rfl rfl)
theorem dX1_lack_16 : decode cX1_lack 16 = .ok (.aload_n 0, 1) := dk_42 (dk_at dksX1_lack_0 16 rfl rfl)
theorem dX1_lack_17 : decode cX1_lack 17 = .ok (.iload_n 1, 1) := dk_27 (dk_at dksX1_lack_0 17 rfl rfl)
theorem dX1_lack_18 : decode cX1_lack 18 = .ok (.iload_n 2, 1) := dk_28 (dk_at dksX1_lack_0 18 rfl rfl)
theorem dX1_lack_19 : decode cX1_lack 19 = .ok (.iconst 1, 1) := dk_4 (dk_at dksX1_lack_0 19 rfl rfl)
theorem dX1_lack_20 : decode cX1_lack 20 = .ok (.isub, 1) := dk_100 (dk_at dksX1_lack_0 20 rfl rfl)
theorem dX1_lack_21 : decode cX1_lack 21 = .ok (.iconst 4, 1) := dk_7 (dk_at dksX1_lack_0 21 rfl rfl)
theorem dX1_lack_22 : decode cX1_lack 22 = .ok (.invokevirtual 321, 3) := dk_182 1 65 (dk_at dksX1_lack_1 0 rfl rfl)
theorem dX1_lack_25 : decode cX1_lack 25 = .ok (.isub, 1) := dk_100 (dk_at dksX1_lack_1 3 rfl rfl)
theorem dX1_lack_26 : decode cX1_lack 26 = .ok (.invokestatic 220, 3) := dk_184 0 220 (dk_at dksX1_lack_1 4 rfl rfl)
theorem dX1_lack_29 : decode cX1_lack 29 = .ok (.ireturn, 1) := dk_172 (dk_at dksX1_lack_1 7 rfl rfl)
abbrev cX1_grown : ByteArray := prog_4_method_41_code
def yX1_grown : MethodName := ⟨RX1, "grown", "(II)I"⟩
def dkwX1_grown_4 : List UInt8 := [180, 0, 15, 27, 46, 42, 180, 0, 27, 27, 46, 184, 0, 180, 133, 105, 29, 133, 109, 136, 172]
abbrev dktX1_grown_4 : List UInt8 := dkwX1_grown_4 ++ []
def dkwX1_grown_3 : List UInt8 := [27, 46, 21, 4, 161, 0, 5, 3, 172, 42, 27, 28, 6, 182, 1, 65, 133, 42, 180, 0, 18, 27, 46, 42]
abbrev dktX1_grown_3 : List UInt8 := dkwX1_grown_3 ++ dktX1_grown_4
def dkwX1_grown_2 : List UInt8 := [180, 0, 39, 27, 46, 21, 4, 162, 0, 24, 42, 180, 0, 42, 27, 46, 2, 159, 0, 16, 42, 180, 0, 42]
abbrev dktX1_grown_2 : List UInt8 := dkwX1_grown_2 ++ dktX1_grown_3
def dkwX1_grown_1 : List UInt8 := [27, 28, 3, 182, 1, 65, 54, 4, 29, 153, 0, 45, 42, 180, 0, 39, 27, 46, 2, 159, 0, 14, 42]
abbrev dktX1_grown_1 : List UInt8 := dkwX1_grown_1 ++ dktX1_grown_2
def dkwX1_grown_0 : List UInt8 := [42, 180, 0, 18, 27, 46, 42, 180, 0, 15, 27, 46, 42, 27, 28, 4, 182, 1, 65, 184, 0, 180, 62, 42]
abbrev dktX1_grown_0 : List UInt8 := dkwX1_grown_0 ++ dktX1_grown_1
theorem dksX1_grown_0 : cX1_grown.data.toList.drop 0 = dktX1_grown_0 := by decide +kernel
theorem dksX1_grown_1 : cX1_grown.data.toList.drop 24 = dktX1_grown_1 := dk_seg dksX1_grown_0 24 rfl rfl
theorem dksX1_grown_2 : cX1_grown.data.toList.drop 47 = dktX1_grown_2 := dk_seg dksX1_grown_1 23 rfl rfl
theorem dksX1_grown_3 : cX1_grown.data.toList.drop 71 = dktX1_grown_3 := dk_seg dksX1_grown_2 24 rfl rfl
theorem dksX1_grown_4 : cX1_grown.data.toList.drop 95 = dktX1_grown_4 := dk_seg dksX1_grown_3 24 rfl rfl
theorem dX1_grown_0 : decode cX1_grown 0 = .ok (.aload_n 0, 1) := dk_42 (dk_at dksX1_grown_0 0 rfl rfl)
theorem dX1_grown_1 : decode cX1_grown 1 = .ok (.getfield 18, 3) := dk_180 0 18 (dk_at dksX1_grown_0 1 rfl rfl)
theorem dX1_grown_4 : decode cX1_grown 4 = .ok (.iload_n 1, 1) := dk_27 (dk_at dksX1_grown_0 4 rfl rfl)
theorem dX1_grown_5 : decode cX1_grown 5 = .ok (.iaload, 1) := dk_46 (dk_at dksX1_grown_0 5 rfl rfl)
theorem dX1_grown_6 : decode cX1_grown 6 = .ok (.aload_n 0, 1) := dk_42 (dk_at dksX1_grown_0 6 rfl rfl)
theorem dX1_grown_7 : decode cX1_grown 7 = .ok (.getfield 15, 3) := dk_180 0 15 (dk_at dksX1_grown_0 7 rfl rfl)
theorem dX1_grown_10 : decode cX1_grown 10 = .ok (.iload_n 1, 1) := dk_27 (dk_at dksX1_grown_0 10 rfl rfl)
theorem dX1_grown_11 : decode cX1_grown 11 = .ok (.iaload, 1) := dk_46 (dk_at dksX1_grown_0 11 rfl rfl)
theorem dX1_grown_12 : decode cX1_grown 12 = .ok (.aload_n 0, 1) := dk_42 (dk_at dksX1_grown_0 12 rfl rfl)
theorem dX1_grown_13 : decode cX1_grown 13 = .ok (.iload_n 1, 1) := dk_27 (dk_at dksX1_grown_0 13 rfl rfl)
theorem dX1_grown_14 : decode cX1_grown 14 = .ok (.iload_n 2, 1) := dk_28 (dk_at dksX1_grown_0 14 rfl rfl)
theorem dX1_grown_15 : decode cX1_grown 15 = .ok (.iconst 1, 1) := dk_4 (dk_at dksX1_grown_0 15 rfl rfl)
theorem dX1_grown_16 : decode cX1_grown 16 = .ok (.invokevirtual 321, 3) := dk_182 1 65 (dk_at dksX1_grown_0 16 rfl rfl)
theorem dX1_grown_19 : decode cX1_grown 19 = .ok (.invokestatic 180, 3) := dk_184 0 180 (dk_at dksX1_grown_0 19 rfl rfl)
theorem dX1_grown_22 : decode cX1_grown 22 = .ok (.istore_n 3, 1) := dk_62 (dk_at dksX1_grown_0 22 rfl rfl)
theorem dX1_grown_23 : decode cX1_grown 23 = .ok (.aload_n 0, 1) := dk_42 (dk_at dksX1_grown_0 23 rfl rfl)
theorem dX1_grown_24 : decode cX1_grown 24 = .ok (.iload_n 1, 1) := dk_27 (dk_at dksX1_grown_1 0 rfl rfl)
theorem dX1_grown_25 : decode cX1_grown 25 = .ok (.iload_n 2, 1) := dk_28 (dk_at dksX1_grown_1 1 rfl rfl)
theorem dX1_grown_26 : decode cX1_grown 26 = .ok (.iconst 0, 1) := dk_3 (dk_at dksX1_grown_1 2 rfl rfl)
theorem dX1_grown_27 : decode cX1_grown 27 = .ok (.invokevirtual 321, 3) := dk_182 1 65 (dk_at dksX1_grown_1 3 rfl rfl)
theorem dX1_grown_30 : decode cX1_grown 30 = .ok (.istore 4, 2) := dk_54 4 (dk_at dksX1_grown_1 6 rfl rfl)
theorem dX1_grown_32 : decode cX1_grown 32 = .ok (.iload_n 3, 1) := dk_29 (dk_at dksX1_grown_1 8 rfl rfl)
theorem dX1_grown_33 : decode cX1_grown 33 = .ok (.ifCond .eq 45, 3) := dk_153 0 45 (dk_at dksX1_grown_1 9 rfl rfl)
theorem dX1_grown_36 : decode cX1_grown 36 = .ok (.aload_n 0, 1) := dk_42 (dk_at dksX1_grown_1 12 rfl rfl)
theorem dX1_grown_37 : decode cX1_grown 37 = .ok (.getfield 39, 3) := dk_180 0 39 (dk_at dksX1_grown_1 13 rfl rfl)
theorem dX1_grown_40 : decode cX1_grown 40 = .ok (.iload_n 1, 1) := dk_27 (dk_at dksX1_grown_1 16 rfl rfl)
theorem dX1_grown_41 : decode cX1_grown 41 = .ok (.iaload, 1) := dk_46 (dk_at dksX1_grown_1 17 rfl rfl)
theorem dX1_grown_42 : decode cX1_grown 42 = .ok (.iconst (-1), 1) := dk_2 (dk_at dksX1_grown_1 18 rfl rfl)
theorem dX1_grown_43 : decode cX1_grown 43 = .ok (.if_icmp .eq 14, 3) := dk_159 0 14 (dk_at dksX1_grown_1 19 rfl rfl)
theorem dX1_grown_46 : decode cX1_grown 46 = .ok (.aload_n 0, 1) := dk_42 (dk_at dksX1_grown_1 22 rfl rfl)
theorem dX1_grown_47 : decode cX1_grown 47 = .ok (.getfield 39, 3) := dk_180 0 39 (dk_at dksX1_grown_2 0 rfl rfl)
theorem dX1_grown_50 : decode cX1_grown 50 = .ok (.iload_n 1, 1) := dk_27 (dk_at dksX1_grown_2 3 rfl rfl)
theorem dX1_grown_51 : decode cX1_grown 51 = .ok (.iaload, 1) := dk_46 (dk_at dksX1_grown_2 4 rfl rfl)
theorem dX1_grown_52 : decode cX1_grown 52 = .ok (.iload 4, 2) := dk_21 4 (dk_at dksX1_grown_2 5 rfl rfl)
theorem dX1_grown_54 : decode cX1_grown 54 = .ok (.if_icmp .ge 24, 3) := dk_162 0 24 (dk_at dksX1_grown_2 7 rfl rfl)
theorem dX1_grown_57 : decode cX1_grown 57 = .ok (.aload_n 0, 1) := dk_42 (dk_at dksX1_grown_2 10 rfl rfl)
theorem dX1_grown_58 : decode cX1_grown 58 = .ok (.getfield 42, 3) := dk_180 0 42 (dk_at dksX1_grown_2 11 rfl rfl)
theorem dX1_grown_61 : decode cX1_grown 61 = .ok (.iload_n 1, 1) := dk_27 (dk_at dksX1_grown_2 14 rfl rfl)
theorem dX1_grown_62 : decode cX1_grown 62 = .ok (.iaload, 1) := dk_46 (dk_at dksX1_grown_2 15 rfl rfl)
theorem dX1_grown_63 : decode cX1_grown 63 = .ok (.iconst (-1), 1) := dk_2 (dk_at dksX1_grown_2 16 rfl rfl)
theorem dX1_grown_64 : decode cX1_grown 64 = .ok (.if_icmp .eq 16, 3) := dk_159 0 16 (dk_at dksX1_grown_2 17 rfl rfl)
theorem dX1_grown_67 : decode cX1_grown 67 = .ok (.aload_n 0, 1) := dk_42 (dk_at dksX1_grown_2 20 rfl rfl)
theorem dX1_grown_68 : decode cX1_grown 68 = .ok (.getfield 42, 3) := dk_180 0 42 (dk_at dksX1_grown_2 21 rfl rfl)
theorem dX1_grown_71 : decode cX1_grown 71 = .ok (.iload_n 1, 1) := dk_27 (dk_at dksX1_grown_3 0 rfl rfl)
theorem dX1_grown_72 : decode cX1_grown 72 = .ok (.iaload, 1) := dk_46 (dk_at dksX1_grown_3 1 rfl rfl)
theorem dX1_grown_73 : decode cX1_grown 73 = .ok (.iload 4, 2) := dk_21 4 (dk_at dksX1_grown_3 2 rfl rfl)
theorem dX1_grown_75 : decode cX1_grown 75 = .ok (.if_icmp .lt 5, 3) := dk_161 0 5 (dk_at dksX1_grown_3 4 rfl rfl)
theorem dX1_grown_78 : decode cX1_grown 78 = .ok (.iconst 0, 1) := dk_3 (dk_at dksX1_grown_3 7 rfl rfl)
theorem dX1_grown_79 : decode cX1_grown 79 = .ok (.ireturn, 1) := dk_172 (dk_at dksX1_grown_3 8 rfl rfl)
theorem dX1_grown_80 : decode cX1_grown 80 = .ok (.aload_n 0, 1) := dk_42 (dk_at dksX1_grown_3 9 rfl rfl)
theorem dX1_grown_81 : decode cX1_grown 81 = .ok (.iload_n 1, 1) := dk_27 (dk_at dksX1_grown_3 10 rfl rfl)
theorem dX1_grown_82 : decode cX1_grown 82 = .ok (.iload_n 2, 1) := dk_28 (dk_at dksX1_grown_3 11 rfl rfl)
theorem dX1_grown_83 : decode cX1_grown 83 = .ok (.iconst 3, 1) := dk_6 (dk_at dksX1_grown_3 12 rfl rfl)
theorem dX1_grown_84 : decode cX1_grown 84 = .ok (.invokevirtual 321, 3) := dk_182 1 65 (dk_at dksX1_grown_3 13 rfl rfl)
theorem dX1_grown_87 : decode cX1_grown 87 = .ok (.i2l, 1) := dk_133 (dk_at dksX1_grown_3 16 rfl rfl)
theorem dX1_grown_88 : decode cX1_grown 88 = .ok (.aload_n 0, 1) := dk_42 (dk_at dksX1_grown_3 17 rfl rfl)
theorem dX1_grown_89 : decode cX1_grown 89 = .ok (.getfield 18, 3) := dk_180 0 18 (dk_at dksX1_grown_3 18 rfl rfl)
theorem dX1_grown_92 : decode cX1_grown 92 = .ok (.iload_n 1, 1) := dk_27 (dk_at dksX1_grown_3 21 rfl rfl)
theorem dX1_grown_93 : decode cX1_grown 93 = .ok (.iaload, 1) := dk_46 (dk_at dksX1_grown_3 22 rfl rfl)
theorem dX1_grown_94 : decode cX1_grown 94 = .ok (.aload_n 0, 1) := dk_42 (dk_at dksX1_grown_3 23 rfl rfl)
theorem dX1_grown_95 : decode cX1_grown 95 = .ok (.getfield 15, 3) := dk_180 0 15 (dk_at dksX1_grown_4 0 rfl rfl)
theorem dX1_grown_98 : decode cX1_grown 98 = .ok (.iload_n 1, 1) := dk_27 (dk_at dksX1_grown_4 3 rfl rfl)
theorem dX1_grown_99 : decode cX1_grown 99 = .ok (.iaload, 1) := dk_46 (dk_at dksX1_grown_4 4 rfl rfl)
theorem dX1_grown_100 : decode cX1_grown 100 = .ok (.aload_n 0, 1) := dk_42 (dk_at dksX1_grown_4 5 rfl rfl)
theorem dX1_grown_101 : decode cX1_grown 101 = .ok (.getfield 27, 3) := dk_180 0 27 (dk_at dksX1_grown_4 6 rfl rfl)
theorem dX1_grown_104 : decode cX1_grown 104 = .ok (.iload_n 1, 1) := dk_27 (dk_at dksX1_grown_4 9 rfl rfl)
theorem dX1_grown_105 : decode cX1_grown 105 = .ok (.iaload, 1) := dk_46 (dk_at dksX1_grown_4 10 rfl rfl)
theorem dX1_grown_106 : decode cX1_grown 106 = .ok (.invokestatic 180, 3) := dk_184 0 180 (dk_at dksX1_grown_4 11 rfl rfl)
theorem dX1_grown_109 : decode cX1_grown 109 = .ok (.i2l, 1) := dk_133 (dk_at dksX1_grown_4 14 rfl rfl)
theorem dX1_grown_110 : decode cX1_grown 110 = .ok (.lmul, 1) := dk_105 (dk_at dksX1_grown_4 15 rfl rfl)
theorem dX1_grown_111 : decode cX1_grown 111 = .ok (.iload_n 3, 1) := dk_29 (dk_at dksX1_grown_4 16 rfl rfl)
theorem dX1_grown_112 : decode cX1_grown 112 = .ok (.i2l, 1) := dk_133 (dk_at dksX1_grown_4 17 rfl rfl)
theorem dX1_grown_113 : decode cX1_grown 113 = .ok (.ldiv, 1) := dk_109 (dk_at dksX1_grown_4 18 rfl rfl)
theorem dX1_grown_114 : decode cX1_grown 114 = .ok (.l2i, 1) := dk_136 (dk_at dksX1_grown_4 19 rfl rfl)
theorem dX1_grown_115 : decode cX1_grown 115 = .ok (.ireturn, 1) := dk_172 (dk_at dksX1_grown_4 20 rfl rfl)
abbrev cX1_countAt : ByteArray := prog_4_method_39_code
def yX1_countAt : MethodName := ⟨RX1, "countAt", "(III)I"⟩
def dkwX1_countAt_0 : List UInt8 := [42, 180, 0, 125, 8, 16, 8, 27, 104, 28, 96, 104, 29, 96, 46, 172]
abbrev dktX1_countAt_0 : List UInt8 := dkwX1_countAt_0 ++ []
theorem dksX1_countAt_0 : cX1_countAt.data.toList.drop 0 = dktX1_countAt_0 := by decide +kernel
theorem dX1_countAt_0 : decode cX1_countAt 0 = .ok (.aload_n 0, 1) := dk_42 (dk_at dksX1_countAt_0 0 rfl rfl)
theorem dX1_countAt_1 : decode cX1_countAt 1 = .ok (.getfield 125, 3) := dk_180 0 125 (dk_at dksX1_countAt_0 1 rfl rfl)
theorem dX1_countAt_4 : decode cX1_countAt 4 = .ok (.iconst 5, 1) := dk_8 (dk_at dksX1_countAt_0 4 rfl rfl)
theorem dX1_countAt_5 : decode cX1_countAt 5 = .ok (.bipush 8, 2) := dk_16 8 (dk_at dksX1_countAt_0 5 rfl rfl)
theorem dX1_countAt_7 : decode cX1_countAt 7 = .ok (.iload_n 1, 1) := dk_27 (dk_at dksX1_countAt_0 7 rfl rfl)
theorem dX1_countAt_8 : decode cX1_countAt 8 = .ok (.imul, 1) := dk_104 (dk_at dksX1_countAt_0 8 rfl rfl)
theorem dX1_countAt_9 : decode cX1_countAt 9 = .ok (.iload_n 2, 1) := dk_28 (dk_at dksX1_countAt_0 9 rfl rfl)
theorem dX1_countAt_10 : decode cX1_countAt 10 = .ok (.iadd, 1) := dk_96 (dk_at dksX1_countAt_0 10 rfl rfl)
theorem dX1_countAt_11 : decode cX1_countAt 11 = .ok (.imul, 1) := dk_104 (dk_at dksX1_countAt_0 11 rfl rfl)
theorem dX1_countAt_12 : decode cX1_countAt 12 = .ok (.iload_n 3, 1) := dk_29 (dk_at dksX1_countAt_0 12 rfl rfl)
theorem dX1_countAt_13 : decode cX1_countAt 13 = .ok (.iadd, 1) := dk_96 (dk_at dksX1_countAt_0 13 rfl rfl)
theorem dX1_countAt_14 : decode cX1_countAt 14 = .ok (.iaload, 1) := dk_46 (dk_at dksX1_countAt_0 14 rfl rfl)
theorem dX1_countAt_15 : decode cX1_countAt 15 = .ok (.ireturn, 1) := dk_172 (dk_at dksX1_countAt_0 15 rfl rfl)
abbrev cX1_free : ByteArray := prog_4_method_26_code
def yX1_free : MethodName := ⟨RX1, "free", "()I"⟩
def dkwX1_free_1 : List UInt8 := [167, 255, 235, 27, 16, 60, 162, 0, 7, 27, 167, 0, 4, 2, 172]
abbrev dktX1_free_1 : List UInt8 := dkwX1_free_1 ++ []
def dkwX1_free_0 : List UInt8 := [3, 60, 27, 16, 60, 162, 0, 21, 42, 180, 0, 81, 27, 50, 180, 0, 252, 198, 0, 9, 132, 1, 1]
abbrev dktX1_free_0 : List UInt8 := dkwX1_free_0 ++ dktX1_free_1
theorem dksX1_free_0 : cX1_free.data.toList.drop 0 = dktX1_free_0 := by decide +kernel
theorem dksX1_free_1 : cX1_free.data.toList.drop 23 = dktX1_free_1 := dk_seg dksX1_free_0 23 rfl rfl
theorem dX1_free_0 : decode cX1_free 0 = .ok (.iconst 0, 1) := dk_3 (dk_at dksX1_free_0 0 rfl rfl)
theorem dX1_free_1 : decode cX1_free 1 = .ok (.istore_n 1, 1) := dk_60 (dk_at dksX1_free_0 1 rfl rfl)
theorem dX1_free_2 : decode cX1_free 2 = .ok (.iload_n 1, 1) := dk_27 (dk_at dksX1_free_0 2 rfl rfl)
theorem dX1_free_3 : decode cX1_free 3 = .ok (.bipush 60, 2) := dk_16 60 (dk_at dksX1_free_0 3 rfl rfl)
theorem dX1_free_5 : decode cX1_free 5 = .ok (.if_icmp .ge 21, 3) := dk_162 0 21 (dk_at dksX1_free_0 5 rfl rfl)
theorem dX1_free_8 : decode cX1_free 8 = .ok (.aload_n 0, 1) := dk_42 (dk_at dksX1_free_0 8 rfl rfl)
theorem dX1_free_9 : decode cX1_free 9 = .ok (.getfield 81, 3) := dk_180 0 81 (dk_at dksX1_free_0 9 rfl rfl)
theorem dX1_free_12 : decode cX1_free 12 = .ok (.iload_n 1, 1) := dk_27 (dk_at dksX1_free_0 12 rfl rfl)
theorem dX1_free_13 : decode cX1_free 13 = .ok (.aaload, 1) := dk_50 (dk_at dksX1_free_0 13 rfl rfl)
theorem dX1_free_14 : decode cX1_free 14 = .ok (.getfield 252, 3) := dk_180 0 252 (dk_at dksX1_free_0 14 rfl rfl)
theorem dX1_free_17 : decode cX1_free 17 = .ok (.ifnull 9, 3) := dk_198 0 9 (dk_at dksX1_free_0 17 rfl rfl)
theorem dX1_free_20 : decode cX1_free 20 = .ok (.iinc 1 1, 3) := dk_132 1 1 (dk_at dksX1_free_0 20 rfl rfl)
theorem dX1_free_23 : decode cX1_free 23 = .ok (.goto (-21), 3) := dk_167 255 235 (dk_at dksX1_free_1 0 rfl rfl)
theorem dX1_free_26 : decode cX1_free 26 = .ok (.iload_n 1, 1) := dk_27 (dk_at dksX1_free_1 3 rfl rfl)
theorem dX1_free_27 : decode cX1_free 27 = .ok (.bipush 60, 2) := dk_16 60 (dk_at dksX1_free_1 4 rfl rfl)
theorem dX1_free_29 : decode cX1_free 29 = .ok (.if_icmp .ge 7, 3) := dk_162 0 7 (dk_at dksX1_free_1 6 rfl rfl)
theorem dX1_free_32 : decode cX1_free 32 = .ok (.iload_n 1, 1) := dk_27 (dk_at dksX1_free_1 9 rfl rfl)
theorem dX1_free_33 : decode cX1_free 33 = .ok (.goto 4, 3) := dk_167 0 4 (dk_at dksX1_free_1 10 rfl rfl)
theorem dX1_free_36 : decode cX1_free 36 = .ok (.iconst (-1), 1) := dk_2 (dk_at dksX1_free_1 13 rfl rfl)
theorem dX1_free_37 : decode cX1_free 37 = .ok (.ireturn, 1) := dk_172 (dk_at dksX1_free_1 14 rfl rfl)
abbrev cX1_put : ByteArray := prog_4_method_28_code
def yX1_put : MethodName := ⟨RX1, "put", "(LWoodState$Lot;II)I"⟩
def dkwX1_put_1 : List UInt8 := [42, 180, 0, 81, 21, 4, 50, 43, 181, 0, 252, 21, 4, 172]
abbrev dktX1_put_1 : List UInt8 := dkwX1_put_1 ++ []
def dkwX1_put_0 : List UInt8 := [42, 182, 1, 2, 54, 4, 43, 28, 181, 1, 6, 43, 29, 181, 1, 9, 43, 42, 180, 0, 142, 181, 1, 12]
abbrev dktX1_put_0 : List UInt8 := dkwX1_put_0 ++ dktX1_put_1
theorem dksX1_put_0 : cX1_put.data.toList.drop 0 = dktX1_put_0 := by decide +kernel
theorem dksX1_put_1 : cX1_put.data.toList.drop 24 = dktX1_put_1 := dk_seg dksX1_put_0 24 rfl rfl
theorem dX1_put_0 : decode cX1_put 0 = .ok (.aload_n 0, 1) := dk_42 (dk_at dksX1_put_0 0 rfl rfl)
theorem dX1_put_1 : decode cX1_put 1 = .ok (.invokevirtual 258, 3) := dk_182 1 2 (dk_at dksX1_put_0 1 rfl rfl)
theorem dX1_put_4 : decode cX1_put 4 = .ok (.istore 4, 2) := dk_54 4 (dk_at dksX1_put_0 4 rfl rfl)
theorem dX1_put_6 : decode cX1_put 6 = .ok (.aload_n 1, 1) := dk_43 (dk_at dksX1_put_0 6 rfl rfl)
theorem dX1_put_7 : decode cX1_put 7 = .ok (.iload_n 2, 1) := dk_28 (dk_at dksX1_put_0 7 rfl rfl)
theorem dX1_put_8 : decode cX1_put 8 = .ok (.putfield 262, 3) := dk_181 1 6 (dk_at dksX1_put_0 8 rfl rfl)
theorem dX1_put_11 : decode cX1_put 11 = .ok (.aload_n 1, 1) := dk_43 (dk_at dksX1_put_0 11 rfl rfl)
theorem dX1_put_12 : decode cX1_put 12 = .ok (.iload_n 3, 1) := dk_29 (dk_at dksX1_put_0 12 rfl rfl)
theorem dX1_put_13 : decode cX1_put 13 = .ok (.putfield 265, 3) := dk_181 1 9 (dk_at dksX1_put_0 13 rfl rfl)
theorem dX1_put_16 : decode cX1_put 16 = .ok (.aload_n 1, 1) := dk_43 (dk_at dksX1_put_0 16 rfl rfl)
theorem dX1_put_17 : decode cX1_put 17 = .ok (.aload_n 0, 1) := dk_42 (dk_at dksX1_put_0 17 rfl rfl)
theorem dX1_put_18 : decode cX1_put 18 = .ok (.getfield 142, 3) := dk_180 0 142 (dk_at dksX1_put_0 18 rfl rfl)
theorem dX1_put_21 : decode cX1_put 21 = .ok (.putfield 268, 3) := dk_181 1 12 (dk_at dksX1_put_0 21 rfl rfl)
theorem dX1_put_24 : decode cX1_put 24 = .ok (.aload_n 0, 1) := dk_42 (dk_at dksX1_put_1 0 rfl rfl)
theorem dX1_put_25 : decode cX1_put 25 = .ok (.getfield 81, 3) := dk_180 0 81 (dk_at dksX1_put_1 1 rfl rfl)
theorem dX1_put_28 : decode cX1_put 28 = .ok (.iload 4, 2) := dk_21 4 (dk_at dksX1_put_1 4 rfl rfl)
theorem dX1_put_30 : decode cX1_put 30 = .ok (.aaload, 1) := dk_50 (dk_at dksX1_put_1 6 rfl rfl)
theorem dX1_put_31 : decode cX1_put 31 = .ok (.aload_n 1, 1) := dk_43 (dk_at dksX1_put_1 7 rfl rfl)
theorem dX1_put_32 : decode cX1_put 32 = .ok (.putfield 252, 3) := dk_181 0 252 (dk_at dksX1_put_1 8 rfl rfl)
theorem dX1_put_35 : decode cX1_put 35 = .ok (.iload 4, 2) := dk_21 4 (dk_at dksX1_put_1 11 rfl rfl)
theorem dX1_put_37 : decode cX1_put 37 = .ok (.ireturn, 1) := dk_172 (dk_at dksX1_put_1 13 rfl rfl)
abbrev cX1_whyNot : ByteArray := prog_4_method_25_code
def yX1_whyNot : MethodName := ⟨RX1, "whyNot", "(III)I"⟩
def dkwX1_whyNot_1 : List UInt8 := [167, 0, 9, 42, 27, 29, 182, 0, 249, 172]
abbrev dktX1_whyNot_1 : List UInt8 := dkwX1_whyNot_1 ++ []
def dkwX1_whyNot_0 : List UInt8 := [28, 154, 0, 11, 42, 27, 182, 0, 243, 167, 0, 23, 28, 4, 160, 0, 12, 42, 27, 29, 182, 0, 246]
abbrev dktX1_whyNot_0 : List UInt8 := dkwX1_whyNot_0 ++ dktX1_whyNot_1
theorem dksX1_whyNot_0 : cX1_whyNot.data.toList.drop 0 = dktX1_whyNot_0 := by decide +kernel
theorem dksX1_whyNot_1 : cX1_whyNot.data.toList.drop 23 = dktX1_whyNot_1 := dk_seg dksX1_whyNot_0 23 rfl rfl
theorem dX1_whyNot_0 : decode cX1_whyNot 0 = .ok (.iload_n 2, 1) := dk_28 (dk_at dksX1_whyNot_0 0 rfl rfl)
theorem dX1_whyNot_1 : decode cX1_whyNot 1 = .ok (.ifCond .ne 11, 3) := dk_154 0 11 (dk_at dksX1_whyNot_0 1 rfl rfl)
theorem dX1_whyNot_4 : decode cX1_whyNot 4 = .ok (.aload_n 0, 1) := dk_42 (dk_at dksX1_whyNot_0 4 rfl rfl)
theorem dX1_whyNot_5 : decode cX1_whyNot 5 = .ok (.iload_n 1, 1) := dk_27 (dk_at dksX1_whyNot_0 5 rfl rfl)
theorem dX1_whyNot_6 : decode cX1_whyNot 6 = .ok (.invokevirtual 243, 3) := dk_182 0 243 (dk_at dksX1_whyNot_0 6 rfl rfl)
theorem dX1_whyNot_9 : decode cX1_whyNot 9 = .ok (.goto 23, 3) := dk_167 0 23 (dk_at dksX1_whyNot_0 9 rfl rfl)
theorem dX1_whyNot_12 : decode cX1_whyNot 12 = .ok (.iload_n 2, 1) := dk_28 (dk_at dksX1_whyNot_0 12 rfl rfl)
theorem dX1_whyNot_13 : decode cX1_whyNot 13 = .ok (.iconst 1, 1) := dk_4 (dk_at dksX1_whyNot_0 13 rfl rfl)
theorem dX1_whyNot_14 : decode cX1_whyNot 14 = .ok (.if_icmp .ne 12, 3) := dk_160 0 12 (dk_at dksX1_whyNot_0 14 rfl rfl)
theorem dX1_whyNot_17 : decode cX1_whyNot 17 = .ok (.aload_n 0, 1) := dk_42 (dk_at dksX1_whyNot_0 17 rfl rfl)
theorem dX1_whyNot_18 : decode cX1_whyNot 18 = .ok (.iload_n 1, 1) := dk_27 (dk_at dksX1_whyNot_0 18 rfl rfl)
theorem dX1_whyNot_19 : decode cX1_whyNot 19 = .ok (.iload_n 3, 1) := dk_29 (dk_at dksX1_whyNot_0 19 rfl rfl)
theorem dX1_whyNot_20 : decode cX1_whyNot 20 = .ok (.invokevirtual 246, 3) := dk_182 0 246 (dk_at dksX1_whyNot_0 20 rfl rfl)
theorem dX1_whyNot_23 : decode cX1_whyNot 23 = .ok (.goto 9, 3) := dk_167 0 9 (dk_at dksX1_whyNot_1 0 rfl rfl)
theorem dX1_whyNot_26 : decode cX1_whyNot 26 = .ok (.aload_n 0, 1) := dk_42 (dk_at dksX1_whyNot_1 3 rfl rfl)
theorem dX1_whyNot_27 : decode cX1_whyNot 27 = .ok (.iload_n 1, 1) := dk_27 (dk_at dksX1_whyNot_1 4 rfl rfl)
theorem dX1_whyNot_28 : decode cX1_whyNot 28 = .ok (.iload_n 3, 1) := dk_29 (dk_at dksX1_whyNot_1 5 rfl rfl)
theorem dX1_whyNot_29 : decode cX1_whyNot 29 = .ok (.invokevirtual 249, 3) := dk_182 0 249 (dk_at dksX1_whyNot_1 6 rfl rfl)
theorem dX1_whyNot_32 : decode cX1_whyNot 32 = .ok (.ireturn, 1) := dk_172 (dk_at dksX1_whyNot_1 9 rfl rfl)
abbrev cX1_whyNotCut : ByteArray := prog_4_method_22_code
def yX1_whyNotCut : MethodName := ⟨RX1, "whyNotCut", "(I)I"⟩
def dkwX1_whyNotCut_4 : List UInt8 := [167, 0, 4, 3, 172]
abbrev dktX1_whyNotCut_4 : List UInt8 := dkwX1_whyNotCut_4 ++ []
def dkwX1_whyNotCut_3 : List UInt8 := [42, 27, 182, 0, 240, 153, 0, 7, 7, 167, 0, 17, 42, 27, 4, 182, 0, 229, 153, 0, 7, 8]
abbrev dktX1_whyNotCut_3 : List UInt8 := dkwX1_whyNotCut_3 ++ dktX1_whyNotCut_4
def dkwX1_whyNotCut_2 : List UInt8 := [3, 167, 0, 9, 42, 180, 0, 24, 27, 46, 96, 61, 28, 42, 4, 27, 182, 0, 223, 164, 0, 5, 6, 172]
abbrev dktX1_whyNotCut_2 : List UInt8 := dkwX1_whyNotCut_2 ++ dktX1_whyNotCut_3
def dkwX1_whyNotCut_1 : List UInt8 := [162, 0, 5, 5, 172, 42, 42, 180, 0, 9, 27, 46, 182, 0, 236, 42, 27, 3, 182, 0, 229, 153, 0, 7]
abbrev dktX1_whyNotCut_1 : List UInt8 := dkwX1_whyNotCut_1 ++ dktX1_whyNotCut_2
def dkwX1_whyNotCut_0 : List UInt8 := [42, 27, 182, 0, 232, 153, 0, 5, 4, 172, 42, 180, 0, 27, 27, 46, 42, 3, 27, 182, 0, 223]
abbrev dktX1_whyNotCut_0 : List UInt8 := dkwX1_whyNotCut_0 ++ dktX1_whyNotCut_1
theorem dksX1_whyNotCut_0 : cX1_whyNotCut.data.toList.drop 0 = dktX1_whyNotCut_0 := by decide +kernel
theorem dksX1_whyNotCut_1 : cX1_whyNotCut.data.toList.drop 22 = dktX1_whyNotCut_1 := dk_seg dksX1_whyNotCut_0 22 rfl rfl
theorem dksX1_whyNotCut_2 : cX1_whyNotCut.data.toList.drop 46 = dktX1_whyNotCut_2 := dk_seg dksX1_whyNotCut_1 24 rfl rfl
theorem dksX1_whyNotCut_3 : cX1_whyNotCut.data.toList.drop 70 = dktX1_whyNotCut_3 := dk_seg dksX1_whyNotCut_2 24 rfl rfl
theorem dksX1_whyNotCut_4 : cX1_whyNotCut.data.toList.drop 92 = dktX1_whyNotCut_4 := dk_seg dksX1_whyNotCut_3 22 rfl rfl
theorem dX1_whyNotCut_0 : decode cX1_whyNotCut 0 = .ok (.aload_n 0, 1) := dk_42 (dk_at dksX1_whyNotCut_0 0 rfl rfl)
theorem dX1_whyNotCut_1 : decode cX1_whyNotCut 1 = .ok (.iload_n 1, 1) := dk_27 (dk_at dksX1_whyNotCut_0 1 rfl rfl)
theorem dX1_whyNotCut_2 : decode cX1_whyNotCut 2 = .ok (.invokevirtual 232, 3) := dk_182 0 232 (dk_at dksX1_whyNotCut_0 2 rfl rfl)
theorem dX1_whyNotCut_5 : decode cX1_whyNotCut 5 = .ok (.ifCond .eq 5, 3) := dk_153 0 5 (dk_at dksX1_whyNotCut_0 5 rfl rfl)
theorem dX1_whyNotCut_8 : decode cX1_whyNotCut 8 = .ok (.iconst 1, 1) := dk_4 (dk_at dksX1_whyNotCut_0 8 rfl rfl)
theorem dX1_whyNotCut_9 : decode cX1_whyNotCut 9 = .ok (.ireturn, 1) := dk_172 (dk_at dksX1_whyNotCut_0 9 rfl rfl)
theorem dX1_whyNotCut_10 : decode cX1_whyNotCut 10 = .ok (.aload_n 0, 1) := dk_42 (dk_at dksX1_whyNotCut_0 10 rfl rfl)
theorem dX1_whyNotCut_11 : decode cX1_whyNotCut 11 = .ok (.getfield 27, 3) := dk_180 0 27 (dk_at dksX1_whyNotCut_0 11 rfl rfl)
theorem dX1_whyNotCut_14 : decode cX1_whyNotCut 14 = .ok (.iload_n 1, 1) := dk_27 (dk_at dksX1_whyNotCut_0 14 rfl rfl)
theorem dX1_whyNotCut_15 : decode cX1_whyNotCut 15 = .ok (.iaload, 1) := dk_46 (dk_at dksX1_whyNotCut_0 15 rfl rfl)
theorem dX1_whyNotCut_16 : decode cX1_whyNotCut 16 = .ok (.aload_n 0, 1) := dk_42 (dk_at dksX1_whyNotCut_0 16 rfl rfl)
theorem dX1_whyNotCut_17 : decode cX1_whyNotCut 17 = .ok (.iconst 0, 1) := dk_3 (dk_at dksX1_whyNotCut_0 17 rfl rfl)
theorem dX1_whyNotCut_18 : decode cX1_whyNotCut 18 = .ok (.iload_n 1, 1) := dk_27 (dk_at dksX1_whyNotCut_0 18 rfl rfl)
theorem dX1_whyNotCut_19 : decode cX1_whyNotCut 19 = .ok (.invokevirtual 223, 3) := dk_182 0 223 (dk_at dksX1_whyNotCut_0 19 rfl rfl)
theorem dX1_whyNotCut_22 : decode cX1_whyNotCut 22 = .ok (.if_icmp .ge 5, 3) := dk_162 0 5 (dk_at dksX1_whyNotCut_1 0 rfl rfl)
theorem dX1_whyNotCut_25 : decode cX1_whyNotCut 25 = .ok (.iconst 2, 1) := dk_5 (dk_at dksX1_whyNotCut_1 3 rfl rfl)
theorem dX1_whyNotCut_26 : decode cX1_whyNotCut 26 = .ok (.ireturn, 1) := dk_172 (dk_at dksX1_whyNotCut_1 4 rfl rfl)
theorem dX1_whyNotCut_27 : decode cX1_whyNotCut 27 = .ok (.aload_n 0, 1) := dk_42 (dk_at dksX1_whyNotCut_1 5 rfl rfl)
theorem dX1_whyNotCut_28 : decode cX1_whyNotCut 28 = .ok (.aload_n 0, 1) := dk_42 (dk_at dksX1_whyNotCut_1 6 rfl rfl)
theorem dX1_whyNotCut_29 : decode cX1_whyNotCut 29 = .ok (.getfield 9, 3) := dk_180 0 9 (dk_at dksX1_whyNotCut_1 7 rfl rfl)
theorem dX1_whyNotCut_32 : decode cX1_whyNotCut 32 = .ok (.iload_n 1, 1) := dk_27 (dk_at dksX1_whyNotCut_1 10 rfl rfl)
theorem dX1_whyNotCut_33 : decode cX1_whyNotCut 33 = .ok (.iaload, 1) := dk_46 (dk_at dksX1_whyNotCut_1 11 rfl rfl)
theorem dX1_whyNotCut_34 : decode cX1_whyNotCut 34 = .ok (.invokevirtual 236, 3) := dk_182 0 236 (dk_at dksX1_whyNotCut_1 12 rfl rfl)
theorem dX1_whyNotCut_37 : decode cX1_whyNotCut 37 = .ok (.aload_n 0, 1) := dk_42 (dk_at dksX1_whyNotCut_1 15 rfl rfl)
theorem dX1_whyNotCut_38 : decode cX1_whyNotCut 38 = .ok (.iload_n 1, 1) := dk_27 (dk_at dksX1_whyNotCut_1 16 rfl rfl)
theorem dX1_whyNotCut_39 : decode cX1_whyNotCut 39 = .ok (.iconst 0, 1) := dk_3 (dk_at dksX1_whyNotCut_1 17 rfl rfl)
theorem dX1_whyNotCut_40 : decode cX1_whyNotCut 40 = .ok (.invokevirtual 229, 3) := dk_182 0 229 (dk_at dksX1_whyNotCut_1 18 rfl rfl)
theorem dX1_whyNotCut_43 : decode cX1_whyNotCut 43 = .ok (.ifCond .eq 7, 3) := dk_153 0 7 (dk_at dksX1_whyNotCut_1 21 rfl rfl)
theorem dX1_whyNotCut_46 : decode cX1_whyNotCut 46 = .ok (.iconst 0, 1) := dk_3 (dk_at dksX1_whyNotCut_2 0 rfl rfl)
theorem dX1_whyNotCut_47 : decode cX1_whyNotCut 47 = .ok (.goto 9, 3) := dk_167 0 9 (dk_at dksX1_whyNotCut_2 1 rfl rfl)
theorem dX1_whyNotCut_50 : decode cX1_whyNotCut 50 = .ok (.aload_n 0, 1) := dk_42 (dk_at dksX1_whyNotCut_2 4 rfl rfl)
theorem dX1_whyNotCut_51 : decode cX1_whyNotCut 51 = .ok (.getfield 24, 3) := dk_180 0 24 (dk_at dksX1_whyNotCut_2 5 rfl rfl)
theorem dX1_whyNotCut_54 : decode cX1_whyNotCut 54 = .ok (.iload_n 1, 1) := dk_27 (dk_at dksX1_whyNotCut_2 8 rfl rfl)
theorem dX1_whyNotCut_55 : decode cX1_whyNotCut 55 = .ok (.iaload, 1) := dk_46 (dk_at dksX1_whyNotCut_2 9 rfl rfl)
theorem dX1_whyNotCut_56 : decode cX1_whyNotCut 56 = .ok (.iadd, 1) := dk_96 (dk_at dksX1_whyNotCut_2 10 rfl rfl)
theorem dX1_whyNotCut_57 : decode cX1_whyNotCut 57 = .ok (.istore_n 2, 1) := dk_61 (dk_at dksX1_whyNotCut_2 11 rfl rfl)
theorem dX1_whyNotCut_58 : decode cX1_whyNotCut 58 = .ok (.iload_n 2, 1) := dk_28 (dk_at dksX1_whyNotCut_2 12 rfl rfl)
theorem dX1_whyNotCut_59 : decode cX1_whyNotCut 59 = .ok (.aload_n 0, 1) := dk_42 (dk_at dksX1_whyNotCut_2 13 rfl rfl)
theorem dX1_whyNotCut_60 : decode cX1_whyNotCut 60 = .ok (.iconst 1, 1) := dk_4 (dk_at dksX1_whyNotCut_2 14 rfl rfl)
theorem dX1_whyNotCut_61 : decode cX1_whyNotCut 61 = .ok (.iload_n 1, 1) := dk_27 (dk_at dksX1_whyNotCut_2 15 rfl rfl)
theorem dX1_whyNotCut_62 : decode cX1_whyNotCut 62 = .ok (.invokevirtual 223, 3) := dk_182 0 223 (dk_at dksX1_whyNotCut_2 16 rfl rfl)
theorem dX1_whyNotCut_65 : decode cX1_whyNotCut 65 = .ok (.if_icmp .le 5, 3) := dk_164 0 5 (dk_at dksX1_whyNotCut_2 19 rfl rfl)
theorem dX1_whyNotCut_68 : decode cX1_whyNotCut 68 = .ok (.iconst 3, 1) := dk_6 (dk_at dksX1_whyNotCut_2 22 rfl rfl)
theorem dX1_whyNotCut_69 : decode cX1_whyNotCut 69 = .ok (.ireturn, 1) := dk_172 (dk_at dksX1_whyNotCut_2 23 rfl rfl)
theorem dX1_whyNotCut_70 : decode cX1_whyNotCut 70 = .ok (.aload_n 0, 1) := dk_42 (dk_at dksX1_whyNotCut_3 0 rfl rfl)
theorem dX1_whyNotCut_71 : decode cX1_whyNotCut 71 = .ok (.iload_n 1, 1) := dk_27 (dk_at dksX1_whyNotCut_3 1 rfl rfl)
theorem dX1_whyNotCut_72 : decode cX1_whyNotCut 72 = .ok (.invokevirtual 240, 3) := dk_182 0 240 (dk_at dksX1_whyNotCut_3 2 rfl rfl)
theorem dX1_whyNotCut_75 : decode cX1_whyNotCut 75 = .ok (.ifCond .eq 7, 3) := dk_153 0 7 (dk_at dksX1_whyNotCut_3 5 rfl rfl)
theorem dX1_whyNotCut_78 : decode cX1_whyNotCut 78 = .ok (.iconst 4, 1) := dk_7 (dk_at dksX1_whyNotCut_3 8 rfl rfl)
theorem dX1_whyNotCut_79 : decode cX1_whyNotCut 79 = .ok (.goto 17, 3) := dk_167 0 17 (dk_at dksX1_whyNotCut_3 9 rfl rfl)
theorem dX1_whyNotCut_82 : decode cX1_whyNotCut 82 = .ok (.aload_n 0, 1) := dk_42 (dk_at dksX1_whyNotCut_3 12 rfl rfl)
theorem dX1_whyNotCut_83 : decode cX1_whyNotCut 83 = .ok (.iload_n 1, 1) := dk_27 (dk_at dksX1_whyNotCut_3 13 rfl rfl)
theorem dX1_whyNotCut_84 : decode cX1_whyNotCut 84 = .ok (.iconst 1, 1) := dk_4 (dk_at dksX1_whyNotCut_3 14 rfl rfl)
theorem dX1_whyNotCut_85 : decode cX1_whyNotCut 85 = .ok (.invokevirtual 229, 3) := dk_182 0 229 (dk_at dksX1_whyNotCut_3 15 rfl rfl)
theorem dX1_whyNotCut_88 : decode cX1_whyNotCut 88 = .ok (.ifCond .eq 7, 3) := dk_153 0 7 (dk_at dksX1_whyNotCut_3 18 rfl rfl)
theorem dX1_whyNotCut_91 : decode cX1_whyNotCut 91 = .ok (.iconst 5, 1) := dk_8 (dk_at dksX1_whyNotCut_3 21 rfl rfl)
theorem dX1_whyNotCut_92 : decode cX1_whyNotCut 92 = .ok (.goto 4, 3) := dk_167 0 4 (dk_at dksX1_whyNotCut_4 0 rfl rfl)
theorem dX1_whyNotCut_95 : decode cX1_whyNotCut 95 = .ok (.iconst 0, 1) := dk_3 (dk_at dksX1_whyNotCut_4 3 rfl rfl)
theorem dX1_whyNotCut_96 : decode cX1_whyNotCut 96 = .ok (.ireturn, 1) := dk_172 (dk_at dksX1_whyNotCut_4 4 rfl rfl)
abbrev cX1_toBeCut : ByteArray := prog_4_method_20_code
def yX1_toBeCut : MethodName := ⟨RX1, "toBeCut", "(I)I"⟩
def dkwX1_toBeCut_2 : List UInt8 := [46, 167, 0, 4, 3, 96, 61, 132, 3, 1, 167, 255, 203, 28, 172]
abbrev dktX1_toBeCut_2 : List UInt8 := dkwX1_toBeCut_2 ++ []
def dkwX1_toBeCut_1 : List UInt8 := [180, 0, 9, 42, 180, 0, 101, 29, 46, 46, 27, 160, 0, 17, 42, 180, 0, 24, 42, 180, 0, 101, 29, 46]
abbrev dktX1_toBeCut_1 : List UInt8 := dkwX1_toBeCut_1 ++ dktX1_toBeCut_2
def dkwX1_toBeCut_0 : List UInt8 := [3, 61, 3, 62, 29, 42, 180, 0, 165, 162, 0, 51, 28, 42, 180, 0, 104, 29, 46, 154, 0, 32, 42]
abbrev dktX1_toBeCut_0 : List UInt8 := dkwX1_toBeCut_0 ++ dktX1_toBeCut_1
theorem dksX1_toBeCut_0 : cX1_toBeCut.data.toList.drop 0 = dktX1_toBeCut_0 := by decide +kernel
theorem dksX1_toBeCut_1 : cX1_toBeCut.data.toList.drop 23 = dktX1_toBeCut_1 := dk_seg dksX1_toBeCut_0 23 rfl rfl
theorem dksX1_toBeCut_2 : cX1_toBeCut.data.toList.drop 47 = dktX1_toBeCut_2 := dk_seg dksX1_toBeCut_1 24 rfl rfl
theorem dX1_toBeCut_0 : decode cX1_toBeCut 0 = .ok (.iconst 0, 1) := dk_3 (dk_at dksX1_toBeCut_0 0 rfl rfl)
theorem dX1_toBeCut_1 : decode cX1_toBeCut 1 = .ok (.istore_n 2, 1) := dk_61 (dk_at dksX1_toBeCut_0 1 rfl rfl)
theorem dX1_toBeCut_2 : decode cX1_toBeCut 2 = .ok (.iconst 0, 1) := dk_3 (dk_at dksX1_toBeCut_0 2 rfl rfl)
theorem dX1_toBeCut_3 : decode cX1_toBeCut 3 = .ok (.istore_n 3, 1) := dk_62 (dk_at dksX1_toBeCut_0 3 rfl rfl)
theorem dX1_toBeCut_4 : decode cX1_toBeCut 4 = .ok (.iload_n 3, 1) := dk_29 (dk_at dksX1_toBeCut_0 4 rfl rfl)
theorem dX1_toBeCut_5 : decode cX1_toBeCut 5 = .ok (.aload_n 0, 1) := dk_42 (dk_at dksX1_toBeCut_0 5 rfl rfl)
theorem dX1_toBeCut_6 : decode cX1_toBeCut 6 = .ok (.getfield 165, 3) := dk_180 0 165 (dk_at dksX1_toBeCut_0 6 rfl rfl)
theorem dX1_toBeCut_9 : decode cX1_toBeCut 9 = .ok (.if_icmp .ge 51, 3) := dk_162 0 51 (dk_at dksX1_toBeCut_0 9 rfl rfl)
theorem dX1_toBeCut_12 : decode cX1_toBeCut 12 = .ok (.iload_n 2, 1) := dk_28 (dk_at dksX1_toBeCut_0 12 rfl rfl)
theorem dX1_toBeCut_13 : decode cX1_toBeCut 13 = .ok (.aload_n 0, 1) := dk_42 (dk_at dksX1_toBeCut_0 13 rfl rfl)
theorem dX1_toBeCut_14 : decode cX1_toBeCut 14 = .ok (.getfield 104, 3) := dk_180 0 104 (dk_at dksX1_toBeCut_0 14 rfl rfl)
theorem dX1_toBeCut_17 : decode cX1_toBeCut 17 = .ok (.iload_n 3, 1) := dk_29 (dk_at dksX1_toBeCut_0 17 rfl rfl)
theorem dX1_toBeCut_18 : decode cX1_toBeCut 18 = .ok (.iaload, 1) := dk_46 (dk_at dksX1_toBeCut_0 18 rfl rfl)
theorem dX1_toBeCut_19 : decode cX1_toBeCut 19 = .ok (.ifCond .ne 32, 3) := dk_154 0 32 (dk_at dksX1_toBeCut_0 19 rfl rfl)
theorem dX1_toBeCut_22 : decode cX1_toBeCut 22 = .ok (.aload_n 0, 1) := dk_42 (dk_at dksX1_toBeCut_0 22 rfl rfl)
theorem dX1_toBeCut_23 : decode cX1_toBeCut 23 = .ok (.getfield 9, 3) := dk_180 0 9 (dk_at dksX1_toBeCut_1 0 rfl rfl)
theorem dX1_toBeCut_26 : decode cX1_toBeCut 26 = .ok (.aload_n 0, 1) := dk_42 (dk_at dksX1_toBeCut_1 3 rfl rfl)
theorem dX1_toBeCut_27 : decode cX1_toBeCut 27 = .ok (.getfield 101, 3) := dk_180 0 101 (dk_at dksX1_toBeCut_1 4 rfl rfl)
theorem dX1_toBeCut_30 : decode cX1_toBeCut 30 = .ok (.iload_n 3, 1) := dk_29 (dk_at dksX1_toBeCut_1 7 rfl rfl)
theorem dX1_toBeCut_31 : decode cX1_toBeCut 31 = .ok (.iaload, 1) := dk_46 (dk_at dksX1_toBeCut_1 8 rfl rfl)
theorem dX1_toBeCut_32 : decode cX1_toBeCut 32 = .ok (.iaload, 1) := dk_46 (dk_at dksX1_toBeCut_1 9 rfl rfl)
theorem dX1_toBeCut_33 : decode cX1_toBeCut 33 = .ok (.iload_n 1, 1) := dk_27 (dk_at dksX1_toBeCut_1 10 rfl rfl)
theorem dX1_toBeCut_34 : decode cX1_toBeCut 34 = .ok (.if_icmp .ne 17, 3) := dk_160 0 17 (dk_at dksX1_toBeCut_1 11 rfl rfl)
theorem dX1_toBeCut_37 : decode cX1_toBeCut 37 = .ok (.aload_n 0, 1) := dk_42 (dk_at dksX1_toBeCut_1 14 rfl rfl)
theorem dX1_toBeCut_38 : decode cX1_toBeCut 38 = .ok (.getfield 24, 3) := dk_180 0 24 (dk_at dksX1_toBeCut_1 15 rfl rfl)
theorem dX1_toBeCut_41 : decode cX1_toBeCut 41 = .ok (.aload_n 0, 1) := dk_42 (dk_at dksX1_toBeCut_1 18 rfl rfl)
theorem dX1_toBeCut_42 : decode cX1_toBeCut 42 = .ok (.getfield 101, 3) := dk_180 0 101 (dk_at dksX1_toBeCut_1 19 rfl rfl)
theorem dX1_toBeCut_45 : decode cX1_toBeCut 45 = .ok (.iload_n 3, 1) := dk_29 (dk_at dksX1_toBeCut_1 22 rfl rfl)
theorem dX1_toBeCut_46 : decode cX1_toBeCut 46 = .ok (.iaload, 1) := dk_46 (dk_at dksX1_toBeCut_1 23 rfl rfl)
theorem dX1_toBeCut_47 : decode cX1_toBeCut 47 = .ok (.iaload, 1) := dk_46 (dk_at dksX1_toBeCut_2 0 rfl rfl)
theorem dX1_toBeCut_48 : decode cX1_toBeCut 48 = .ok (.goto 4, 3) := dk_167 0 4 (dk_at dksX1_toBeCut_2 1 rfl rfl)
theorem dX1_toBeCut_51 : decode cX1_toBeCut 51 = .ok (.iconst 0, 1) := dk_3 (dk_at dksX1_toBeCut_2 4 rfl rfl)
theorem dX1_toBeCut_52 : decode cX1_toBeCut 52 = .ok (.iadd, 1) := dk_96 (dk_at dksX1_toBeCut_2 5 rfl rfl)
theorem dX1_toBeCut_53 : decode cX1_toBeCut 53 = .ok (.istore_n 2, 1) := dk_61 (dk_at dksX1_toBeCut_2 6 rfl rfl)
theorem dX1_toBeCut_54 : decode cX1_toBeCut 54 = .ok (.iinc 3 1, 3) := dk_132 3 1 (dk_at dksX1_toBeCut_2 7 rfl rfl)
theorem dX1_toBeCut_57 : decode cX1_toBeCut 57 = .ok (.goto (-53), 3) := dk_167 255 203 (dk_at dksX1_toBeCut_2 10 rfl rfl)
theorem dX1_toBeCut_60 : decode cX1_toBeCut 60 = .ok (.iload_n 2, 1) := dk_28 (dk_at dksX1_toBeCut_2 13 rfl rfl)
theorem dX1_toBeCut_61 : decode cX1_toBeCut 61 = .ok (.ireturn, 1) := dk_172 (dk_at dksX1_toBeCut_2 14 rfl rfl)
abbrev cX1_isOrdered : ByteArray := prog_4_method_19_code
def yX1_isOrdered : MethodName := ⟨RX1, "isOrdered", "(II)Z"⟩
def dkwX1_isOrdered_2 : List UInt8 := [132, 4, 1, 167, 255, 212, 29, 172]
abbrev dktX1_isOrdered_2 : List UInt8 := dkwX1_isOrdered_2 ++ []
def dkwX1_isOrdered_1 : List UInt8 := [46, 27, 160, 0, 18, 42, 180, 0, 104, 21, 4, 46, 28, 160, 0, 7, 4, 167, 0, 4, 3, 62]
abbrev dktX1_isOrdered_1 : List UInt8 := dkwX1_isOrdered_1 ++ dktX1_isOrdered_2
def dkwX1_isOrdered_0 : List UInt8 := [3, 62, 3, 54, 4, 21, 4, 42, 180, 0, 165, 162, 0, 41, 29, 154, 0, 25, 42, 180, 0, 101, 21, 4]
abbrev dktX1_isOrdered_0 : List UInt8 := dkwX1_isOrdered_0 ++ dktX1_isOrdered_1
theorem dksX1_isOrdered_0 : cX1_isOrdered.data.toList.drop 0 = dktX1_isOrdered_0 := by decide +kernel
theorem dksX1_isOrdered_1 : cX1_isOrdered.data.toList.drop 24 = dktX1_isOrdered_1 := dk_seg dksX1_isOrdered_0 24 rfl rfl
theorem dksX1_isOrdered_2 : cX1_isOrdered.data.toList.drop 46 = dktX1_isOrdered_2 := dk_seg dksX1_isOrdered_1 22 rfl rfl
theorem dX1_isOrdered_0 : decode cX1_isOrdered 0 = .ok (.iconst 0, 1) := dk_3 (dk_at dksX1_isOrdered_0 0 rfl rfl)
theorem dX1_isOrdered_1 : decode cX1_isOrdered 1 = .ok (.istore_n 3, 1) := dk_62 (dk_at dksX1_isOrdered_0 1 rfl rfl)
theorem dX1_isOrdered_2 : decode cX1_isOrdered 2 = .ok (.iconst 0, 1) := dk_3 (dk_at dksX1_isOrdered_0 2 rfl rfl)
theorem dX1_isOrdered_3 : decode cX1_isOrdered 3 = .ok (.istore 4, 2) := dk_54 4 (dk_at dksX1_isOrdered_0 3 rfl rfl)
theorem dX1_isOrdered_5 : decode cX1_isOrdered 5 = .ok (.iload 4, 2) := dk_21 4 (dk_at dksX1_isOrdered_0 5 rfl rfl)
theorem dX1_isOrdered_7 : decode cX1_isOrdered 7 = .ok (.aload_n 0, 1) := dk_42 (dk_at dksX1_isOrdered_0 7 rfl rfl)
theorem dX1_isOrdered_8 : decode cX1_isOrdered 8 = .ok (.getfield 165, 3) := dk_180 0 165 (dk_at dksX1_isOrdered_0 8 rfl rfl)
theorem dX1_isOrdered_11 : decode cX1_isOrdered 11 = .ok (.if_icmp .ge 41, 3) := dk_162 0 41 (dk_at dksX1_isOrdered_0 11 rfl rfl)
theorem dX1_isOrdered_14 : decode cX1_isOrdered 14 = .ok (.iload_n 3, 1) := dk_29 (dk_at dksX1_isOrdered_0 14 rfl rfl)
theorem dX1_isOrdered_15 : decode cX1_isOrdered 15 = .ok (.ifCond .ne 25, 3) := dk_154 0 25 (dk_at dksX1_isOrdered_0 15 rfl rfl)
theorem dX1_isOrdered_18 : decode cX1_isOrdered 18 = .ok (.aload_n 0, 1) := dk_42 (dk_at dksX1_isOrdered_0 18 rfl rfl)
theorem dX1_isOrdered_19 : decode cX1_isOrdered 19 = .ok (.getfield 101, 3) := dk_180 0 101 (dk_at dksX1_isOrdered_0 19 rfl rfl)
theorem dX1_isOrdered_22 : decode cX1_isOrdered 22 = .ok (.iload 4, 2) := dk_21 4 (dk_at dksX1_isOrdered_0 22 rfl rfl)
theorem dX1_isOrdered_24 : decode cX1_isOrdered 24 = .ok (.iaload, 1) := dk_46 (dk_at dksX1_isOrdered_1 0 rfl rfl)
theorem dX1_isOrdered_25 : decode cX1_isOrdered 25 = .ok (.iload_n 1, 1) := dk_27 (dk_at dksX1_isOrdered_1 1 rfl rfl)
theorem dX1_isOrdered_26 : decode cX1_isOrdered 26 = .ok (.if_icmp .ne 18, 3) := dk_160 0 18 (dk_at dksX1_isOrdered_1 2 rfl rfl)
theorem dX1_isOrdered_29 : decode cX1_isOrdered 29 = .ok (.aload_n 0, 1) := dk_42 (dk_at dksX1_isOrdered_1 5 rfl rfl)
theorem dX1_isOrdered_30 : decode cX1_isOrdered 30 = .ok (.getfield 104, 3) := dk_180 0 104 (dk_at dksX1_isOrdered_1 6 rfl rfl)
theorem dX1_isOrdered_33 : decode cX1_isOrdered 33 = .ok (.iload 4, 2) := dk_21 4 (dk_at dksX1_isOrdered_1 9 rfl rfl)
theorem dX1_isOrdered_35 : decode cX1_isOrdered 35 = .ok (.iaload, 1) := dk_46 (dk_at dksX1_isOrdered_1 11 rfl rfl)
theorem dX1_isOrdered_36 : decode cX1_isOrdered 36 = .ok (.iload_n 2, 1) := dk_28 (dk_at dksX1_isOrdered_1 12 rfl rfl)
theorem dX1_isOrdered_37 : decode cX1_isOrdered 37 = .ok (.if_icmp .ne 7, 3) := dk_160 0 7 (dk_at dksX1_isOrdered_1 13 rfl rfl)
theorem dX1_isOrdered_40 : decode cX1_isOrdered 40 = .ok (.iconst 1, 1) := dk_4 (dk_at dksX1_isOrdered_1 16 rfl rfl)
theorem dX1_isOrdered_41 : decode cX1_isOrdered 41 = .ok (.goto 4, 3) := dk_167 0 4 (dk_at dksX1_isOrdered_1 17 rfl rfl)
theorem dX1_isOrdered_44 : decode cX1_isOrdered 44 = .ok (.iconst 0, 1) := dk_3 (dk_at dksX1_isOrdered_1 20 rfl rfl)
theorem dX1_isOrdered_45 : decode cX1_isOrdered 45 = .ok (.istore_n 3, 1) := dk_62 (dk_at dksX1_isOrdered_1 21 rfl rfl)
theorem dX1_isOrdered_46 : decode cX1_isOrdered 46 = .ok (.iinc 4 1, 3) := dk_132 4 1 (dk_at dksX1_isOrdered_2 0 rfl rfl)
theorem dX1_isOrdered_49 : decode cX1_isOrdered 49 = .ok (.goto (-44), 3) := dk_167 255 212 (dk_at dksX1_isOrdered_2 3 rfl rfl)
theorem dX1_isOrdered_52 : decode cX1_isOrdered 52 = .ok (.iload_n 3, 1) := dk_29 (dk_at dksX1_isOrdered_2 6 rfl rfl)
theorem dX1_isOrdered_53 : decode cX1_isOrdered 53 = .ok (.ireturn, 1) := dk_172 (dk_at dksX1_isOrdered_2 7 rfl rfl)
abbrev cX1_isCutNear : ByteArray := prog_4_method_21_code
def yX1_isCutNear : MethodName := ⟨RX1, "isCutNear", "(I)Z"⟩
def dkwX1_isCutNear_4 : List UInt8 := [167, 255, 178, 21, 4, 172]
abbrev dktX1_isCutNear_4 : List UInt8 := dkwX1_isCutNear_4 ++ []
def dkwX1_isCutNear_3 : List UInt8 := [180, 0, 39, 21, 6, 46, 100, 133, 32, 148, 156, 0, 7, 4, 167, 0, 4, 3, 54, 4, 132, 5, 1]
abbrev dktX1_isCutNear_3 : List UInt8 := dkwX1_isCutNear_3 ++ dktX1_isCutNear_4
def dkwX1_isCutNear_2 : List UInt8 := [182, 0, 229, 154, 0, 32, 42, 180, 0, 39, 21, 6, 46, 2, 159, 0, 25, 42, 180, 0, 142, 42]
abbrev dktX1_isCutNear_2 : List UInt8 := dkwX1_isCutNear_2 ++ dktX1_isCutNear_3
def dkwX1_isCutNear_1 : List UInt8 := [21, 5, 27, 182, 0, 226, 54, 6, 21, 4, 154, 0, 48, 21, 6, 2, 159, 0, 46, 42, 21, 6, 3]
abbrev dktX1_isCutNear_1 : List UInt8 := dkwX1_isCutNear_1 ++ dktX1_isCutNear_2
def dkwX1_isCutNear_0 : List UInt8 := [42, 5, 27, 182, 0, 223, 133, 65, 3, 54, 4, 3, 54, 5, 21, 5, 42, 180, 0, 171, 162, 0, 75, 42]
abbrev dktX1_isCutNear_0 : List UInt8 := dkwX1_isCutNear_0 ++ dktX1_isCutNear_1
theorem dksX1_isCutNear_0 : cX1_isCutNear.data.toList.drop 0 = dktX1_isCutNear_0 := by decide +kernel
theorem dksX1_isCutNear_1 : cX1_isCutNear.data.toList.drop 24 = dktX1_isCutNear_1 := dk_seg dksX1_isCutNear_0 24 rfl rfl
theorem dksX1_isCutNear_2 : cX1_isCutNear.data.toList.drop 47 = dktX1_isCutNear_2 := dk_seg dksX1_isCutNear_1 23 rfl rfl
theorem dksX1_isCutNear_3 : cX1_isCutNear.data.toList.drop 69 = dktX1_isCutNear_3 := dk_seg dksX1_isCutNear_2 22 rfl rfl
theorem dksX1_isCutNear_4 : cX1_isCutNear.data.toList.drop 92 = dktX1_isCutNear_4 := dk_seg dksX1_isCutNear_3 23 rfl rfl
theorem dX1_isCutNear_0 : decode cX1_isCutNear 0 = .ok (.aload_n 0, 1) := dk_42 (dk_at dksX1_isCutNear_0 0 rfl rfl)
theorem dX1_isCutNear_1 : decode cX1_isCutNear 1 = .ok (.iconst 2, 1) := dk_5 (dk_at dksX1_isCutNear_0 1 rfl rfl)
theorem dX1_isCutNear_2 : decode cX1_isCutNear 2 = .ok (.iload_n 1, 1) := dk_27 (dk_at dksX1_isCutNear_0 2 rfl rfl)
theorem dX1_isCutNear_3 : decode cX1_isCutNear 3 = .ok (.invokevirtual 223, 3) := dk_182 0 223 (dk_at dksX1_isCutNear_0 3 rfl rfl)
theorem dX1_isCutNear_6 : decode cX1_isCutNear 6 = .ok (.i2l, 1) := dk_133 (dk_at dksX1_isCutNear_0 6 rfl rfl)
theorem dX1_isCutNear_7 : decode cX1_isCutNear 7 = .ok (.lstore_n 2, 1) := dk_65 (dk_at dksX1_isCutNear_0 7 rfl rfl)
theorem dX1_isCutNear_8 : decode cX1_isCutNear 8 = .ok (.iconst 0, 1) := dk_3 (dk_at dksX1_isCutNear_0 8 rfl rfl)
theorem dX1_isCutNear_9 : decode cX1_isCutNear 9 = .ok (.istore 4, 2) := dk_54 4 (dk_at dksX1_isCutNear_0 9 rfl rfl)
theorem dX1_isCutNear_11 : decode cX1_isCutNear 11 = .ok (.iconst 0, 1) := dk_3 (dk_at dksX1_isCutNear_0 11 rfl rfl)
theorem dX1_isCutNear_12 : decode cX1_isCutNear 12 = .ok (.istore 5, 2) := dk_54 5 (dk_at dksX1_isCutNear_0 12 rfl rfl)
theorem dX1_isCutNear_14 : decode cX1_isCutNear 14 = .ok (.iload 5, 2) := dk_21 5 (dk_at dksX1_isCutNear_0 14 rfl rfl)
theorem dX1_isCutNear_16 : decode cX1_isCutNear 16 = .ok (.aload_n 0, 1) := dk_42 (dk_at dksX1_isCutNear_0 16 rfl rfl)
theorem dX1_isCutNear_17 : decode cX1_isCutNear 17 = .ok (.getfield 171, 3) := dk_180 0 171 (dk_at dksX1_isCutNear_0 17 rfl rfl)
theorem dX1_isCutNear_20 : decode cX1_isCutNear 20 = .ok (.if_icmp .ge 75, 3) := dk_162 0 75 (dk_at dksX1_isCutNear_0 20 rfl rfl)
theorem dX1_isCutNear_23 : decode cX1_isCutNear 23 = .ok (.aload_n 0, 1) := dk_42 (dk_at dksX1_isCutNear_0 23 rfl rfl)
theorem dX1_isCutNear_24 : decode cX1_isCutNear 24 = .ok (.iload 5, 2) := dk_21 5 (dk_at dksX1_isCutNear_1 0 rfl rfl)
theorem dX1_isCutNear_26 : decode cX1_isCutNear 26 = .ok (.iload_n 1, 1) := dk_27 (dk_at dksX1_isCutNear_1 2 rfl rfl)
theorem dX1_isCutNear_27 : decode cX1_isCutNear 27 = .ok (.invokevirtual 226, 3) := dk_182 0 226 (dk_at dksX1_isCutNear_1 3 rfl rfl)
theorem dX1_isCutNear_30 : decode cX1_isCutNear 30 = .ok (.istore 6, 2) := dk_54 6 (dk_at dksX1_isCutNear_1 6 rfl rfl)
theorem dX1_isCutNear_32 : decode cX1_isCutNear 32 = .ok (.iload 4, 2) := dk_21 4 (dk_at dksX1_isCutNear_1 8 rfl rfl)
theorem dX1_isCutNear_34 : decode cX1_isCutNear 34 = .ok (.ifCond .ne 48, 3) := dk_154 0 48 (dk_at dksX1_isCutNear_1 10 rfl rfl)
theorem dX1_isCutNear_37 : decode cX1_isCutNear 37 = .ok (.iload 6, 2) := dk_21 6 (dk_at dksX1_isCutNear_1 13 rfl rfl)
theorem dX1_isCutNear_39 : decode cX1_isCutNear 39 = .ok (.iconst (-1), 1) := dk_2 (dk_at dksX1_isCutNear_1 15 rfl rfl)
theorem dX1_isCutNear_40 : decode cX1_isCutNear 40 = .ok (.if_icmp .eq 46, 3) := dk_159 0 46 (dk_at dksX1_isCutNear_1 16 rfl rfl)
theorem dX1_isCutNear_43 : decode cX1_isCutNear 43 = .ok (.aload_n 0, 1) := dk_42 (dk_at dksX1_isCutNear_1 19 rfl rfl)
theorem dX1_isCutNear_44 : decode cX1_isCutNear 44 = .ok (.iload 6, 2) := dk_21 6 (dk_at dksX1_isCutNear_1 20 rfl rfl)
theorem dX1_isCutNear_46 : decode cX1_isCutNear 46 = .ok (.iconst 0, 1) := dk_3 (dk_at dksX1_isCutNear_1 22 rfl rfl)
theorem dX1_isCutNear_47 : decode cX1_isCutNear 47 = .ok (.invokevirtual 229, 3) := dk_182 0 229 (dk_at dksX1_isCutNear_2 0 rfl rfl)
theorem dX1_isCutNear_50 : decode cX1_isCutNear 50 = .ok (.ifCond .ne 32, 3) := dk_154 0 32 (dk_at dksX1_isCutNear_2 3 rfl rfl)
theorem dX1_isCutNear_53 : decode cX1_isCutNear 53 = .ok (.aload_n 0, 1) := dk_42 (dk_at dksX1_isCutNear_2 6 rfl rfl)
theorem dX1_isCutNear_54 : decode cX1_isCutNear 54 = .ok (.getfield 39, 3) := dk_180 0 39 (dk_at dksX1_isCutNear_2 7 rfl rfl)
theorem dX1_isCutNear_57 : decode cX1_isCutNear 57 = .ok (.iload 6, 2) := dk_21 6 (dk_at dksX1_isCutNear_2 10 rfl rfl)
theorem dX1_isCutNear_59 : decode cX1_isCutNear 59 = .ok (.iaload, 1) := dk_46 (dk_at dksX1_isCutNear_2 12 rfl rfl)
theorem dX1_isCutNear_60 : decode cX1_isCutNear 60 = .ok (.iconst (-1), 1) := dk_2 (dk_at dksX1_isCutNear_2 13 rfl rfl)
theorem dX1_isCutNear_61 : decode cX1_isCutNear 61 = .ok (.if_icmp .eq 25, 3) := dk_159 0 25 (dk_at dksX1_isCutNear_2 14 rfl rfl)
theorem dX1_isCutNear_64 : decode cX1_isCutNear 64 = .ok (.aload_n 0, 1) := dk_42 (dk_at dksX1_isCutNear_2 17 rfl rfl)
theorem dX1_isCutNear_65 : decode cX1_isCutNear 65 = .ok (.getfield 142, 3) := dk_180 0 142 (dk_at dksX1_isCutNear_2 18 rfl rfl)
theorem dX1_isCutNear_68 : decode cX1_isCutNear 68 = .ok (.aload_n 0, 1) := dk_42 (dk_at dksX1_isCutNear_2 21 rfl rfl)
theorem dX1_isCutNear_69 : decode cX1_isCutNear 69 = .ok (.getfield 39, 3) := dk_180 0 39 (dk_at dksX1_isCutNear_3 0 rfl rfl)
theorem dX1_isCutNear_72 : decode cX1_isCutNear 72 = .ok (.iload 6, 2) := dk_21 6 (dk_at dksX1_isCutNear_3 3 rfl rfl)
theorem dX1_isCutNear_74 : decode cX1_isCutNear 74 = .ok (.iaload, 1) := dk_46 (dk_at dksX1_isCutNear_3 5 rfl rfl)
theorem dX1_isCutNear_75 : decode cX1_isCutNear 75 = .ok (.isub, 1) := dk_100 (dk_at dksX1_isCutNear_3 6 rfl rfl)
theorem dX1_isCutNear_76 : decode cX1_isCutNear 76 = .ok (.i2l, 1) := dk_133 (dk_at dksX1_isCutNear_3 7 rfl rfl)
theorem dX1_isCutNear_77 : decode cX1_isCutNear 77 = .ok (.lload_n 2, 1) := dk_32 (dk_at dksX1_isCutNear_3 8 rfl rfl)
theorem dX1_isCutNear_78 : decode cX1_isCutNear 78 = .ok (.lcmp, 1) := dk_148 (dk_at dksX1_isCutNear_3 9 rfl rfl)
theorem dX1_isCutNear_79 : decode cX1_isCutNear 79 = .ok (.ifCond .ge 7, 3) := dk_156 0 7 (dk_at dksX1_isCutNear_3 10 rfl rfl)
theorem dX1_isCutNear_82 : decode cX1_isCutNear 82 = .ok (.iconst 1, 1) := dk_4 (dk_at dksX1_isCutNear_3 13 rfl rfl)
theorem dX1_isCutNear_83 : decode cX1_isCutNear 83 = .ok (.goto 4, 3) := dk_167 0 4 (dk_at dksX1_isCutNear_3 14 rfl rfl)
theorem dX1_isCutNear_86 : decode cX1_isCutNear 86 = .ok (.iconst 0, 1) := dk_3 (dk_at dksX1_isCutNear_3 17 rfl rfl)
theorem dX1_isCutNear_87 : decode cX1_isCutNear 87 = .ok (.istore 4, 2) := dk_54 4 (dk_at dksX1_isCutNear_3 18 rfl rfl)
theorem dX1_isCutNear_89 : decode cX1_isCutNear 89 = .ok (.iinc 5 1, 3) := dk_132 5 1 (dk_at dksX1_isCutNear_3 20 rfl rfl)
theorem dX1_isCutNear_92 : decode cX1_isCutNear 92 = .ok (.goto (-78), 3) := dk_167 255 178 (dk_at dksX1_isCutNear_4 0 rfl rfl)
theorem dX1_isCutNear_95 : decode cX1_isCutNear 95 = .ok (.iload 4, 2) := dk_21 4 (dk_at dksX1_isCutNear_4 3 rfl rfl)
theorem dX1_isCutNear_97 : decode cX1_isCutNear 97 = .ok (.ireturn, 1) := dk_172 (dk_at dksX1_isCutNear_4 5 rfl rfl)
abbrev cX1_otherOf : ByteArray := prog_4_method_9_code
def yX1_otherOf : MethodName := ⟨RX1, "otherOf", "(II)I"⟩
def dkwX1_otherOf_1 : List UInt8 := [46, 28, 160, 0, 12, 42, 180, 0, 45, 27, 46, 167, 0, 4, 2, 172]
abbrev dktX1_otherOf_1 : List UInt8 := dkwX1_otherOf_1 ++ []
def dkwX1_otherOf_0 : List UInt8 := [42, 180, 0, 45, 27, 46, 28, 160, 0, 12, 42, 180, 0, 48, 27, 46, 167, 0, 23, 42, 180, 0, 48, 27]
abbrev dktX1_otherOf_0 : List UInt8 := dkwX1_otherOf_0 ++ dktX1_otherOf_1
theorem dksX1_otherOf_0 : cX1_otherOf.data.toList.drop 0 = dktX1_otherOf_0 := by decide +kernel
theorem dksX1_otherOf_1 : cX1_otherOf.data.toList.drop 24 = dktX1_otherOf_1 := dk_seg dksX1_otherOf_0 24 rfl rfl
theorem dX1_otherOf_0 : decode cX1_otherOf 0 = .ok (.aload_n 0, 1) := dk_42 (dk_at dksX1_otherOf_0 0 rfl rfl)
theorem dX1_otherOf_1 : decode cX1_otherOf 1 = .ok (.getfield 45, 3) := dk_180 0 45 (dk_at dksX1_otherOf_0 1 rfl rfl)
theorem dX1_otherOf_4 : decode cX1_otherOf 4 = .ok (.iload_n 1, 1) := dk_27 (dk_at dksX1_otherOf_0 4 rfl rfl)
theorem dX1_otherOf_5 : decode cX1_otherOf 5 = .ok (.iaload, 1) := dk_46 (dk_at dksX1_otherOf_0 5 rfl rfl)
theorem dX1_otherOf_6 : decode cX1_otherOf 6 = .ok (.iload_n 2, 1) := dk_28 (dk_at dksX1_otherOf_0 6 rfl rfl)
theorem dX1_otherOf_7 : decode cX1_otherOf 7 = .ok (.if_icmp .ne 12, 3) := dk_160 0 12 (dk_at dksX1_otherOf_0 7 rfl rfl)
theorem dX1_otherOf_10 : decode cX1_otherOf 10 = .ok (.aload_n 0, 1) := dk_42 (dk_at dksX1_otherOf_0 10 rfl rfl)
theorem dX1_otherOf_11 : decode cX1_otherOf 11 = .ok (.getfield 48, 3) := dk_180 0 48 (dk_at dksX1_otherOf_0 11 rfl rfl)
theorem dX1_otherOf_14 : decode cX1_otherOf 14 = .ok (.iload_n 1, 1) := dk_27 (dk_at dksX1_otherOf_0 14 rfl rfl)
theorem dX1_otherOf_15 : decode cX1_otherOf 15 = .ok (.iaload, 1) := dk_46 (dk_at dksX1_otherOf_0 15 rfl rfl)
theorem dX1_otherOf_16 : decode cX1_otherOf 16 = .ok (.goto 23, 3) := dk_167 0 23 (dk_at dksX1_otherOf_0 16 rfl rfl)
theorem dX1_otherOf_19 : decode cX1_otherOf 19 = .ok (.aload_n 0, 1) := dk_42 (dk_at dksX1_otherOf_0 19 rfl rfl)
theorem dX1_otherOf_20 : decode cX1_otherOf 20 = .ok (.getfield 48, 3) := dk_180 0 48 (dk_at dksX1_otherOf_0 20 rfl rfl)
theorem dX1_otherOf_23 : decode cX1_otherOf 23 = .ok (.iload_n 1, 1) := dk_27 (dk_at dksX1_otherOf_0 23 rfl rfl)
theorem dX1_otherOf_24 : decode cX1_otherOf 24 = .ok (.iaload, 1) := dk_46 (dk_at dksX1_otherOf_1 0 rfl rfl)
theorem dX1_otherOf_25 : decode cX1_otherOf 25 = .ok (.iload_n 2, 1) := dk_28 (dk_at dksX1_otherOf_1 1 rfl rfl)
theorem dX1_otherOf_26 : decode cX1_otherOf 26 = .ok (.if_icmp .ne 12, 3) := dk_160 0 12 (dk_at dksX1_otherOf_1 2 rfl rfl)
theorem dX1_otherOf_29 : decode cX1_otherOf 29 = .ok (.aload_n 0, 1) := dk_42 (dk_at dksX1_otherOf_1 5 rfl rfl)
theorem dX1_otherOf_30 : decode cX1_otherOf 30 = .ok (.getfield 45, 3) := dk_180 0 45 (dk_at dksX1_otherOf_1 6 rfl rfl)
theorem dX1_otherOf_33 : decode cX1_otherOf 33 = .ok (.iload_n 1, 1) := dk_27 (dk_at dksX1_otherOf_1 9 rfl rfl)
theorem dX1_otherOf_34 : decode cX1_otherOf 34 = .ok (.iaload, 1) := dk_46 (dk_at dksX1_otherOf_1 10 rfl rfl)
theorem dX1_otherOf_35 : decode cX1_otherOf 35 = .ok (.goto 4, 3) := dk_167 0 4 (dk_at dksX1_otherOf_1 11 rfl rfl)
theorem dX1_otherOf_38 : decode cX1_otherOf 38 = .ok (.iconst (-1), 1) := dk_2 (dk_at dksX1_otherOf_1 14 rfl rfl)
theorem dX1_otherOf_39 : decode cX1_otherOf 39 = .ok (.ireturn, 1) := dk_172 (dk_at dksX1_otherOf_1 15 rfl rfl)
abbrev cX1_whyNotThin : ByteArray := prog_4_method_23_code
def yX1_whyNotThin : MethodName := ⟨RX1, "whyNotThin", "(II)I"⟩
def dkwX1_whyNotThin_2 : List UInt8 := [153, 0, 7, 7, 167, 0, 4, 3, 172]
abbrev dktX1_whyNotThin_2 : List UInt8 := dkwX1_whyNotThin_2 ++ []
def dkwX1_whyNotThin_1 : List UInt8 := [161, 0, 13, 28, 42, 6, 27, 182, 0, 223, 162, 0, 7, 6, 167, 0, 17, 42, 27, 3, 182, 0, 229]
abbrev dktX1_whyNotThin_1 : List UInt8 := dkwX1_whyNotThin_1 ++ dktX1_whyNotThin_2
def dkwX1_whyNotThin_0 : List UInt8 := [42, 27, 182, 0, 232, 153, 0, 5, 4, 172, 42, 180, 0, 30, 27, 46, 28, 163, 0, 5, 5, 172, 28, 4]
abbrev dktX1_whyNotThin_0 : List UInt8 := dkwX1_whyNotThin_0 ++ dktX1_whyNotThin_1
theorem dksX1_whyNotThin_0 : cX1_whyNotThin.data.toList.drop 0 = dktX1_whyNotThin_0 := by decide +kernel
theorem dksX1_whyNotThin_1 : cX1_whyNotThin.data.toList.drop 24 = dktX1_whyNotThin_1 := dk_seg dksX1_whyNotThin_0 24 rfl rfl
theorem dksX1_whyNotThin_2 : cX1_whyNotThin.data.toList.drop 47 = dktX1_whyNotThin_2 := dk_seg dksX1_whyNotThin_1 23 rfl rfl
theorem dX1_whyNotThin_0 : decode cX1_whyNotThin 0 = .ok (.aload_n 0, 1) := dk_42 (dk_at dksX1_whyNotThin_0 0 rfl rfl)
theorem dX1_whyNotThin_1 : decode cX1_whyNotThin 1 = .ok (.iload_n 1, 1) := dk_27 (dk_at dksX1_whyNotThin_0 1 rfl rfl)
theorem dX1_whyNotThin_2 : decode cX1_whyNotThin 2 = .ok (.invokevirtual 232, 3) := dk_182 0 232 (dk_at dksX1_whyNotThin_0 2 rfl rfl)
theorem dX1_whyNotThin_5 : decode cX1_whyNotThin 5 = .ok (.ifCond .eq 5, 3) := dk_153 0 5 (dk_at dksX1_whyNotThin_0 5 rfl rfl)
theorem dX1_whyNotThin_8 : decode cX1_whyNotThin 8 = .ok (.iconst 1, 1) := dk_4 (dk_at dksX1_whyNotThin_0 8 rfl rfl)
theorem dX1_whyNotThin_9 : decode cX1_whyNotThin 9 = .ok (.ireturn, 1) := dk_172 (dk_at dksX1_whyNotThin_0 9 rfl rfl)
theorem dX1_whyNotThin_10 : decode cX1_whyNotThin 10 = .ok (.aload_n 0, 1) := dk_42 (dk_at dksX1_whyNotThin_0 10 rfl rfl)
theorem dX1_whyNotThin_11 : decode cX1_whyNotThin 11 = .ok (.getfield 30, 3) := dk_180 0 30 (dk_at dksX1_whyNotThin_0 11 rfl rfl)
theorem dX1_whyNotThin_14 : decode cX1_whyNotThin 14 = .ok (.iload_n 1, 1) := dk_27 (dk_at dksX1_whyNotThin_0 14 rfl rfl)
theorem dX1_whyNotThin_15 : decode cX1_whyNotThin 15 = .ok (.iaload, 1) := dk_46 (dk_at dksX1_whyNotThin_0 15 rfl rfl)
theorem dX1_whyNotThin_16 : decode cX1_whyNotThin 16 = .ok (.iload_n 2, 1) := dk_28 (dk_at dksX1_whyNotThin_0 16 rfl rfl)
theorem dX1_whyNotThin_17 : decode cX1_whyNotThin 17 = .ok (.if_icmp .gt 5, 3) := dk_163 0 5 (dk_at dksX1_whyNotThin_0 17 rfl rfl)
theorem dX1_whyNotThin_20 : decode cX1_whyNotThin 20 = .ok (.iconst 2, 1) := dk_5 (dk_at dksX1_whyNotThin_0 20 rfl rfl)
theorem dX1_whyNotThin_21 : decode cX1_whyNotThin 21 = .ok (.ireturn, 1) := dk_172 (dk_at dksX1_whyNotThin_0 21 rfl rfl)
theorem dX1_whyNotThin_22 : decode cX1_whyNotThin 22 = .ok (.iload_n 2, 1) := dk_28 (dk_at dksX1_whyNotThin_0 22 rfl rfl)
theorem dX1_whyNotThin_23 : decode cX1_whyNotThin 23 = .ok (.iconst 1, 1) := dk_4 (dk_at dksX1_whyNotThin_0 23 rfl rfl)
theorem dX1_whyNotThin_24 : decode cX1_whyNotThin 24 = .ok (.if_icmp .lt 13, 3) := dk_161 0 13 (dk_at dksX1_whyNotThin_1 0 rfl rfl)
theorem dX1_whyNotThin_27 : decode cX1_whyNotThin 27 = .ok (.iload_n 2, 1) := dk_28 (dk_at dksX1_whyNotThin_1 3 rfl rfl)
theorem dX1_whyNotThin_28 : decode cX1_whyNotThin 28 = .ok (.aload_n 0, 1) := dk_42 (dk_at dksX1_whyNotThin_1 4 rfl rfl)
theorem dX1_whyNotThin_29 : decode cX1_whyNotThin 29 = .ok (.iconst 3, 1) := dk_6 (dk_at dksX1_whyNotThin_1 5 rfl rfl)
theorem dX1_whyNotThin_30 : decode cX1_whyNotThin 30 = .ok (.iload_n 1, 1) := dk_27 (dk_at dksX1_whyNotThin_1 6 rfl rfl)
theorem dX1_whyNotThin_31 : decode cX1_whyNotThin 31 = .ok (.invokevirtual 223, 3) := dk_182 0 223 (dk_at dksX1_whyNotThin_1 7 rfl rfl)
theorem dX1_whyNotThin_34 : decode cX1_whyNotThin 34 = .ok (.if_icmp .ge 7, 3) := dk_162 0 7 (dk_at dksX1_whyNotThin_1 10 rfl rfl)
theorem dX1_whyNotThin_37 : decode cX1_whyNotThin 37 = .ok (.iconst 3, 1) := dk_6 (dk_at dksX1_whyNotThin_1 13 rfl rfl)
theorem dX1_whyNotThin_38 : decode cX1_whyNotThin 38 = .ok (.goto 17, 3) := dk_167 0 17 (dk_at dksX1_whyNotThin_1 14 rfl rfl)
theorem dX1_whyNotThin_41 : decode cX1_whyNotThin 41 = .ok (.aload_n 0, 1) := dk_42 (dk_at dksX1_whyNotThin_1 17 rfl rfl)
theorem dX1_whyNotThin_42 : decode cX1_whyNotThin 42 = .ok (.iload_n 1, 1) := dk_27 (dk_at dksX1_whyNotThin_1 18 rfl rfl)
theorem dX1_whyNotThin_43 : decode cX1_whyNotThin 43 = .ok (.iconst 0, 1) := dk_3 (dk_at dksX1_whyNotThin_1 19 rfl rfl)
theorem dX1_whyNotThin_44 : decode cX1_whyNotThin 44 = .ok (.invokevirtual 229, 3) := dk_182 0 229 (dk_at dksX1_whyNotThin_1 20 rfl rfl)
theorem dX1_whyNotThin_47 : decode cX1_whyNotThin 47 = .ok (.ifCond .eq 7, 3) := dk_153 0 7 (dk_at dksX1_whyNotThin_2 0 rfl rfl)
theorem dX1_whyNotThin_50 : decode cX1_whyNotThin 50 = .ok (.iconst 4, 1) := dk_7 (dk_at dksX1_whyNotThin_2 3 rfl rfl)
theorem dX1_whyNotThin_51 : decode cX1_whyNotThin 51 = .ok (.goto 4, 3) := dk_167 0 4 (dk_at dksX1_whyNotThin_2 4 rfl rfl)
theorem dX1_whyNotThin_54 : decode cX1_whyNotThin 54 = .ok (.iconst 0, 1) := dk_3 (dk_at dksX1_whyNotThin_2 7 rfl rfl)
theorem dX1_whyNotThin_55 : decode cX1_whyNotThin 55 = .ok (.ireturn, 1) := dk_172 (dk_at dksX1_whyNotThin_2 8 rfl rfl)
abbrev cX1_whyNotPlant : ByteArray := prog_4_method_24_code
def yX1_whyNotPlant : MethodName := ⟨RX1, "whyNotPlant", "(II)I"⟩
def dkwX1_whyNotPlant_5 : List UInt8 := [162, 0, 7, 5, 167, 0, 4, 3, 172]
abbrev dktX1_whyNotPlant_5 : List UInt8 := dkwX1_whyNotPlant_5 ++ []
def dkwX1_whyNotPlant_4 : List UInt8 := [21, 4, 46, 46, 167, 0, 4, 3, 100, 62, 132, 4, 1, 167, 255, 180, 29, 42, 180, 0, 24, 27, 46]
abbrev dktX1_whyNotPlant_4 : List UInt8 := dkwX1_whyNotPlant_4 ++ dktX1_whyNotPlant_5
def dkwX1_whyNotPlant_3 : List UInt8 := [159, 0, 7, 4, 167, 0, 4, 3, 54, 5, 29, 21, 5, 153, 0, 18, 42, 180, 0, 24, 42, 180, 0, 101]
abbrev dktX1_whyNotPlant_3 : List UInt8 := dkwX1_whyNotPlant_3 ++ dktX1_whyNotPlant_4
def dkwX1_whyNotPlant_2 : List UInt8 := [160, 0, 29, 42, 180, 0, 107, 21, 4, 46, 28, 160, 0, 18, 42, 180, 0, 101, 21, 4, 46, 27]
abbrev dktX1_whyNotPlant_2 : List UInt8 := dkwX1_whyNotPlant_2 ++ dktX1_whyNotPlant_3
def dkwX1_whyNotPlant_1 : List UInt8 := [28, 104, 46, 62, 3, 54, 4, 21, 4, 42, 180, 0, 165, 162, 0, 73, 42, 180, 0, 104, 21, 4, 46, 5]
abbrev dktX1_whyNotPlant_1 : List UInt8 := dkwX1_whyNotPlant_1 ++ dktX1_whyNotPlant_2
def dkwX1_whyNotPlant_0 : List UInt8 := [42, 27, 182, 0, 232, 154, 0, 14, 42, 27, 3, 182, 0, 229, 154, 0, 5, 4, 172, 42, 180, 0, 110, 6]
abbrev dktX1_whyNotPlant_0 : List UInt8 := dkwX1_whyNotPlant_0 ++ dktX1_whyNotPlant_1
theorem dksX1_whyNotPlant_0 : cX1_whyNotPlant.data.toList.drop 0 = dktX1_whyNotPlant_0 := by decide +kernel
theorem dksX1_whyNotPlant_1 : cX1_whyNotPlant.data.toList.drop 24 = dktX1_whyNotPlant_1 := dk_seg dksX1_whyNotPlant_0 24 rfl rfl
theorem dksX1_whyNotPlant_2 : cX1_whyNotPlant.data.toList.drop 48 = dktX1_whyNotPlant_2 := dk_seg dksX1_whyNotPlant_1 24 rfl rfl
theorem dksX1_whyNotPlant_3 : cX1_whyNotPlant.data.toList.drop 70 = dktX1_whyNotPlant_3 := dk_seg dksX1_whyNotPlant_2 22 rfl rfl
theorem dksX1_whyNotPlant_4 : cX1_whyNotPlant.data.toList.drop 94 = dktX1_whyNotPlant_4 := dk_seg dksX1_whyNotPlant_3 24 rfl rfl
theorem dksX1_whyNotPlant_5 : cX1_whyNotPlant.data.toList.drop 117 = dktX1_whyNotPlant_5 := dk_seg dksX1_whyNotPlant_4 23 rfl rfl
theorem dX1_whyNotPlant_0 : decode cX1_whyNotPlant 0 = .ok (.aload_n 0, 1) := dk_42 (dk_at dksX1_whyNotPlant_0 0 rfl rfl)
theorem dX1_whyNotPlant_1 : decode cX1_whyNotPlant 1 = .ok (.iload_n 1, 1) := dk_27 (dk_at dksX1_whyNotPlant_0 1 rfl rfl)
theorem dX1_whyNotPlant_2 : decode cX1_whyNotPlant 2 = .ok (.invokevirtual 232, 3) := dk_182 0 232 (dk_at dksX1_whyNotPlant_0 2 rfl rfl)
theorem dX1_whyNotPlant_5 : decode cX1_whyNotPlant 5 = .ok (.ifCond .ne 14, 3) := dk_154 0 14 (dk_at dksX1_whyNotPlant_0 5 rfl rfl)
theorem dX1_whyNotPlant_8 : decode cX1_whyNotPlant 8 = .ok (.aload_n 0, 1) := dk_42 (dk_at dksX1_whyNotPlant_0 8 rfl rfl)
theorem dX1_whyNotPlant_9 : decode cX1_whyNotPlant 9 = .ok (.iload_n 1, 1) := dk_27 (dk_at dksX1_whyNotPlant_0 9 rfl rfl)
theorem dX1_whyNotPlant_10 : decode cX1_whyNotPlant 10 = .ok (.iconst 0, 1) := dk_3 (dk_at dksX1_whyNotPlant_0 10 rfl rfl)
theorem dX1_whyNotPlant_11 : decode cX1_whyNotPlant 11 = .ok (.invokevirtual 229, 3) := dk_182 0 229 (dk_at dksX1_whyNotPlant_0 11 rfl rfl)
theorem dX1_whyNotPlant_14 : decode cX1_whyNotPlant 14 = .ok (.ifCond .ne 5, 3) := dk_154 0 5 (dk_at dksX1_whyNotPlant_0 14 rfl rfl)
theorem dX1_whyNotPlant_17 : decode cX1_whyNotPlant 17 = .ok (.iconst 1, 1) := dk_4 (dk_at dksX1_whyNotPlant_0 17 rfl rfl)
theorem dX1_whyNotPlant_18 : decode cX1_whyNotPlant 18 = .ok (.ireturn, 1) := dk_172 (dk_at dksX1_whyNotPlant_0 18 rfl rfl)
theorem dX1_whyNotPlant_19 : decode cX1_whyNotPlant 19 = .ok (.aload_n 0, 1) := dk_42 (dk_at dksX1_whyNotPlant_0 19 rfl rfl)
theorem dX1_whyNotPlant_20 : decode cX1_whyNotPlant 20 = .ok (.getfield 110, 3) := dk_180 0 110 (dk_at dksX1_whyNotPlant_0 20 rfl rfl)
theorem dX1_whyNotPlant_23 : decode cX1_whyNotPlant 23 = .ok (.iconst 3, 1) := dk_6 (dk_at dksX1_whyNotPlant_0 23 rfl rfl)
theorem dX1_whyNotPlant_24 : decode cX1_whyNotPlant 24 = .ok (.iload_n 2, 1) := dk_28 (dk_at dksX1_whyNotPlant_1 0 rfl rfl)
theorem dX1_whyNotPlant_25 : decode cX1_whyNotPlant 25 = .ok (.imul, 1) := dk_104 (dk_at dksX1_whyNotPlant_1 1 rfl rfl)
theorem dX1_whyNotPlant_26 : decode cX1_whyNotPlant 26 = .ok (.iaload, 1) := dk_46 (dk_at dksX1_whyNotPlant_1 2 rfl rfl)
theorem dX1_whyNotPlant_27 : decode cX1_whyNotPlant 27 = .ok (.istore_n 3, 1) := dk_62 (dk_at dksX1_whyNotPlant_1 3 rfl rfl)
theorem dX1_whyNotPlant_28 : decode cX1_whyNotPlant 28 = .ok (.iconst 0, 1) := dk_3 (dk_at dksX1_whyNotPlant_1 4 rfl rfl)
theorem dX1_whyNotPlant_29 : decode cX1_whyNotPlant 29 = .ok (.istore 4, 2) := dk_54 4 (dk_at dksX1_whyNotPlant_1 5 rfl rfl)
theorem dX1_whyNotPlant_31 : decode cX1_whyNotPlant 31 = .ok (.iload 4, 2) := dk_21 4 (dk_at dksX1_whyNotPlant_1 7 rfl rfl)
theorem dX1_whyNotPlant_33 : decode cX1_whyNotPlant 33 = .ok (.aload_n 0, 1) := dk_42 (dk_at dksX1_whyNotPlant_1 9 rfl rfl)
theorem dX1_whyNotPlant_34 : decode cX1_whyNotPlant 34 = .ok (.getfield 165, 3) := dk_180 0 165 (dk_at dksX1_whyNotPlant_1 10 rfl rfl)
theorem dX1_whyNotPlant_37 : decode cX1_whyNotPlant 37 = .ok (.if_icmp .ge 73, 3) := dk_162 0 73 (dk_at dksX1_whyNotPlant_1 13 rfl rfl)
theorem dX1_whyNotPlant_40 : decode cX1_whyNotPlant 40 = .ok (.aload_n 0, 1) := dk_42 (dk_at dksX1_whyNotPlant_1 16 rfl rfl)
theorem dX1_whyNotPlant_41 : decode cX1_whyNotPlant 41 = .ok (.getfield 104, 3) := dk_180 0 104 (dk_at dksX1_whyNotPlant_1 17 rfl rfl)
theorem dX1_whyNotPlant_44 : decode cX1_whyNotPlant 44 = .ok (.iload 4, 2) := dk_21 4 (dk_at dksX1_whyNotPlant_1 20 rfl rfl)
theorem dX1_whyNotPlant_46 : decode cX1_whyNotPlant 46 = .ok (.iaload, 1) := dk_46 (dk_at dksX1_whyNotPlant_1 22 rfl rfl)
theorem dX1_whyNotPlant_47 : decode cX1_whyNotPlant 47 = .ok (.iconst 2, 1) := dk_5 (dk_at dksX1_whyNotPlant_1 23 rfl rfl)
theorem dX1_whyNotPlant_48 : decode cX1_whyNotPlant 48 = .ok (.if_icmp .ne 29, 3) := dk_160 0 29 (dk_at dksX1_whyNotPlant_2 0 rfl rfl)
theorem dX1_whyNotPlant_51 : decode cX1_whyNotPlant 51 = .ok (.aload_n 0, 1) := dk_42 (dk_at dksX1_whyNotPlant_2 3 rfl rfl)
theorem dX1_whyNotPlant_52 : decode cX1_whyNotPlant 52 = .ok (.getfield 107, 3) := dk_180 0 107 (dk_at dksX1_whyNotPlant_2 4 rfl rfl)
theorem dX1_whyNotPlant_55 : decode cX1_whyNotPlant 55 = .ok (.iload 4, 2) := dk_21 4 (dk_at dksX1_whyNotPlant_2 7 rfl rfl)
theorem dX1_whyNotPlant_57 : decode cX1_whyNotPlant 57 = .ok (.iaload, 1) := dk_46 (dk_at dksX1_whyNotPlant_2 9 rfl rfl)
theorem dX1_whyNotPlant_58 : decode cX1_whyNotPlant 58 = .ok (.iload_n 2, 1) := dk_28 (dk_at dksX1_whyNotPlant_2 10 rfl rfl)
theorem dX1_whyNotPlant_59 : decode cX1_whyNotPlant 59 = .ok (.if_icmp .ne 18, 3) := dk_160 0 18 (dk_at dksX1_whyNotPlant_2 11 rfl rfl)
theorem dX1_whyNotPlant_62 : decode cX1_whyNotPlant 62 = .ok (.aload_n 0, 1) := dk_42 (dk_at dksX1_whyNotPlant_2 14 rfl rfl)
theorem dX1_whyNotPlant_63 : decode cX1_whyNotPlant 63 = .ok (.getfield 101, 3) := dk_180 0 101 (dk_at dksX1_whyNotPlant_2 15 rfl rfl)
theorem dX1_whyNotPlant_66 : decode cX1_whyNotPlant 66 = .ok (.iload 4, 2) := dk_21 4 (dk_at dksX1_whyNotPlant_2 18 rfl rfl)
theorem dX1_whyNotPlant_68 : decode cX1_whyNotPlant 68 = .ok (.iaload, 1) := dk_46 (dk_at dksX1_whyNotPlant_2 20 rfl rfl)
theorem dX1_whyNotPlant_69 : decode cX1_whyNotPlant 69 = .ok (.iload_n 1, 1) := dk_27 (dk_at dksX1_whyNotPlant_2 21 rfl rfl)
theorem dX1_whyNotPlant_70 : decode cX1_whyNotPlant 70 = .ok (.if_icmp .eq 7, 3) := dk_159 0 7 (dk_at dksX1_whyNotPlant_3 0 rfl rfl)
theorem dX1_whyNotPlant_73 : decode cX1_whyNotPlant 73 = .ok (.iconst 1, 1) := dk_4 (dk_at dksX1_whyNotPlant_3 3 rfl rfl)
theorem dX1_whyNotPlant_74 : decode cX1_whyNotPlant 74 = .ok (.goto 4, 3) := dk_167 0 4 (dk_at dksX1_whyNotPlant_3 4 rfl rfl)
theorem dX1_whyNotPlant_77 : decode cX1_whyNotPlant 77 = .ok (.iconst 0, 1) := dk_3 (dk_at dksX1_whyNotPlant_3 7 rfl rfl)
theorem dX1_whyNotPlant_78 : decode cX1_whyNotPlant 78 = .ok (.istore 5, 2) := dk_54 5 (dk_at dksX1_whyNotPlant_3 8 rfl rfl)
theorem dX1_whyNotPlant_80 : decode cX1_whyNotPlant 80 = .ok (.iload_n 3, 1) := dk_29 (dk_at dksX1_whyNotPlant_3 10 rfl rfl)
theorem dX1_whyNotPlant_81 : decode cX1_whyNotPlant 81 = .ok (.iload 5, 2) := dk_21 5 (dk_at dksX1_whyNotPlant_3 11 rfl rfl)
theorem dX1_whyNotPlant_83 : decode cX1_whyNotPlant 83 = .ok (.ifCond .eq 18, 3) := dk_153 0 18 (dk_at dksX1_whyNotPlant_3 13 rfl rfl)
theorem dX1_whyNotPlant_86 : decode cX1_whyNotPlant 86 = .ok (.aload_n 0, 1) := dk_42 (dk_at dksX1_whyNotPlant_3 16 rfl rfl)
theorem dX1_whyNotPlant_87 : decode cX1_whyNotPlant 87 = .ok (.getfield 24, 3) := dk_180 0 24 (dk_at dksX1_whyNotPlant_3 17 rfl rfl)
theorem dX1_whyNotPlant_90 : decode cX1_whyNotPlant 90 = .ok (.aload_n 0, 1) := dk_42 (dk_at dksX1_whyNotPlant_3 20 rfl rfl)
theorem dX1_whyNotPlant_91 : decode cX1_whyNotPlant 91 = .ok (.getfield 101, 3) := dk_180 0 101 (dk_at dksX1_whyNotPlant_3 21 rfl rfl)
theorem dX1_whyNotPlant_94 : decode cX1_whyNotPlant 94 = .ok (.iload 4, 2) := dk_21 4 (dk_at dksX1_whyNotPlant_4 0 rfl rfl)
theorem dX1_whyNotPlant_96 : decode cX1_whyNotPlant 96 = .ok (.iaload, 1) := dk_46 (dk_at dksX1_whyNotPlant_4 2 rfl rfl)
theorem dX1_whyNotPlant_97 : decode cX1_whyNotPlant 97 = .ok (.iaload, 1) := dk_46 (dk_at dksX1_whyNotPlant_4 3 rfl rfl)
theorem dX1_whyNotPlant_98 : decode cX1_whyNotPlant 98 = .ok (.goto 4, 3) := dk_167 0 4 (dk_at dksX1_whyNotPlant_4 4 rfl rfl)
theorem dX1_whyNotPlant_101 : decode cX1_whyNotPlant 101 = .ok (.iconst 0, 1) := dk_3 (dk_at dksX1_whyNotPlant_4 7 rfl rfl)
theorem dX1_whyNotPlant_102 : decode cX1_whyNotPlant 102 = .ok (.isub, 1) := dk_100 (dk_at dksX1_whyNotPlant_4 8 rfl rfl)
theorem dX1_whyNotPlant_103 : decode cX1_whyNotPlant 103 = .ok (.istore_n 3, 1) := dk_62 (dk_at dksX1_whyNotPlant_4 9 rfl rfl)
theorem dX1_whyNotPlant_104 : decode cX1_whyNotPlant 104 = .ok (.iinc 4 1, 3) := dk_132 4 1 (dk_at dksX1_whyNotPlant_4 10 rfl rfl)
theorem dX1_whyNotPlant_107 : decode cX1_whyNotPlant 107 = .ok (.goto (-76), 3) := dk_167 255 180 (dk_at dksX1_whyNotPlant_4 13 rfl rfl)
theorem dX1_whyNotPlant_110 : decode cX1_whyNotPlant 110 = .ok (.iload_n 3, 1) := dk_29 (dk_at dksX1_whyNotPlant_4 16 rfl rfl)
theorem dX1_whyNotPlant_111 : decode cX1_whyNotPlant 111 = .ok (.aload_n 0, 1) := dk_42 (dk_at dksX1_whyNotPlant_4 17 rfl rfl)
theorem dX1_whyNotPlant_112 : decode cX1_whyNotPlant 112 = .ok (.getfield 24, 3) := dk_180 0 24 (dk_at dksX1_whyNotPlant_4 18 rfl rfl)
theorem dX1_whyNotPlant_115 : decode cX1_whyNotPlant 115 = .ok (.iload_n 1, 1) := dk_27 (dk_at dksX1_whyNotPlant_4 21 rfl rfl)
theorem dX1_whyNotPlant_116 : decode cX1_whyNotPlant 116 = .ok (.iaload, 1) := dk_46 (dk_at dksX1_whyNotPlant_4 22 rfl rfl)
theorem dX1_whyNotPlant_117 : decode cX1_whyNotPlant 117 = .ok (.if_icmp .ge 7, 3) := dk_162 0 7 (dk_at dksX1_whyNotPlant_5 0 rfl rfl)
theorem dX1_whyNotPlant_120 : decode cX1_whyNotPlant 120 = .ok (.iconst 2, 1) := dk_5 (dk_at dksX1_whyNotPlant_5 3 rfl rfl)
theorem dX1_whyNotPlant_121 : decode cX1_whyNotPlant 121 = .ok (.goto 4, 3) := dk_167 0 4 (dk_at dksX1_whyNotPlant_5 4 rfl rfl)
theorem dX1_whyNotPlant_124 : decode cX1_whyNotPlant 124 = .ok (.iconst 0, 1) := dk_3 (dk_at dksX1_whyNotPlant_5 7 rfl rfl)
theorem dX1_whyNotPlant_125 : decode cX1_whyNotPlant 125 = .ok (.ireturn, 1) := dk_172 (dk_at dksX1_whyNotPlant_5 8 rfl rfl)
abbrev cX1_close : ByteArray := prog_4_method_37_code
def yX1_close : MethodName := ⟨RX1, "close", "()V"⟩
def dkwX1_close_5 : List UInt8 := [167, 255, 205, 42, 89, 180, 0, 142, 4, 96, 181, 0, 142, 177]
abbrev dktX1_close_5 : List UInt8 := dkwX1_close_5 ++ []
def dkwX1_close_4 : List UInt8 := [27, 4, 96, 42, 180, 0, 110, 27, 5, 96, 46, 79, 42, 180, 0, 110, 27, 5, 96, 3, 79, 132, 1, 3]
abbrev dktX1_close_4 : List UInt8 := dkwX1_close_4 ++ dktX1_close_5
def dkwX1_close_3 : List UInt8 := [162, 0, 51, 42, 180, 0, 110, 27, 92, 46, 42, 180, 0, 110, 27, 4, 96, 46, 96, 79, 42, 180, 0, 110]
abbrev dktX1_close_3 : List UInt8 := dkwX1_close_3 ++ dktX1_close_4
def dkwX1_close_2 : List UInt8 := [3, 60, 27, 16, 6, 162, 0, 14, 42, 27, 182, 1, 56, 132, 1, 1, 167, 255, 242, 3, 60, 27, 16, 12]
abbrev dktX1_close_2 : List UInt8 := dkwX1_close_2 ++ dktX1_close_3
def dkwX1_close_1 : List UInt8 := [167, 255, 240, 42, 3, 181, 0, 165, 42, 182, 1, 44, 42, 182, 1, 47, 42, 182, 1, 50, 42, 182, 1, 53]
abbrev dktX1_close_1 : List UInt8 := dkwX1_close_1 ++ dktX1_close_2
def dkwX1_close_0 : List UInt8 := [42, 182, 1, 37, 3, 60, 27, 42, 180, 0, 165, 162, 0, 14, 42, 27, 182, 1, 40, 132, 1, 1]
abbrev dktX1_close_0 : List UInt8 := dkwX1_close_0 ++ dktX1_close_1
theorem dksX1_close_0 : cX1_close.data.toList.drop 0 = dktX1_close_0 := by decide +kernel
theorem dksX1_close_1 : cX1_close.data.toList.drop 22 = dktX1_close_1 := dk_seg dksX1_close_0 22 rfl rfl
theorem dksX1_close_2 : cX1_close.data.toList.drop 46 = dktX1_close_2 := dk_seg dksX1_close_1 24 rfl rfl
theorem dksX1_close_3 : cX1_close.data.toList.drop 70 = dktX1_close_3 := dk_seg dksX1_close_2 24 rfl rfl
theorem dksX1_close_4 : cX1_close.data.toList.drop 94 = dktX1_close_4 := dk_seg dksX1_close_3 24 rfl rfl
theorem dksX1_close_5 : cX1_close.data.toList.drop 118 = dktX1_close_5 := dk_seg dksX1_close_4 24 rfl rfl
theorem dX1_close_0 : decode cX1_close 0 = .ok (.aload_n 0, 1) := dk_42 (dk_at dksX1_close_0 0 rfl rfl)
theorem dX1_close_1 : decode cX1_close 1 = .ok (.invokevirtual 293, 3) := dk_182 1 37 (dk_at dksX1_close_0 1 rfl rfl)
theorem dX1_close_4 : decode cX1_close 4 = .ok (.iconst 0, 1) := dk_3 (dk_at dksX1_close_0 4 rfl rfl)
theorem dX1_close_5 : decode cX1_close 5 = .ok (.istore_n 1, 1) := dk_60 (dk_at dksX1_close_0 5 rfl rfl)
theorem dX1_close_6 : decode cX1_close 6 = .ok (.iload_n 1, 1) := dk_27 (dk_at dksX1_close_0 6 rfl rfl)
theorem dX1_close_7 : decode cX1_close 7 = .ok (.aload_n 0, 1) := dk_42 (dk_at dksX1_close_0 7 rfl rfl)
theorem dX1_close_8 : decode cX1_close 8 = .ok (.getfield 165, 3) := dk_180 0 165 (dk_at dksX1_close_0 8 rfl rfl)
theorem dX1_close_11 : decode cX1_close 11 = .ok (.if_icmp .ge 14, 3) := dk_162 0 14 (dk_at dksX1_close_0 11 rfl rfl)
theorem dX1_close_14 : decode cX1_close 14 = .ok (.aload_n 0, 1) := dk_42 (dk_at dksX1_close_0 14 rfl rfl)
theorem dX1_close_15 : decode cX1_close 15 = .ok (.iload_n 1, 1) := dk_27 (dk_at dksX1_close_0 15 rfl rfl)
theorem dX1_close_16 : decode cX1_close 16 = .ok (.invokevirtual 296, 3) := dk_182 1 40 (dk_at dksX1_close_0 16 rfl rfl)
theorem dX1_close_19 : decode cX1_close 19 = .ok (.iinc 1 1, 3) := dk_132 1 1 (dk_at dksX1_close_0 19 rfl rfl)
theorem dX1_close_22 : decode cX1_close 22 = .ok (.goto (-16), 3) := dk_167 255 240 (dk_at dksX1_close_1 0 rfl rfl)
theorem dX1_close_25 : decode cX1_close 25 = .ok (.aload_n 0, 1) := dk_42 (dk_at dksX1_close_1 3 rfl rfl)
theorem dX1_close_26 : decode cX1_close 26 = .ok (.iconst 0, 1) := dk_3 (dk_at dksX1_close_1 4 rfl rfl)
theorem dX1_close_27 : decode cX1_close 27 = .ok (.putfield 165, 3) := dk_181 0 165 (dk_at dksX1_close_1 5 rfl rfl)
theorem dX1_close_30 : decode cX1_close 30 = .ok (.aload_n 0, 1) := dk_42 (dk_at dksX1_close_1 8 rfl rfl)
theorem dX1_close_31 : decode cX1_close 31 = .ok (.invokevirtual 300, 3) := dk_182 1 44 (dk_at dksX1_close_1 9 rfl rfl)
theorem dX1_close_34 : decode cX1_close 34 = .ok (.aload_n 0, 1) := dk_42 (dk_at dksX1_close_1 12 rfl rfl)
theorem dX1_close_35 : decode cX1_close 35 = .ok (.invokevirtual 303, 3) := dk_182 1 47 (dk_at dksX1_close_1 13 rfl rfl)
theorem dX1_close_38 : decode cX1_close 38 = .ok (.aload_n 0, 1) := dk_42 (dk_at dksX1_close_1 16 rfl rfl)
theorem dX1_close_39 : decode cX1_close 39 = .ok (.invokevirtual 306, 3) := dk_182 1 50 (dk_at dksX1_close_1 17 rfl rfl)
theorem dX1_close_42 : decode cX1_close 42 = .ok (.aload_n 0, 1) := dk_42 (dk_at dksX1_close_1 20 rfl rfl)
theorem dX1_close_43 : decode cX1_close 43 = .ok (.invokevirtual 309, 3) := dk_182 1 53 (dk_at dksX1_close_1 21 rfl rfl)
theorem dX1_close_46 : decode cX1_close 46 = .ok (.iconst 0, 1) := dk_3 (dk_at dksX1_close_2 0 rfl rfl)
theorem dX1_close_47 : decode cX1_close 47 = .ok (.istore_n 1, 1) := dk_60 (dk_at dksX1_close_2 1 rfl rfl)
theorem dX1_close_48 : decode cX1_close 48 = .ok (.iload_n 1, 1) := dk_27 (dk_at dksX1_close_2 2 rfl rfl)
theorem dX1_close_49 : decode cX1_close 49 = .ok (.bipush 6, 2) := dk_16 6 (dk_at dksX1_close_2 3 rfl rfl)
theorem dX1_close_51 : decode cX1_close 51 = .ok (.if_icmp .ge 14, 3) := dk_162 0 14 (dk_at dksX1_close_2 5 rfl rfl)
theorem dX1_close_54 : decode cX1_close 54 = .ok (.aload_n 0, 1) := dk_42 (dk_at dksX1_close_2 8 rfl rfl)
theorem dX1_close_55 : decode cX1_close 55 = .ok (.iload_n 1, 1) := dk_27 (dk_at dksX1_close_2 9 rfl rfl)
theorem dX1_close_56 : decode cX1_close 56 = .ok (.invokevirtual 312, 3) := dk_182 1 56 (dk_at dksX1_close_2 10 rfl rfl)
theorem dX1_close_59 : decode cX1_close 59 = .ok (.iinc 1 1, 3) := dk_132 1 1 (dk_at dksX1_close_2 13 rfl rfl)
theorem dX1_close_62 : decode cX1_close 62 = .ok (.goto (-14), 3) := dk_167 255 242 (dk_at dksX1_close_2 16 rfl rfl)
theorem dX1_close_65 : decode cX1_close 65 = .ok (.iconst 0, 1) := dk_3 (dk_at dksX1_close_2 19 rfl rfl)
theorem dX1_close_66 : decode cX1_close 66 = .ok (.istore_n 1, 1) := dk_60 (dk_at dksX1_close_2 20 rfl rfl)
theorem dX1_close_67 : decode cX1_close 67 = .ok (.iload_n 1, 1) := dk_27 (dk_at dksX1_close_2 21 rfl rfl)
theorem dX1_close_68 : decode cX1_close 68 = .ok (.bipush 12, 2) := dk_16 12 (dk_at dksX1_close_2 22 rfl rfl)
theorem dX1_close_70 : decode cX1_close 70 = .ok (.if_icmp .ge 51, 3) := dk_162 0 51 (dk_at dksX1_close_3 0 rfl rfl)
theorem dX1_close_73 : decode cX1_close 73 = .ok (.aload_n 0, 1) := dk_42 (dk_at dksX1_close_3 3 rfl rfl)
theorem dX1_close_74 : decode cX1_close 74 = .ok (.getfield 110, 3) := dk_180 0 110 (dk_at dksX1_close_3 4 rfl rfl)
theorem dX1_close_77 : decode cX1_close 77 = .ok (.iload_n 1, 1) := dk_27 (dk_at dksX1_close_3 7 rfl rfl)
theorem dX1_close_78 : decode cX1_close 78 = .ok (.dup2, 1) := dk_92 (dk_at dksX1_close_3 8 rfl rfl)
theorem dX1_close_79 : decode cX1_close 79 = .ok (.iaload, 1) := dk_46 (dk_at dksX1_close_3 9 rfl rfl)
theorem dX1_close_80 : decode cX1_close 80 = .ok (.aload_n 0, 1) := dk_42 (dk_at dksX1_close_3 10 rfl rfl)
theorem dX1_close_81 : decode cX1_close 81 = .ok (.getfield 110, 3) := dk_180 0 110 (dk_at dksX1_close_3 11 rfl rfl)
theorem dX1_close_84 : decode cX1_close 84 = .ok (.iload_n 1, 1) := dk_27 (dk_at dksX1_close_3 14 rfl rfl)
theorem dX1_close_85 : decode cX1_close 85 = .ok (.iconst 1, 1) := dk_4 (dk_at dksX1_close_3 15 rfl rfl)
theorem dX1_close_86 : decode cX1_close 86 = .ok (.iadd, 1) := dk_96 (dk_at dksX1_close_3 16 rfl rfl)
theorem dX1_close_87 : decode cX1_close 87 = .ok (.iaload, 1) := dk_46 (dk_at dksX1_close_3 17 rfl rfl)
theorem dX1_close_88 : decode cX1_close 88 = .ok (.iadd, 1) := dk_96 (dk_at dksX1_close_3 18 rfl rfl)
theorem dX1_close_89 : decode cX1_close 89 = .ok (.iastore, 1) := dk_79 (dk_at dksX1_close_3 19 rfl rfl)
theorem dX1_close_90 : decode cX1_close 90 = .ok (.aload_n 0, 1) := dk_42 (dk_at dksX1_close_3 20 rfl rfl)
theorem dX1_close_91 : decode cX1_close 91 = .ok (.getfield 110, 3) := dk_180 0 110 (dk_at dksX1_close_3 21 rfl rfl)
theorem dX1_close_94 : decode cX1_close 94 = .ok (.iload_n 1, 1) := dk_27 (dk_at dksX1_close_4 0 rfl rfl)
theorem dX1_close_95 : decode cX1_close 95 = .ok (.iconst 1, 1) := dk_4 (dk_at dksX1_close_4 1 rfl rfl)
theorem dX1_close_96 : decode cX1_close 96 = .ok (.iadd, 1) := dk_96 (dk_at dksX1_close_4 2 rfl rfl)
theorem dX1_close_97 : decode cX1_close 97 = .ok (.aload_n 0, 1) := dk_42 (dk_at dksX1_close_4 3 rfl rfl)
theorem dX1_close_98 : decode cX1_close 98 = .ok (.getfield 110, 3) := dk_180 0 110 (dk_at dksX1_close_4 4 rfl rfl)
theorem dX1_close_101 : decode cX1_close 101 = .ok (.iload_n 1, 1) := dk_27 (dk_at dksX1_close_4 7 rfl rfl)
theorem dX1_close_102 : decode cX1_close 102 = .ok (.iconst 2, 1) := dk_5 (dk_at dksX1_close_4 8 rfl rfl)
theorem dX1_close_103 : decode cX1_close 103 = .ok (.iadd, 1) := dk_96 (dk_at dksX1_close_4 9 rfl rfl)
theorem dX1_close_104 : decode cX1_close 104 = .ok (.iaload, 1) := dk_46 (dk_at dksX1_close_4 10 rfl rfl)
theorem dX1_close_105 : decode cX1_close 105 = .ok (.iastore, 1) := dk_79 (dk_at dksX1_close_4 11 rfl rfl)
theorem dX1_close_106 : decode cX1_close 106 = .ok (.aload_n 0, 1) := dk_42 (dk_at dksX1_close_4 12 rfl rfl)
theorem dX1_close_107 : decode cX1_close 107 = .ok (.getfield 110, 3) := dk_180 0 110 (dk_at dksX1_close_4 13 rfl rfl)
theorem dX1_close_110 : decode cX1_close 110 = .ok (.iload_n 1, 1) := dk_27 (dk_at dksX1_close_4 16 rfl rfl)
theorem dX1_close_111 : decode cX1_close 111 = .ok (.iconst 2, 1) := dk_5 (dk_at dksX1_close_4 17 rfl rfl)
theorem dX1_close_112 : decode cX1_close 112 = .ok (.iadd, 1) := dk_96 (dk_at dksX1_close_4 18 rfl rfl)
theorem dX1_close_113 : decode cX1_close 113 = .ok (.iconst 0, 1) := dk_3 (dk_at dksX1_close_4 19 rfl rfl)
theorem dX1_close_114 : decode cX1_close 114 = .ok (.iastore, 1) := dk_79 (dk_at dksX1_close_4 20 rfl rfl)
theorem dX1_close_115 : decode cX1_close 115 = .ok (.iinc 1 3, 3) := dk_132 1 3 (dk_at dksX1_close_4 21 rfl rfl)
theorem dX1_close_118 : decode cX1_close 118 = .ok (.goto (-51), 3) := dk_167 255 205 (dk_at dksX1_close_5 0 rfl rfl)
theorem dX1_close_121 : decode cX1_close 121 = .ok (.aload_n 0, 1) := dk_42 (dk_at dksX1_close_5 3 rfl rfl)
theorem dX1_close_122 : decode cX1_close 122 = .ok (.dup, 1) := dk_89 (dk_at dksX1_close_5 4 rfl rfl)
theorem dX1_close_123 : decode cX1_close 123 = .ok (.getfield 142, 3) := dk_180 0 142 (dk_at dksX1_close_5 5 rfl rfl)
theorem dX1_close_126 : decode cX1_close 126 = .ok (.iconst 1, 1) := dk_4 (dk_at dksX1_close_5 8 rfl rfl)
theorem dX1_close_127 : decode cX1_close 127 = .ok (.iadd, 1) := dk_96 (dk_at dksX1_close_5 9 rfl rfl)
theorem dX1_close_128 : decode cX1_close 128 = .ok (.putfield 142, 3) := dk_181 0 142 (dk_at dksX1_close_5 10 rfl rfl)
theorem dX1_close_131 : decode cX1_close 131 = .ok (.return_, 1) := dk_177 (dk_at dksX1_close_5 13 rfl rfl)
abbrev cX1_rights : ByteArray := prog_4_method_29_code
def yX1_rights : MethodName := ⟨RX1, "rights", "()V"⟩
def dkwX1_rights_7 : List UInt8 := [132, 2, 1, 167, 255, 137, 132, 1, 1, 167, 255, 89, 177]
abbrev dktX1_rights_7 : List UInt8 := dkwX1_rights_7 ++ []
def dkwX1_rights_6 : List UInt8 := [54, 5, 42, 180, 0, 33, 28, 92, 46, 29, 100, 79, 42, 180, 0, 76, 27, 92, 46, 29, 100, 79]
abbrev dktX1_rights_6 : List UInt8 := dkwX1_rights_6 ++ dktX1_rights_7
def dkwX1_rights_5 : List UInt8 := [187, 1, 16, 89, 183, 1, 18, 58, 4, 25, 4, 27, 181, 1, 19, 42, 25, 4, 28, 29, 182, 1, 22]
abbrev dktX1_rights_5 : List UInt8 := dkwX1_rights_5 ++ dktX1_rights_6
def dkwX1_rights_4 : List UInt8 := [167, 0, 4, 3, 62, 29, 158, 0, 14, 42, 182, 1, 2, 2, 160, 0, 6, 167, 0, 58, 29, 158, 0, 48]
abbrev dktX1_rights_4 : List UInt8 := dkwX1_rights_4 ++ dktX1_rights_5
def dkwX1_rights_3 : List UInt8 := [180, 0, 67, 27, 46, 160, 0, 21, 42, 180, 0, 76, 27, 46, 42, 180, 0, 33, 28, 46, 184, 0, 189]
abbrev dktX1_rights_3 : List UInt8 := dkwX1_rights_3 ++ dktX1_rights_4
def dkwX1_rights_2 : List UInt8 := [180, 0, 168, 162, 0, 117, 42, 180, 0, 76, 27, 46, 158, 0, 108, 42, 180, 0, 9, 28, 46, 42]
abbrev dktX1_rights_2 : List UInt8 := dkwX1_rights_2 ++ dktX1_rights_3
def dkwX1_rights_1 : List UInt8 := [182, 0, 223, 17, 3, 232, 182, 1, 13, 42, 180, 0, 70, 27, 46, 104, 96, 79, 3, 61, 28, 42]
abbrev dktX1_rights_1 : List UInt8 := dkwX1_rights_1 ++ dktX1_rights_2
def dkwX1_rights_0 : List UInt8 := [3, 60, 27, 42, 180, 0, 177, 162, 0, 165, 42, 180, 0, 76, 27, 92, 46, 42, 42, 7, 16, 100, 27, 96]
abbrev dktX1_rights_0 : List UInt8 := dkwX1_rights_0 ++ dktX1_rights_1
theorem dksX1_rights_0 : cX1_rights.data.toList.drop 0 = dktX1_rights_0 := by decide +kernel
theorem dksX1_rights_1 : cX1_rights.data.toList.drop 24 = dktX1_rights_1 := dk_seg dksX1_rights_0 24 rfl rfl
theorem dksX1_rights_2 : cX1_rights.data.toList.drop 46 = dktX1_rights_2 := dk_seg dksX1_rights_1 22 rfl rfl
theorem dksX1_rights_3 : cX1_rights.data.toList.drop 68 = dktX1_rights_3 := dk_seg dksX1_rights_2 22 rfl rfl
theorem dksX1_rights_4 : cX1_rights.data.toList.drop 91 = dktX1_rights_4 := dk_seg dksX1_rights_3 23 rfl rfl
theorem dksX1_rights_5 : cX1_rights.data.toList.drop 115 = dktX1_rights_5 := dk_seg dksX1_rights_4 24 rfl rfl
theorem dksX1_rights_6 : cX1_rights.data.toList.drop 138 = dktX1_rights_6 := dk_seg dksX1_rights_5 23 rfl rfl
theorem dksX1_rights_7 : cX1_rights.data.toList.drop 160 = dktX1_rights_7 := dk_seg dksX1_rights_6 22 rfl rfl
theorem dX1_rights_0 : decode cX1_rights 0 = .ok (.iconst 0, 1) := dk_3 (dk_at dksX1_rights_0 0 rfl rfl)
theorem dX1_rights_1 : decode cX1_rights 1 = .ok (.istore_n 1, 1) := dk_60 (dk_at dksX1_rights_0 1 rfl rfl)
theorem dX1_rights_2 : decode cX1_rights 2 = .ok (.iload_n 1, 1) := dk_27 (dk_at dksX1_rights_0 2 rfl rfl)
theorem dX1_rights_3 : decode cX1_rights 3 = .ok (.aload_n 0, 1) := dk_42 (dk_at dksX1_rights_0 3 rfl rfl)
theorem dX1_rights_4 : decode cX1_rights 4 = .ok (.getfield 177, 3) := dk_180 0 177 (dk_at dksX1_rights_0 4 rfl rfl)
theorem dX1_rights_7 : decode cX1_rights 7 = .ok (.if_icmp .ge 165, 3) := dk_162 0 165 (dk_at dksX1_rights_0 7 rfl rfl)
theorem dX1_rights_10 : decode cX1_rights 10 = .ok (.aload_n 0, 1) := dk_42 (dk_at dksX1_rights_0 10 rfl rfl)
theorem dX1_rights_11 : decode cX1_rights 11 = .ok (.getfield 76, 3) := dk_180 0 76 (dk_at dksX1_rights_0 11 rfl rfl)
theorem dX1_rights_14 : decode cX1_rights 14 = .ok (.iload_n 1, 1) := dk_27 (dk_at dksX1_rights_0 14 rfl rfl)
theorem dX1_rights_15 : decode cX1_rights 15 = .ok (.dup2, 1) := dk_92 (dk_at dksX1_rights_0 15 rfl rfl)
theorem dX1_rights_16 : decode cX1_rights 16 = .ok (.iaload, 1) := dk_46 (dk_at dksX1_rights_0 16 rfl rfl)
theorem dX1_rights_17 : decode cX1_rights 17 = .ok (.aload_n 0, 1) := dk_42 (dk_at dksX1_rights_0 17 rfl rfl)
theorem dX1_rights_18 : decode cX1_rights 18 = .ok (.aload_n 0, 1) := dk_42 (dk_at dksX1_rights_0 18 rfl rfl)
theorem dX1_rights_19 : decode cX1_rights 19 = .ok (.iconst 4, 1) := dk_7 (dk_at dksX1_rights_0 19 rfl rfl)
theorem dX1_rights_20 : decode cX1_rights 20 = .ok (.bipush 100, 2) := dk_16 100 (dk_at dksX1_rights_0 20 rfl rfl)
theorem dX1_rights_22 : decode cX1_rights 22 = .ok (.iload_n 1, 1) := dk_27 (dk_at dksX1_rights_0 22 rfl rfl)
theorem dX1_rights_23 : decode cX1_rights 23 = .ok (.iadd, 1) := dk_96 (dk_at dksX1_rights_0 23 rfl rfl)
theorem dX1_rights_24 : decode cX1_rights 24 = .ok (.invokevirtual 223, 3) := dk_182 0 223 (dk_at dksX1_rights_1 0 rfl rfl)
theorem dX1_rights_27 : decode cX1_rights 27 = .ok (.sipush 1000, 3) := dk_17 3 232 (dk_at dksX1_rights_1 3 rfl rfl)
theorem dX1_rights_30 : decode cX1_rights 30 = .ok (.invokevirtual 269, 3) := dk_182 1 13 (dk_at dksX1_rights_1 6 rfl rfl)
theorem dX1_rights_33 : decode cX1_rights 33 = .ok (.aload_n 0, 1) := dk_42 (dk_at dksX1_rights_1 9 rfl rfl)
theorem dX1_rights_34 : decode cX1_rights 34 = .ok (.getfield 70, 3) := dk_180 0 70 (dk_at dksX1_rights_1 10 rfl rfl)
theorem dX1_rights_37 : decode cX1_rights 37 = .ok (.iload_n 1, 1) := dk_27 (dk_at dksX1_rights_1 13 rfl rfl)
theorem dX1_rights_38 : decode cX1_rights 38 = .ok (.iaload, 1) := dk_46 (dk_at dksX1_rights_1 14 rfl rfl)
theorem dX1_rights_39 : decode cX1_rights 39 = .ok (.imul, 1) := dk_104 (dk_at dksX1_rights_1 15 rfl rfl)
theorem dX1_rights_40 : decode cX1_rights 40 = .ok (.iadd, 1) := dk_96 (dk_at dksX1_rights_1 16 rfl rfl)
theorem dX1_rights_41 : decode cX1_rights 41 = .ok (.iastore, 1) := dk_79 (dk_at dksX1_rights_1 17 rfl rfl)
theorem dX1_rights_42 : decode cX1_rights 42 = .ok (.iconst 0, 1) := dk_3 (dk_at dksX1_rights_1 18 rfl rfl)
theorem dX1_rights_43 : decode cX1_rights 43 = .ok (.istore_n 2, 1) := dk_61 (dk_at dksX1_rights_1 19 rfl rfl)
theorem dX1_rights_44 : decode cX1_rights 44 = .ok (.iload_n 2, 1) := dk_28 (dk_at dksX1_rights_1 20 rfl rfl)
theorem dX1_rights_45 : decode cX1_rights 45 = .ok (.aload_n 0, 1) := dk_42 (dk_at dksX1_rights_1 21 rfl rfl)
theorem dX1_rights_46 : decode cX1_rights 46 = .ok (.getfield 168, 3) := dk_180 0 168 (dk_at dksX1_rights_2 0 rfl rfl)
theorem dX1_rights_49 : decode cX1_rights 49 = .ok (.if_icmp .ge 117, 3) := dk_162 0 117 (dk_at dksX1_rights_2 3 rfl rfl)
theorem dX1_rights_52 : decode cX1_rights 52 = .ok (.aload_n 0, 1) := dk_42 (dk_at dksX1_rights_2 6 rfl rfl)
theorem dX1_rights_53 : decode cX1_rights 53 = .ok (.getfield 76, 3) := dk_180 0 76 (dk_at dksX1_rights_2 7 rfl rfl)
theorem dX1_rights_56 : decode cX1_rights 56 = .ok (.iload_n 1, 1) := dk_27 (dk_at dksX1_rights_2 10 rfl rfl)
theorem dX1_rights_57 : decode cX1_rights 57 = .ok (.iaload, 1) := dk_46 (dk_at dksX1_rights_2 11 rfl rfl)
theorem dX1_rights_58 : decode cX1_rights 58 = .ok (.ifCond .le 108, 3) := dk_158 0 108 (dk_at dksX1_rights_2 12 rfl rfl)
theorem dX1_rights_61 : decode cX1_rights 61 = .ok (.aload_n 0, 1) := dk_42 (dk_at dksX1_rights_2 15 rfl rfl)
theorem dX1_rights_62 : decode cX1_rights 62 = .ok (.getfield 9, 3) := dk_180 0 9 (dk_at dksX1_rights_2 16 rfl rfl)
theorem dX1_rights_65 : decode cX1_rights 65 = .ok (.iload_n 2, 1) := dk_28 (dk_at dksX1_rights_2 19 rfl rfl)
theorem dX1_rights_66 : decode cX1_rights 66 = .ok (.iaload, 1) := dk_46 (dk_at dksX1_rights_2 20 rfl rfl)
theorem dX1_rights_67 : decode cX1_rights 67 = .ok (.aload_n 0, 1) := dk_42 (dk_at dksX1_rights_2 21 rfl rfl)
theorem dX1_rights_68 : decode cX1_rights 68 = .ok (.getfield 67, 3) := dk_180 0 67 (dk_at dksX1_rights_3 0 rfl rfl)
theorem dX1_rights_71 : decode cX1_rights 71 = .ok (.iload_n 1, 1) := dk_27 (dk_at dksX1_rights_3 3 rfl rfl)
theorem dX1_rights_72 : decode cX1_rights 72 = .ok (.iaload, 1) := dk_46 (dk_at dksX1_rights_3 4 rfl rfl)
theorem dX1_rights_73 : decode cX1_rights 73 = .ok (.if_icmp .ne 21, 3) := dk_160 0 21 (dk_at dksX1_rights_3 5 rfl rfl)
theorem dX1_rights_76 : decode cX1_rights 76 = .ok (.aload_n 0, 1) := dk_42 (dk_at dksX1_rights_3 8 rfl rfl)
theorem dX1_rights_77 : decode cX1_rights 77 = .ok (.getfield 76, 3) := dk_180 0 76 (dk_at dksX1_rights_3 9 rfl rfl)
theorem dX1_rights_80 : decode cX1_rights 80 = .ok (.iload_n 1, 1) := dk_27 (dk_at dksX1_rights_3 12 rfl rfl)
theorem dX1_rights_81 : decode cX1_rights 81 = .ok (.iaload, 1) := dk_46 (dk_at dksX1_rights_3 13 rfl rfl)
theorem dX1_rights_82 : decode cX1_rights 82 = .ok (.aload_n 0, 1) := dk_42 (dk_at dksX1_rights_3 14 rfl rfl)
theorem dX1_rights_83 : decode cX1_rights 83 = .ok (.getfield 33, 3) := dk_180 0 33 (dk_at dksX1_rights_3 15 rfl rfl)
theorem dX1_rights_86 : decode cX1_rights 86 = .ok (.iload_n 2, 1) := dk_28 (dk_at dksX1_rights_3 18 rfl rfl)
theorem dX1_rights_87 : decode cX1_rights 87 = .ok (.iaload, 1) := dk_46 (dk_at dksX1_rights_3 19 rfl rfl)
theorem dX1_rights_88 : decode cX1_rights 88 = .ok (.invokestatic 189, 3) := dk_184 0 189 (dk_at dksX1_rights_3 20 rfl rfl)
theorem dX1_rights_91 : decode cX1_rights 91 = .ok (.goto 4, 3) := dk_167 0 4 (dk_at dksX1_rights_4 0 rfl rfl)
theorem dX1_rights_94 : decode cX1_rights 94 = .ok (.iconst 0, 1) := dk_3 (dk_at dksX1_rights_4 3 rfl rfl)
theorem dX1_rights_95 : decode cX1_rights 95 = .ok (.istore_n 3, 1) := dk_62 (dk_at dksX1_rights_4 4 rfl rfl)
theorem dX1_rights_96 : decode cX1_rights 96 = .ok (.iload_n 3, 1) := dk_29 (dk_at dksX1_rights_4 5 rfl rfl)
theorem dX1_rights_97 : decode cX1_rights 97 = .ok (.ifCond .le 14, 3) := dk_158 0 14 (dk_at dksX1_rights_4 6 rfl rfl)
theorem dX1_rights_100 : decode cX1_rights 100 = .ok (.aload_n 0, 1) := dk_42 (dk_at dksX1_rights_4 9 rfl rfl)
theorem dX1_rights_101 : decode cX1_rights 101 = .ok (.invokevirtual 258, 3) := dk_182 1 2 (dk_at dksX1_rights_4 10 rfl rfl)
theorem dX1_rights_104 : decode cX1_rights 104 = .ok (.iconst (-1), 1) := dk_2 (dk_at dksX1_rights_4 13 rfl rfl)
theorem dX1_rights_105 : decode cX1_rights 105 = .ok (.if_icmp .ne 6, 3) := dk_160 0 6 (dk_at dksX1_rights_4 14 rfl rfl)
theorem dX1_rights_108 : decode cX1_rights 108 = .ok (.goto 58, 3) := dk_167 0 58 (dk_at dksX1_rights_4 17 rfl rfl)
theorem dX1_rights_111 : decode cX1_rights 111 = .ok (.iload_n 3, 1) := dk_29 (dk_at dksX1_rights_4 20 rfl rfl)
theorem dX1_rights_112 : decode cX1_rights 112 = .ok (.ifCond .le 48, 3) := dk_158 0 48 (dk_at dksX1_rights_4 21 rfl rfl)
theorem dX1_rights_115 : decode cX1_rights 115 = .ok (.new 272, 3) := dk_187 1 16 (dk_at dksX1_rights_5 0 rfl rfl)
theorem dX1_rights_118 : decode cX1_rights 118 = .ok (.dup, 1) := dk_89 (dk_at dksX1_rights_5 3 rfl rfl)
theorem dX1_rights_119 : decode cX1_rights 119 = .ok (.invokespecial 274, 3) := dk_183 1 18 (dk_at dksX1_rights_5 4 rfl rfl)
theorem dX1_rights_122 : decode cX1_rights 122 = .ok (.astore 4, 2) := dk_58 4 (dk_at dksX1_rights_5 7 rfl rfl)
theorem dX1_rights_124 : decode cX1_rights 124 = .ok (.aload 4, 2) := dk_25 4 (dk_at dksX1_rights_5 9 rfl rfl)
theorem dX1_rights_126 : decode cX1_rights 126 = .ok (.iload_n 1, 1) := dk_27 (dk_at dksX1_rights_5 11 rfl rfl)
theorem dX1_rights_127 : decode cX1_rights 127 = .ok (.putfield 275, 3) := dk_181 1 19 (dk_at dksX1_rights_5 12 rfl rfl)
theorem dX1_rights_130 : decode cX1_rights 130 = .ok (.aload_n 0, 1) := dk_42 (dk_at dksX1_rights_5 15 rfl rfl)
theorem dX1_rights_131 : decode cX1_rights 131 = .ok (.aload 4, 2) := dk_25 4 (dk_at dksX1_rights_5 16 rfl rfl)
theorem dX1_rights_133 : decode cX1_rights 133 = .ok (.iload_n 2, 1) := dk_28 (dk_at dksX1_rights_5 18 rfl rfl)
theorem dX1_rights_134 : decode cX1_rights 134 = .ok (.iload_n 3, 1) := dk_29 (dk_at dksX1_rights_5 19 rfl rfl)
theorem dX1_rights_135 : decode cX1_rights 135 = .ok (.invokevirtual 278, 3) := dk_182 1 22 (dk_at dksX1_rights_5 20 rfl rfl)
theorem dX1_rights_138 : decode cX1_rights 138 = .ok (.istore 5, 2) := dk_54 5 (dk_at dksX1_rights_6 0 rfl rfl)
theorem dX1_rights_140 : decode cX1_rights 140 = .ok (.aload_n 0, 1) := dk_42 (dk_at dksX1_rights_6 2 rfl rfl)
theorem dX1_rights_141 : decode cX1_rights 141 = .ok (.getfield 33, 3) := dk_180 0 33 (dk_at dksX1_rights_6 3 rfl rfl)
theorem dX1_rights_144 : decode cX1_rights 144 = .ok (.iload_n 2, 1) := dk_28 (dk_at dksX1_rights_6 6 rfl rfl)
theorem dX1_rights_145 : decode cX1_rights 145 = .ok (.dup2, 1) := dk_92 (dk_at dksX1_rights_6 7 rfl rfl)
theorem dX1_rights_146 : decode cX1_rights 146 = .ok (.iaload, 1) := dk_46 (dk_at dksX1_rights_6 8 rfl rfl)
theorem dX1_rights_147 : decode cX1_rights 147 = .ok (.iload_n 3, 1) := dk_29 (dk_at dksX1_rights_6 9 rfl rfl)
theorem dX1_rights_148 : decode cX1_rights 148 = .ok (.isub, 1) := dk_100 (dk_at dksX1_rights_6 10 rfl rfl)
theorem dX1_rights_149 : decode cX1_rights 149 = .ok (.iastore, 1) := dk_79 (dk_at dksX1_rights_6 11 rfl rfl)
theorem dX1_rights_150 : decode cX1_rights 150 = .ok (.aload_n 0, 1) := dk_42 (dk_at dksX1_rights_6 12 rfl rfl)
theorem dX1_rights_151 : decode cX1_rights 151 = .ok (.getfield 76, 3) := dk_180 0 76 (dk_at dksX1_rights_6 13 rfl rfl)
theorem dX1_rights_154 : decode cX1_rights 154 = .ok (.iload_n 1, 1) := dk_27 (dk_at dksX1_rights_6 16 rfl rfl)
theorem dX1_rights_155 : decode cX1_rights 155 = .ok (.dup2, 1) := dk_92 (dk_at dksX1_rights_6 17 rfl rfl)
theorem dX1_rights_156 : decode cX1_rights 156 = .ok (.iaload, 1) := dk_46 (dk_at dksX1_rights_6 18 rfl rfl)
theorem dX1_rights_157 : decode cX1_rights 157 = .ok (.iload_n 3, 1) := dk_29 (dk_at dksX1_rights_6 19 rfl rfl)
theorem dX1_rights_158 : decode cX1_rights 158 = .ok (.isub, 1) := dk_100 (dk_at dksX1_rights_6 20 rfl rfl)
theorem dX1_rights_159 : decode cX1_rights 159 = .ok (.iastore, 1) := dk_79 (dk_at dksX1_rights_6 21 rfl rfl)
theorem dX1_rights_160 : decode cX1_rights 160 = .ok (.iinc 2 1, 3) := dk_132 2 1 (dk_at dksX1_rights_7 0 rfl rfl)
theorem dX1_rights_163 : decode cX1_rights 163 = .ok (.goto (-119), 3) := dk_167 255 137 (dk_at dksX1_rights_7 3 rfl rfl)
theorem dX1_rights_166 : decode cX1_rights 166 = .ok (.iinc 1 1, 3) := dk_132 1 1 (dk_at dksX1_rights_7 6 rfl rfl)
theorem dX1_rights_169 : decode cX1_rights 169 = .ok (.goto (-167), 3) := dk_167 255 89 (dk_at dksX1_rights_7 9 rfl rfl)
theorem dX1_rights_172 : decode cX1_rights 172 = .ok (.return_, 1) := dk_177 (dk_at dksX1_rights_7 12 rfl rfl)
abbrev cX1_doOrder : ByteArray := prog_4_method_31_code
def yX1_doOrder : MethodName := ⟨RX1, "doOrder", "(I)V"⟩
def dkwX1_doOrder_6 : List UInt8 := [180, 0, 24, 28, 46, 100, 79, 177]
abbrev dktX1_doOrder_6 : List UInt8 := dkwX1_doOrder_6 ++ []
def dkwX1_doOrder_5 : List UInt8 := [180, 0, 42, 28, 42, 180, 0, 142, 79, 42, 180, 0, 110, 6, 42, 180, 0, 107, 27, 46, 104, 92, 46, 42]
abbrev dktX1_doOrder_5 : List UInt8 := dkwX1_doOrder_5 ++ dktX1_doOrder_6
def dkwX1_doOrder_4 : List UInt8 := [42, 180, 0, 107, 27, 46, 79, 42, 180, 0, 30, 28, 16, 60, 79, 42, 180, 0, 27, 28, 4, 79, 42]
abbrev dktX1_doOrder_4 : List UInt8 := dkwX1_doOrder_4 ++ dktX1_doOrder_5
def dkwX1_doOrder_3 : List UInt8 := [28, 182, 1, 27, 100, 182, 1, 34, 167, 0, 70, 42, 28, 182, 0, 232, 153, 0, 62, 42, 180, 0, 18, 28]
abbrev dktX1_doOrder_3 : List UInt8 := dkwX1_doOrder_3 ++ dktX1_doOrder_4
def dkwX1_doOrder_2 : List UInt8 := [180, 0, 104, 27, 46, 4, 160, 0, 29, 42, 28, 42, 180, 0, 107, 27, 46, 182, 1, 30, 42, 28, 29, 42]
abbrev dktX1_doOrder_2 : List UInt8 := dkwX1_doOrder_2 ++ dktX1_doOrder_3
def dkwX1_doOrder_1 : List UInt8 := [3, 182, 1, 30, 42, 180, 0, 39, 28, 42, 180, 0, 142, 79, 42, 28, 29, 182, 1, 34, 167, 0, 106, 42]
abbrev dktX1_doOrder_1 : List UInt8 := dkwX1_doOrder_1 ++ dktX1_doOrder_2
def dkwX1_doOrder_0 : List UInt8 := [42, 180, 0, 101, 27, 46, 61, 42, 28, 182, 1, 27, 62, 42, 180, 0, 104, 27, 46, 154, 0, 28, 42, 28]
abbrev dktX1_doOrder_0 : List UInt8 := dkwX1_doOrder_0 ++ dktX1_doOrder_1
theorem dksX1_doOrder_0 : cX1_doOrder.data.toList.drop 0 = dktX1_doOrder_0 := by decide +kernel
theorem dksX1_doOrder_1 : cX1_doOrder.data.toList.drop 24 = dktX1_doOrder_1 := dk_seg dksX1_doOrder_0 24 rfl rfl
theorem dksX1_doOrder_2 : cX1_doOrder.data.toList.drop 48 = dktX1_doOrder_2 := dk_seg dksX1_doOrder_1 24 rfl rfl
theorem dksX1_doOrder_3 : cX1_doOrder.data.toList.drop 72 = dktX1_doOrder_3 := dk_seg dksX1_doOrder_2 24 rfl rfl
theorem dksX1_doOrder_4 : cX1_doOrder.data.toList.drop 96 = dktX1_doOrder_4 := dk_seg dksX1_doOrder_3 24 rfl rfl
theorem dksX1_doOrder_5 : cX1_doOrder.data.toList.drop 119 = dktX1_doOrder_5 := dk_seg dksX1_doOrder_4 23 rfl rfl
theorem dksX1_doOrder_6 : cX1_doOrder.data.toList.drop 143 = dktX1_doOrder_6 := dk_seg dksX1_doOrder_5 24 rfl rfl
theorem dX1_doOrder_0 : decode cX1_doOrder 0 = .ok (.aload_n 0, 1) := dk_42 (dk_at dksX1_doOrder_0 0 rfl rfl)
theorem dX1_doOrder_1 : decode cX1_doOrder 1 = .ok (.getfield 101, 3) := dk_180 0 101 (dk_at dksX1_doOrder_0 1 rfl rfl)
theorem dX1_doOrder_4 : decode cX1_doOrder 4 = .ok (.iload_n 1, 1) := dk_27 (dk_at dksX1_doOrder_0 4 rfl rfl)
theorem dX1_doOrder_5 : decode cX1_doOrder 5 = .ok (.iaload, 1) := dk_46 (dk_at dksX1_doOrder_0 5 rfl rfl)
theorem dX1_doOrder_6 : decode cX1_doOrder 6 = .ok (.istore_n 2, 1) := dk_61 (dk_at dksX1_doOrder_0 6 rfl rfl)
theorem dX1_doOrder_7 : decode cX1_doOrder 7 = .ok (.aload_n 0, 1) := dk_42 (dk_at dksX1_doOrder_0 7 rfl rfl)
theorem dX1_doOrder_8 : decode cX1_doOrder 8 = .ok (.iload_n 2, 1) := dk_28 (dk_at dksX1_doOrder_0 8 rfl rfl)
theorem dX1_doOrder_9 : decode cX1_doOrder 9 = .ok (.invokevirtual 283, 3) := dk_182 1 27 (dk_at dksX1_doOrder_0 9 rfl rfl)
theorem dX1_doOrder_12 : decode cX1_doOrder 12 = .ok (.istore_n 3, 1) := dk_62 (dk_at dksX1_doOrder_0 12 rfl rfl)
theorem dX1_doOrder_13 : decode cX1_doOrder 13 = .ok (.aload_n 0, 1) := dk_42 (dk_at dksX1_doOrder_0 13 rfl rfl)
theorem dX1_doOrder_14 : decode cX1_doOrder 14 = .ok (.getfield 104, 3) := dk_180 0 104 (dk_at dksX1_doOrder_0 14 rfl rfl)
theorem dX1_doOrder_17 : decode cX1_doOrder 17 = .ok (.iload_n 1, 1) := dk_27 (dk_at dksX1_doOrder_0 17 rfl rfl)
theorem dX1_doOrder_18 : decode cX1_doOrder 18 = .ok (.iaload, 1) := dk_46 (dk_at dksX1_doOrder_0 18 rfl rfl)
theorem dX1_doOrder_19 : decode cX1_doOrder 19 = .ok (.ifCond .ne 28, 3) := dk_154 0 28 (dk_at dksX1_doOrder_0 19 rfl rfl)
theorem dX1_doOrder_22 : decode cX1_doOrder 22 = .ok (.aload_n 0, 1) := dk_42 (dk_at dksX1_doOrder_0 22 rfl rfl)
theorem dX1_doOrder_23 : decode cX1_doOrder 23 = .ok (.iload_n 2, 1) := dk_28 (dk_at dksX1_doOrder_0 23 rfl rfl)
theorem dX1_doOrder_24 : decode cX1_doOrder 24 = .ok (.iconst 0, 1) := dk_3 (dk_at dksX1_doOrder_1 0 rfl rfl)
theorem dX1_doOrder_25 : decode cX1_doOrder 25 = .ok (.invokevirtual 286, 3) := dk_182 1 30 (dk_at dksX1_doOrder_1 1 rfl rfl)
theorem dX1_doOrder_28 : decode cX1_doOrder 28 = .ok (.aload_n 0, 1) := dk_42 (dk_at dksX1_doOrder_1 4 rfl rfl)
theorem dX1_doOrder_29 : decode cX1_doOrder 29 = .ok (.getfield 39, 3) := dk_180 0 39 (dk_at dksX1_doOrder_1 5 rfl rfl)
theorem dX1_doOrder_32 : decode cX1_doOrder 32 = .ok (.iload_n 2, 1) := dk_28 (dk_at dksX1_doOrder_1 8 rfl rfl)
theorem dX1_doOrder_33 : decode cX1_doOrder 33 = .ok (.aload_n 0, 1) := dk_42 (dk_at dksX1_doOrder_1 9 rfl rfl)
theorem dX1_doOrder_34 : decode cX1_doOrder 34 = .ok (.getfield 142, 3) := dk_180 0 142 (dk_at dksX1_doOrder_1 10 rfl rfl)
theorem dX1_doOrder_37 : decode cX1_doOrder 37 = .ok (.iastore, 1) := dk_79 (dk_at dksX1_doOrder_1 13 rfl rfl)
theorem dX1_doOrder_38 : decode cX1_doOrder 38 = .ok (.aload_n 0, 1) := dk_42 (dk_at dksX1_doOrder_1 14 rfl rfl)
theorem dX1_doOrder_39 : decode cX1_doOrder 39 = .ok (.iload_n 2, 1) := dk_28 (dk_at dksX1_doOrder_1 15 rfl rfl)
theorem dX1_doOrder_40 : decode cX1_doOrder 40 = .ok (.iload_n 3, 1) := dk_29 (dk_at dksX1_doOrder_1 16 rfl rfl)
theorem dX1_doOrder_41 : decode cX1_doOrder 41 = .ok (.invokevirtual 290, 3) := dk_182 1 34 (dk_at dksX1_doOrder_1 17 rfl rfl)
theorem dX1_doOrder_44 : decode cX1_doOrder 44 = .ok (.goto 106, 3) := dk_167 0 106 (dk_at dksX1_doOrder_1 20 rfl rfl)
theorem dX1_doOrder_47 : decode cX1_doOrder 47 = .ok (.aload_n 0, 1) := dk_42 (dk_at dksX1_doOrder_1 23 rfl rfl)
theorem dX1_doOrder_48 : decode cX1_doOrder 48 = .ok (.getfield 104, 3) := dk_180 0 104 (dk_at dksX1_doOrder_2 0 rfl rfl)
theorem dX1_doOrder_51 : decode cX1_doOrder 51 = .ok (.iload_n 1, 1) := dk_27 (dk_at dksX1_doOrder_2 3 rfl rfl)
theorem dX1_doOrder_52 : decode cX1_doOrder 52 = .ok (.iaload, 1) := dk_46 (dk_at dksX1_doOrder_2 4 rfl rfl)
theorem dX1_doOrder_53 : decode cX1_doOrder 53 = .ok (.iconst 1, 1) := dk_4 (dk_at dksX1_doOrder_2 5 rfl rfl)
theorem dX1_doOrder_54 : decode cX1_doOrder 54 = .ok (.if_icmp .ne 29, 3) := dk_160 0 29 (dk_at dksX1_doOrder_2 6 rfl rfl)
theorem dX1_doOrder_57 : decode cX1_doOrder 57 = .ok (.aload_n 0, 1) := dk_42 (dk_at dksX1_doOrder_2 9 rfl rfl)
theorem dX1_doOrder_58 : decode cX1_doOrder 58 = .ok (.iload_n 2, 1) := dk_28 (dk_at dksX1_doOrder_2 10 rfl rfl)
theorem dX1_doOrder_59 : decode cX1_doOrder 59 = .ok (.aload_n 0, 1) := dk_42 (dk_at dksX1_doOrder_2 11 rfl rfl)
theorem dX1_doOrder_60 : decode cX1_doOrder 60 = .ok (.getfield 107, 3) := dk_180 0 107 (dk_at dksX1_doOrder_2 12 rfl rfl)
theorem dX1_doOrder_63 : decode cX1_doOrder 63 = .ok (.iload_n 1, 1) := dk_27 (dk_at dksX1_doOrder_2 15 rfl rfl)
theorem dX1_doOrder_64 : decode cX1_doOrder 64 = .ok (.iaload, 1) := dk_46 (dk_at dksX1_doOrder_2 16 rfl rfl)
theorem dX1_doOrder_65 : decode cX1_doOrder 65 = .ok (.invokevirtual 286, 3) := dk_182 1 30 (dk_at dksX1_doOrder_2 17 rfl rfl)
theorem dX1_doOrder_68 : decode cX1_doOrder 68 = .ok (.aload_n 0, 1) := dk_42 (dk_at dksX1_doOrder_2 20 rfl rfl)
theorem dX1_doOrder_69 : decode cX1_doOrder 69 = .ok (.iload_n 2, 1) := dk_28 (dk_at dksX1_doOrder_2 21 rfl rfl)
theorem dX1_doOrder_70 : decode cX1_doOrder 70 = .ok (.iload_n 3, 1) := dk_29 (dk_at dksX1_doOrder_2 22 rfl rfl)
theorem dX1_doOrder_71 : decode cX1_doOrder 71 = .ok (.aload_n 0, 1) := dk_42 (dk_at dksX1_doOrder_2 23 rfl rfl)
theorem dX1_doOrder_72 : decode cX1_doOrder 72 = .ok (.iload_n 2, 1) := dk_28 (dk_at dksX1_doOrder_3 0 rfl rfl)
theorem dX1_doOrder_73 : decode cX1_doOrder 73 = .ok (.invokevirtual 283, 3) := dk_182 1 27 (dk_at dksX1_doOrder_3 1 rfl rfl)
theorem dX1_doOrder_76 : decode cX1_doOrder 76 = .ok (.isub, 1) := dk_100 (dk_at dksX1_doOrder_3 4 rfl rfl)
theorem dX1_doOrder_77 : decode cX1_doOrder 77 = .ok (.invokevirtual 290, 3) := dk_182 1 34 (dk_at dksX1_doOrder_3 5 rfl rfl)
theorem dX1_doOrder_80 : decode cX1_doOrder 80 = .ok (.goto 70, 3) := dk_167 0 70 (dk_at dksX1_doOrder_3 8 rfl rfl)
theorem dX1_doOrder_83 : decode cX1_doOrder 83 = .ok (.aload_n 0, 1) := dk_42 (dk_at dksX1_doOrder_3 11 rfl rfl)
theorem dX1_doOrder_84 : decode cX1_doOrder 84 = .ok (.iload_n 2, 1) := dk_28 (dk_at dksX1_doOrder_3 12 rfl rfl)
theorem dX1_doOrder_85 : decode cX1_doOrder 85 = .ok (.invokevirtual 232, 3) := dk_182 0 232 (dk_at dksX1_doOrder_3 13 rfl rfl)
theorem dX1_doOrder_88 : decode cX1_doOrder 88 = .ok (.ifCond .eq 62, 3) := dk_153 0 62 (dk_at dksX1_doOrder_3 16 rfl rfl)
theorem dX1_doOrder_91 : decode cX1_doOrder 91 = .ok (.aload_n 0, 1) := dk_42 (dk_at dksX1_doOrder_3 19 rfl rfl)
theorem dX1_doOrder_92 : decode cX1_doOrder 92 = .ok (.getfield 18, 3) := dk_180 0 18 (dk_at dksX1_doOrder_3 20 rfl rfl)
theorem dX1_doOrder_95 : decode cX1_doOrder 95 = .ok (.iload_n 2, 1) := dk_28 (dk_at dksX1_doOrder_3 23 rfl rfl)
theorem dX1_doOrder_96 : decode cX1_doOrder 96 = .ok (.aload_n 0, 1) := dk_42 (dk_at dksX1_doOrder_4 0 rfl rfl)
theorem dX1_doOrder_97 : decode cX1_doOrder 97 = .ok (.getfield 107, 3) := dk_180 0 107 (dk_at dksX1_doOrder_4 1 rfl rfl)
theorem dX1_doOrder_100 : decode cX1_doOrder 100 = .ok (.iload_n 1, 1) := dk_27 (dk_at dksX1_doOrder_4 4 rfl rfl)
theorem dX1_doOrder_101 : decode cX1_doOrder 101 = .ok (.iaload, 1) := dk_46 (dk_at dksX1_doOrder_4 5 rfl rfl)
theorem dX1_doOrder_102 : decode cX1_doOrder 102 = .ok (.iastore, 1) := dk_79 (dk_at dksX1_doOrder_4 6 rfl rfl)
theorem dX1_doOrder_103 : decode cX1_doOrder 103 = .ok (.aload_n 0, 1) := dk_42 (dk_at dksX1_doOrder_4 7 rfl rfl)
theorem dX1_doOrder_104 : decode cX1_doOrder 104 = .ok (.getfield 30, 3) := dk_180 0 30 (dk_at dksX1_doOrder_4 8 rfl rfl)
theorem dX1_doOrder_107 : decode cX1_doOrder 107 = .ok (.iload_n 2, 1) := dk_28 (dk_at dksX1_doOrder_4 11 rfl rfl)
theorem dX1_doOrder_108 : decode cX1_doOrder 108 = .ok (.bipush 60, 2) := dk_16 60 (dk_at dksX1_doOrder_4 12 rfl rfl)
theorem dX1_doOrder_110 : decode cX1_doOrder 110 = .ok (.iastore, 1) := dk_79 (dk_at dksX1_doOrder_4 14 rfl rfl)
theorem dX1_doOrder_111 : decode cX1_doOrder 111 = .ok (.aload_n 0, 1) := dk_42 (dk_at dksX1_doOrder_4 15 rfl rfl)
theorem dX1_doOrder_112 : decode cX1_doOrder 112 = .ok (.getfield 27, 3) := dk_180 0 27 (dk_at dksX1_doOrder_4 16 rfl rfl)
theorem dX1_doOrder_115 : decode cX1_doOrder 115 = .ok (.iload_n 2, 1) := dk_28 (dk_at dksX1_doOrder_4 19 rfl rfl)
theorem dX1_doOrder_116 : decode cX1_doOrder 116 = .ok (.iconst 1, 1) := dk_4 (dk_at dksX1_doOrder_4 20 rfl rfl)
theorem dX1_doOrder_117 : decode cX1_doOrder 117 = .ok (.iastore, 1) := dk_79 (dk_at dksX1_doOrder_4 21 rfl rfl)
theorem dX1_doOrder_118 : decode cX1_doOrder 118 = .ok (.aload_n 0, 1) := dk_42 (dk_at dksX1_doOrder_4 22 rfl rfl)
theorem dX1_doOrder_119 : decode cX1_doOrder 119 = .ok (.getfield 42, 3) := dk_180 0 42 (dk_at dksX1_doOrder_5 0 rfl rfl)
theorem dX1_doOrder_122 : decode cX1_doOrder 122 = .ok (.iload_n 2, 1) := dk_28 (dk_at dksX1_doOrder_5 3 rfl rfl)
theorem dX1_doOrder_123 : decode cX1_doOrder 123 = .ok (.aload_n 0, 1) := dk_42 (dk_at dksX1_doOrder_5 4 rfl rfl)
theorem dX1_doOrder_124 : decode cX1_doOrder 124 = .ok (.getfield 142, 3) := dk_180 0 142 (dk_at dksX1_doOrder_5 5 rfl rfl)
theorem dX1_doOrder_127 : decode cX1_doOrder 127 = .ok (.iastore, 1) := dk_79 (dk_at dksX1_doOrder_5 8 rfl rfl)
theorem dX1_doOrder_128 : decode cX1_doOrder 128 = .ok (.aload_n 0, 1) := dk_42 (dk_at dksX1_doOrder_5 9 rfl rfl)
theorem dX1_doOrder_129 : decode cX1_doOrder 129 = .ok (.getfield 110, 3) := dk_180 0 110 (dk_at dksX1_doOrder_5 10 rfl rfl)
theorem dX1_doOrder_132 : decode cX1_doOrder 132 = .ok (.iconst 3, 1) := dk_6 (dk_at dksX1_doOrder_5 13 rfl rfl)
theorem dX1_doOrder_133 : decode cX1_doOrder 133 = .ok (.aload_n 0, 1) := dk_42 (dk_at dksX1_doOrder_5 14 rfl rfl)
theorem dX1_doOrder_134 : decode cX1_doOrder 134 = .ok (.getfield 107, 3) := dk_180 0 107 (dk_at dksX1_doOrder_5 15 rfl rfl)
theorem dX1_doOrder_137 : decode cX1_doOrder 137 = .ok (.iload_n 1, 1) := dk_27 (dk_at dksX1_doOrder_5 18 rfl rfl)
theorem dX1_doOrder_138 : decode cX1_doOrder 138 = .ok (.iaload, 1) := dk_46 (dk_at dksX1_doOrder_5 19 rfl rfl)
theorem dX1_doOrder_139 : decode cX1_doOrder 139 = .ok (.imul, 1) := dk_104 (dk_at dksX1_doOrder_5 20 rfl rfl)
theorem dX1_doOrder_140 : decode cX1_doOrder 140 = .ok (.dup2, 1) := dk_92 (dk_at dksX1_doOrder_5 21 rfl rfl)
theorem dX1_doOrder_141 : decode cX1_doOrder 141 = .ok (.iaload, 1) := dk_46 (dk_at dksX1_doOrder_5 22 rfl rfl)
theorem dX1_doOrder_142 : decode cX1_doOrder 142 = .ok (.aload_n 0, 1) := dk_42 (dk_at dksX1_doOrder_5 23 rfl rfl)
theorem dX1_doOrder_143 : decode cX1_doOrder 143 = .ok (.getfield 24, 3) := dk_180 0 24 (dk_at dksX1_doOrder_6 0 rfl rfl)
theorem dX1_doOrder_146 : decode cX1_doOrder 146 = .ok (.iload_n 2, 1) := dk_28 (dk_at dksX1_doOrder_6 3 rfl rfl)
theorem dX1_doOrder_147 : decode cX1_doOrder 147 = .ok (.iaload, 1) := dk_46 (dk_at dksX1_doOrder_6 4 rfl rfl)
theorem dX1_doOrder_148 : decode cX1_doOrder 148 = .ok (.isub, 1) := dk_100 (dk_at dksX1_doOrder_6 5 rfl rfl)
theorem dX1_doOrder_149 : decode cX1_doOrder 149 = .ok (.iastore, 1) := dk_79 (dk_at dksX1_doOrder_6 6 rfl rfl)
theorem dX1_doOrder_150 : decode cX1_doOrder 150 = .ok (.return_, 1) := dk_177 (dk_at dksX1_doOrder_6 7 rfl rfl)
abbrev cX1_become : ByteArray := prog_4_method_10_code
def yX1_become : MethodName := ⟨RX1, "become", "(II)V"⟩
def dkwX1_become_1 : List UInt8 := [27, 46, 79, 177]
abbrev dktX1_become_1 : List UInt8 := dkwX1_become_1 ++ []
def dkwX1_become_0 : List UInt8 := [42, 180, 0, 30, 27, 28, 79, 42, 180, 0, 27, 27, 28, 154, 0, 7, 3, 167, 0, 9, 42, 180, 0, 27]
abbrev dktX1_become_0 : List UInt8 := dkwX1_become_0 ++ dktX1_become_1
theorem dksX1_become_0 : cX1_become.data.toList.drop 0 = dktX1_become_0 := by decide +kernel
theorem dksX1_become_1 : cX1_become.data.toList.drop 24 = dktX1_become_1 := dk_seg dksX1_become_0 24 rfl rfl
theorem dX1_become_0 : decode cX1_become 0 = .ok (.aload_n 0, 1) := dk_42 (dk_at dksX1_become_0 0 rfl rfl)
theorem dX1_become_1 : decode cX1_become 1 = .ok (.getfield 30, 3) := dk_180 0 30 (dk_at dksX1_become_0 1 rfl rfl)
theorem dX1_become_4 : decode cX1_become 4 = .ok (.iload_n 1, 1) := dk_27 (dk_at dksX1_become_0 4 rfl rfl)
theorem dX1_become_5 : decode cX1_become 5 = .ok (.iload_n 2, 1) := dk_28 (dk_at dksX1_become_0 5 rfl rfl)
theorem dX1_become_6 : decode cX1_become 6 = .ok (.iastore, 1) := dk_79 (dk_at dksX1_become_0 6 rfl rfl)
theorem dX1_become_7 : decode cX1_become 7 = .ok (.aload_n 0, 1) := dk_42 (dk_at dksX1_become_0 7 rfl rfl)
theorem dX1_become_8 : decode cX1_become 8 = .ok (.getfield 27, 3) := dk_180 0 27 (dk_at dksX1_become_0 8 rfl rfl)
theorem dX1_become_11 : decode cX1_become 11 = .ok (.iload_n 1, 1) := dk_27 (dk_at dksX1_become_0 11 rfl rfl)
theorem dX1_become_12 : decode cX1_become 12 = .ok (.iload_n 2, 1) := dk_28 (dk_at dksX1_become_0 12 rfl rfl)
theorem dX1_become_13 : decode cX1_become 13 = .ok (.ifCond .ne 7, 3) := dk_154 0 7 (dk_at dksX1_become_0 13 rfl rfl)
theorem dX1_become_16 : decode cX1_become 16 = .ok (.iconst 0, 1) := dk_3 (dk_at dksX1_become_0 16 rfl rfl)
theorem dX1_become_17 : decode cX1_become 17 = .ok (.goto 9, 3) := dk_167 0 9 (dk_at dksX1_become_0 17 rfl rfl)
theorem dX1_become_20 : decode cX1_become 20 = .ok (.aload_n 0, 1) := dk_42 (dk_at dksX1_become_0 20 rfl rfl)
theorem dX1_become_21 : decode cX1_become 21 = .ok (.getfield 27, 3) := dk_180 0 27 (dk_at dksX1_become_0 21 rfl rfl)
theorem dX1_become_24 : decode cX1_become 24 = .ok (.iload_n 1, 1) := dk_27 (dk_at dksX1_become_1 0 rfl rfl)
theorem dX1_become_25 : decode cX1_become 25 = .ok (.iaload, 1) := dk_46 (dk_at dksX1_become_1 1 rfl rfl)
theorem dX1_become_26 : decode cX1_become 26 = .ok (.iastore, 1) := dk_79 (dk_at dksX1_become_1 2 rfl rfl)
theorem dX1_become_27 : decode cX1_become 27 = .ok (.return_, 1) := dk_177 (dk_at dksX1_become_1 3 rfl rfl)
abbrev cX1_lead : ByteArray := prog_4_method_30_code
def yX1_lead : MethodName := ⟨RX1, "lead", "(II)V"⟩
def dkwX1_lead_2 : List UInt8 := [183, 1, 26, 27, 28, 182, 1, 22, 62, 177]
abbrev dktX1_lead_2 : List UInt8 := dkwX1_lead_2 ++ []
def dkwX1_lead_1 : List UInt8 := [180, 0, 85, 7, 92, 47, 28, 133, 97, 80, 167, 0, 21, 28, 158, 0, 17, 42, 187, 1, 0, 89]
abbrev dktX1_lead_1 : List UInt8 := dkwX1_lead_1 ++ dktX1_lead_2
def dkwX1_lead_0 : List UInt8 := [42, 180, 0, 85, 3, 92, 47, 28, 133, 97, 80, 28, 158, 0, 25, 42, 182, 1, 2, 2, 160, 0, 17, 42]
abbrev dktX1_lead_0 : List UInt8 := dkwX1_lead_0 ++ dktX1_lead_1
theorem dksX1_lead_0 : cX1_lead.data.toList.drop 0 = dktX1_lead_0 := by decide +kernel
theorem dksX1_lead_1 : cX1_lead.data.toList.drop 24 = dktX1_lead_1 := dk_seg dksX1_lead_0 24 rfl rfl
theorem dksX1_lead_2 : cX1_lead.data.toList.drop 46 = dktX1_lead_2 := dk_seg dksX1_lead_1 22 rfl rfl
theorem dX1_lead_0 : decode cX1_lead 0 = .ok (.aload_n 0, 1) := dk_42 (dk_at dksX1_lead_0 0 rfl rfl)
theorem dX1_lead_1 : decode cX1_lead 1 = .ok (.getfield 85, 3) := dk_180 0 85 (dk_at dksX1_lead_0 1 rfl rfl)
theorem dX1_lead_4 : decode cX1_lead 4 = .ok (.iconst 0, 1) := dk_3 (dk_at dksX1_lead_0 4 rfl rfl)
theorem dX1_lead_5 : decode cX1_lead 5 = .ok (.dup2, 1) := dk_92 (dk_at dksX1_lead_0 5 rfl rfl)
theorem dX1_lead_6 : decode cX1_lead 6 = .ok (.laload, 1) := dk_47 (dk_at dksX1_lead_0 6 rfl rfl)
theorem dX1_lead_7 : decode cX1_lead 7 = .ok (.iload_n 2, 1) := dk_28 (dk_at dksX1_lead_0 7 rfl rfl)
theorem dX1_lead_8 : decode cX1_lead 8 = .ok (.i2l, 1) := dk_133 (dk_at dksX1_lead_0 8 rfl rfl)
theorem dX1_lead_9 : decode cX1_lead 9 = .ok (.ladd, 1) := dk_97 (dk_at dksX1_lead_0 9 rfl rfl)
theorem dX1_lead_10 : decode cX1_lead 10 = .ok (.lastore, 1) := dk_80 (dk_at dksX1_lead_0 10 rfl rfl)
theorem dX1_lead_11 : decode cX1_lead 11 = .ok (.iload_n 2, 1) := dk_28 (dk_at dksX1_lead_0 11 rfl rfl)
theorem dX1_lead_12 : decode cX1_lead 12 = .ok (.ifCond .le 25, 3) := dk_158 0 25 (dk_at dksX1_lead_0 12 rfl rfl)
theorem dX1_lead_15 : decode cX1_lead 15 = .ok (.aload_n 0, 1) := dk_42 (dk_at dksX1_lead_0 15 rfl rfl)
theorem dX1_lead_16 : decode cX1_lead 16 = .ok (.invokevirtual 258, 3) := dk_182 1 2 (dk_at dksX1_lead_0 16 rfl rfl)
theorem dX1_lead_19 : decode cX1_lead 19 = .ok (.iconst (-1), 1) := dk_2 (dk_at dksX1_lead_0 19 rfl rfl)
theorem dX1_lead_20 : decode cX1_lead 20 = .ok (.if_icmp .ne 17, 3) := dk_160 0 17 (dk_at dksX1_lead_0 20 rfl rfl)
theorem dX1_lead_23 : decode cX1_lead 23 = .ok (.aload_n 0, 1) := dk_42 (dk_at dksX1_lead_0 23 rfl rfl)
theorem dX1_lead_24 : decode cX1_lead 24 = .ok (.getfield 85, 3) := dk_180 0 85 (dk_at dksX1_lead_1 0 rfl rfl)
theorem dX1_lead_27 : decode cX1_lead 27 = .ok (.iconst 4, 1) := dk_7 (dk_at dksX1_lead_1 3 rfl rfl)
theorem dX1_lead_28 : decode cX1_lead 28 = .ok (.dup2, 1) := dk_92 (dk_at dksX1_lead_1 4 rfl rfl)
theorem dX1_lead_29 : decode cX1_lead 29 = .ok (.laload, 1) := dk_47 (dk_at dksX1_lead_1 5 rfl rfl)
theorem dX1_lead_30 : decode cX1_lead 30 = .ok (.iload_n 2, 1) := dk_28 (dk_at dksX1_lead_1 6 rfl rfl)
theorem dX1_lead_31 : decode cX1_lead 31 = .ok (.i2l, 1) := dk_133 (dk_at dksX1_lead_1 7 rfl rfl)
theorem dX1_lead_32 : decode cX1_lead 32 = .ok (.ladd, 1) := dk_97 (dk_at dksX1_lead_1 8 rfl rfl)
theorem dX1_lead_33 : decode cX1_lead 33 = .ok (.lastore, 1) := dk_80 (dk_at dksX1_lead_1 9 rfl rfl)
theorem dX1_lead_34 : decode cX1_lead 34 = .ok (.goto 21, 3) := dk_167 0 21 (dk_at dksX1_lead_1 10 rfl rfl)
theorem dX1_lead_37 : decode cX1_lead 37 = .ok (.iload_n 2, 1) := dk_28 (dk_at dksX1_lead_1 13 rfl rfl)
theorem dX1_lead_38 : decode cX1_lead 38 = .ok (.ifCond .le 17, 3) := dk_158 0 17 (dk_at dksX1_lead_1 14 rfl rfl)
theorem dX1_lead_41 : decode cX1_lead 41 = .ok (.aload_n 0, 1) := dk_42 (dk_at dksX1_lead_1 17 rfl rfl)
theorem dX1_lead_42 : decode cX1_lead 42 = .ok (.new 256, 3) := dk_187 1 0 (dk_at dksX1_lead_1 18 rfl rfl)
theorem dX1_lead_45 : decode cX1_lead 45 = .ok (.dup, 1) := dk_89 (dk_at dksX1_lead_1 21 rfl rfl)
theorem dX1_lead_46 : decode cX1_lead 46 = .ok (.invokespecial 282, 3) := dk_183 1 26 (dk_at dksX1_lead_2 0 rfl rfl)
theorem dX1_lead_49 : decode cX1_lead 49 = .ok (.iload_n 1, 1) := dk_27 (dk_at dksX1_lead_2 3 rfl rfl)
theorem dX1_lead_50 : decode cX1_lead 50 = .ok (.iload_n 2, 1) := dk_28 (dk_at dksX1_lead_2 4 rfl rfl)
theorem dX1_lead_51 : decode cX1_lead 51 = .ok (.invokevirtual 278, 3) := dk_182 1 22 (dk_at dksX1_lead_2 5 rfl rfl)
theorem dX1_lead_54 : decode cX1_lead 54 = .ok (.istore_n 3, 1) := dk_62 (dk_at dksX1_lead_2 8 rfl rfl)
theorem dX1_lead_55 : decode cX1_lead 55 = .ok (.return_, 1) := dk_177 (dk_at dksX1_lead_2 9 rfl rfl)
abbrev cX1_blow : ByteArray := prog_4_method_32_code
def yX1_blow : MethodName := ⟨RX1, "blow", "()V"⟩
def dkwX1_blow_11 : List UInt8 := [180, 0, 85, 6, 92, 47, 21, 6, 42, 28, 182, 1, 27, 100, 133, 97, 80, 132, 2, 1, 167, 255, 60, 177]
abbrev dktX1_blow_11 : List UInt8 := dkwX1_blow_11 ++ []
def dkwX1_blow_10 : List UInt8 := [21, 5, 100, 182, 1, 30, 42, 180, 0, 33, 28, 92, 46, 21, 6, 42, 28, 182, 1, 27, 100, 96, 79, 42]
abbrev dktX1_blow_10 : List UInt8 := dkwX1_blow_10 ++ dktX1_blow_11
def dkwX1_blow_9 : List UInt8 := [16, 100, 108, 184, 0, 189, 54, 5, 42, 28, 182, 1, 27, 54, 6, 42, 28, 42, 180, 0, 30, 28, 46]
abbrev dktX1_blow_9 : List UInt8 := dkwX1_blow_9 ++ dktX1_blow_10
def dkwX1_blow_8 : List UInt8 := [100, 54, 4, 42, 180, 0, 30, 28, 46, 27, 21, 4, 104, 29, 153, 0, 7, 5, 167, 0, 4, 4, 104]
abbrev dktX1_blow_8 : List UInt8 := dkwX1_blow_8 ++ dktX1_blow_9
def dkwX1_blow_7 : List UInt8 := [167, 255, 209, 42, 180, 0, 18, 28, 46, 154, 0, 8, 16, 6, 167, 0, 11, 8, 42, 180, 0, 18, 28, 46]
abbrev dktX1_blow_7 : List UInt8 := dkwX1_blow_7 ++ dktX1_blow_8
def dkwX1_blow_6 : List UInt8 := [159, 0, 17, 42, 180, 0, 131, 21, 5, 51, 153, 0, 7, 4, 167, 0, 4, 3, 62, 132, 4, 1]
abbrev dktX1_blow_6 : List UInt8 := dkwX1_blow_6 ++ dktX1_blow_7
def dkwX1_blow_5 : List UInt8 := [42, 180, 0, 171, 162, 0, 44, 42, 21, 4, 28, 182, 0, 226, 54, 5, 29, 154, 0, 19, 21, 5, 2]
abbrev dktX1_blow_5 : List UInt8 := dkwX1_blow_5 ++ dktX1_blow_6
def dkwX1_blow_4 : List UInt8 := [154, 0, 180, 42, 180, 0, 27, 28, 46, 16, 40, 162, 0, 6, 167, 0, 166, 3, 62, 3, 54, 4, 21, 4]
abbrev dktX1_blow_4 : List UInt8 := dkwX1_blow_4 ++ dktX1_blow_5
def dkwX1_blow_3 : List UInt8 := [84, 132, 2, 1, 167, 255, 215, 3, 61, 28, 42, 180, 0, 168, 162, 0, 194, 42, 28, 182, 0, 232]
abbrev dktX1_blow_3 : List UInt8 := dkwX1_blow_3 ++ dktX1_blow_4
def dkwX1_blow_2 : List UInt8 := [42, 28, 182, 0, 232, 154, 0, 14, 42, 180, 0, 27, 28, 46, 16, 20, 162, 0, 7, 4, 167, 0, 4, 3]
abbrev dktX1_blow_2 : List UInt8 := dkwX1_blow_2 ++ dktX1_blow_3
def dkwX1_blow_1 : List UInt8 := [42, 180, 0, 142, 16, 100, 112, 46, 60, 3, 61, 28, 42, 180, 0, 168, 162, 0, 39, 42, 180, 0, 131, 28]
abbrev dktX1_blow_1 : List UInt8 := dkwX1_blow_1 ++ dktX1_blow_2
def dkwX1_blow_0 : List UInt8 := [42, 180, 0, 113, 42, 180, 0, 142, 16, 100, 112, 46, 2, 160, 0, 7, 3, 167, 0, 15, 42, 180, 0, 113]
abbrev dktX1_blow_0 : List UInt8 := dkwX1_blow_0 ++ dktX1_blow_1
theorem dksX1_blow_0 : cX1_blow.data.toList.drop 0 = dktX1_blow_0 := by decide +kernel
theorem dksX1_blow_1 : cX1_blow.data.toList.drop 24 = dktX1_blow_1 := dk_seg dksX1_blow_0 24 rfl rfl
theorem dksX1_blow_2 : cX1_blow.data.toList.drop 48 = dktX1_blow_2 := dk_seg dksX1_blow_1 24 rfl rfl
theorem dksX1_blow_3 : cX1_blow.data.toList.drop 72 = dktX1_blow_3 := dk_seg dksX1_blow_2 24 rfl rfl
theorem dksX1_blow_4 : cX1_blow.data.toList.drop 94 = dktX1_blow_4 := dk_seg dksX1_blow_3 22 rfl rfl
theorem dksX1_blow_5 : cX1_blow.data.toList.drop 118 = dktX1_blow_5 := dk_seg dksX1_blow_4 24 rfl rfl
theorem dksX1_blow_6 : cX1_blow.data.toList.drop 141 = dktX1_blow_6 := dk_seg dksX1_blow_5 23 rfl rfl
theorem dksX1_blow_7 : cX1_blow.data.toList.drop 163 = dktX1_blow_7 := dk_seg dksX1_blow_6 22 rfl rfl
theorem dksX1_blow_8 : cX1_blow.data.toList.drop 187 = dktX1_blow_8 := dk_seg dksX1_blow_7 24 rfl rfl
theorem dksX1_blow_9 : cX1_blow.data.toList.drop 210 = dktX1_blow_9 := dk_seg dksX1_blow_8 23 rfl rfl
theorem dksX1_blow_10 : cX1_blow.data.toList.drop 233 = dktX1_blow_10 := dk_seg dksX1_blow_9 23 rfl rfl
theorem dksX1_blow_11 : cX1_blow.data.toList.drop 257 = dktX1_blow_11 := dk_seg dksX1_blow_10 24 rfl rfl
theorem dX1_blow_0 : decode cX1_blow 0 = .ok (.aload_n 0, 1) := dk_42 (dk_at dksX1_blow_0 0 rfl rfl)
theorem dX1_blow_1 : decode cX1_blow 1 = .ok (.getfield 113, 3) := dk_180 0 113 (dk_at dksX1_blow_0 1 rfl rfl)
theorem dX1_blow_4 : decode cX1_blow 4 = .ok (.aload_n 0, 1) := dk_42 (dk_at dksX1_blow_0 4 rfl rfl)
theorem dX1_blow_5 : decode cX1_blow 5 = .ok (.getfield 142, 3) := dk_180 0 142 (dk_at dksX1_blow_0 5 rfl rfl)
theorem dX1_blow_8 : decode cX1_blow 8 = .ok (.bipush 100, 2) := dk_16 100 (dk_at dksX1_blow_0 8 rfl rfl)
theorem dX1_blow_10 : decode cX1_blow 10 = .ok (.irem, 1) := dk_112 (dk_at dksX1_blow_0 10 rfl rfl)
theorem dX1_blow_11 : decode cX1_blow 11 = .ok (.iaload, 1) := dk_46 (dk_at dksX1_blow_0 11 rfl rfl)
theorem dX1_blow_12 : decode cX1_blow 12 = .ok (.iconst (-1), 1) := dk_2 (dk_at dksX1_blow_0 12 rfl rfl)
theorem dX1_blow_13 : decode cX1_blow 13 = .ok (.if_icmp .ne 7, 3) := dk_160 0 7 (dk_at dksX1_blow_0 13 rfl rfl)
theorem dX1_blow_16 : decode cX1_blow 16 = .ok (.iconst 0, 1) := dk_3 (dk_at dksX1_blow_0 16 rfl rfl)
theorem dX1_blow_17 : decode cX1_blow 17 = .ok (.goto 15, 3) := dk_167 0 15 (dk_at dksX1_blow_0 17 rfl rfl)
theorem dX1_blow_20 : decode cX1_blow 20 = .ok (.aload_n 0, 1) := dk_42 (dk_at dksX1_blow_0 20 rfl rfl)
theorem dX1_blow_21 : decode cX1_blow 21 = .ok (.getfield 113, 3) := dk_180 0 113 (dk_at dksX1_blow_0 21 rfl rfl)
theorem dX1_blow_24 : decode cX1_blow 24 = .ok (.aload_n 0, 1) := dk_42 (dk_at dksX1_blow_1 0 rfl rfl)
theorem dX1_blow_25 : decode cX1_blow 25 = .ok (.getfield 142, 3) := dk_180 0 142 (dk_at dksX1_blow_1 1 rfl rfl)
theorem dX1_blow_28 : decode cX1_blow 28 = .ok (.bipush 100, 2) := dk_16 100 (dk_at dksX1_blow_1 4 rfl rfl)
theorem dX1_blow_30 : decode cX1_blow 30 = .ok (.irem, 1) := dk_112 (dk_at dksX1_blow_1 6 rfl rfl)
theorem dX1_blow_31 : decode cX1_blow 31 = .ok (.iaload, 1) := dk_46 (dk_at dksX1_blow_1 7 rfl rfl)
theorem dX1_blow_32 : decode cX1_blow 32 = .ok (.istore_n 1, 1) := dk_60 (dk_at dksX1_blow_1 8 rfl rfl)
theorem dX1_blow_33 : decode cX1_blow 33 = .ok (.iconst 0, 1) := dk_3 (dk_at dksX1_blow_1 9 rfl rfl)
theorem dX1_blow_34 : decode cX1_blow 34 = .ok (.istore_n 2, 1) := dk_61 (dk_at dksX1_blow_1 10 rfl rfl)
theorem dX1_blow_35 : decode cX1_blow 35 = .ok (.iload_n 2, 1) := dk_28 (dk_at dksX1_blow_1 11 rfl rfl)
theorem dX1_blow_36 : decode cX1_blow 36 = .ok (.aload_n 0, 1) := dk_42 (dk_at dksX1_blow_1 12 rfl rfl)
theorem dX1_blow_37 : decode cX1_blow 37 = .ok (.getfield 168, 3) := dk_180 0 168 (dk_at dksX1_blow_1 13 rfl rfl)
theorem dX1_blow_40 : decode cX1_blow 40 = .ok (.if_icmp .ge 39, 3) := dk_162 0 39 (dk_at dksX1_blow_1 16 rfl rfl)
theorem dX1_blow_43 : decode cX1_blow 43 = .ok (.aload_n 0, 1) := dk_42 (dk_at dksX1_blow_1 19 rfl rfl)
theorem dX1_blow_44 : decode cX1_blow 44 = .ok (.getfield 131, 3) := dk_180 0 131 (dk_at dksX1_blow_1 20 rfl rfl)
theorem dX1_blow_47 : decode cX1_blow 47 = .ok (.iload_n 2, 1) := dk_28 (dk_at dksX1_blow_1 23 rfl rfl)
theorem dX1_blow_48 : decode cX1_blow 48 = .ok (.aload_n 0, 1) := dk_42 (dk_at dksX1_blow_2 0 rfl rfl)
theorem dX1_blow_49 : decode cX1_blow 49 = .ok (.iload_n 2, 1) := dk_28 (dk_at dksX1_blow_2 1 rfl rfl)
theorem dX1_blow_50 : decode cX1_blow 50 = .ok (.invokevirtual 232, 3) := dk_182 0 232 (dk_at dksX1_blow_2 2 rfl rfl)
theorem dX1_blow_53 : decode cX1_blow 53 = .ok (.ifCond .ne 14, 3) := dk_154 0 14 (dk_at dksX1_blow_2 5 rfl rfl)
theorem dX1_blow_56 : decode cX1_blow 56 = .ok (.aload_n 0, 1) := dk_42 (dk_at dksX1_blow_2 8 rfl rfl)
theorem dX1_blow_57 : decode cX1_blow 57 = .ok (.getfield 27, 3) := dk_180 0 27 (dk_at dksX1_blow_2 9 rfl rfl)
theorem dX1_blow_60 : decode cX1_blow 60 = .ok (.iload_n 2, 1) := dk_28 (dk_at dksX1_blow_2 12 rfl rfl)
theorem dX1_blow_61 : decode cX1_blow 61 = .ok (.iaload, 1) := dk_46 (dk_at dksX1_blow_2 13 rfl rfl)
theorem dX1_blow_62 : decode cX1_blow 62 = .ok (.bipush 20, 2) := dk_16 20 (dk_at dksX1_blow_2 14 rfl rfl)
theorem dX1_blow_64 : decode cX1_blow 64 = .ok (.if_icmp .ge 7, 3) := dk_162 0 7 (dk_at dksX1_blow_2 16 rfl rfl)
theorem dX1_blow_67 : decode cX1_blow 67 = .ok (.iconst 1, 1) := dk_4 (dk_at dksX1_blow_2 19 rfl rfl)
theorem dX1_blow_68 : decode cX1_blow 68 = .ok (.goto 4, 3) := dk_167 0 4 (dk_at dksX1_blow_2 20 rfl rfl)
theorem dX1_blow_71 : decode cX1_blow 71 = .ok (.iconst 0, 1) := dk_3 (dk_at dksX1_blow_2 23 rfl rfl)
theorem dX1_blow_72 : decode cX1_blow 72 = .ok (.bastore, 1) := dk_84 (dk_at dksX1_blow_3 0 rfl rfl)
theorem dX1_blow_73 : decode cX1_blow 73 = .ok (.iinc 2 1, 3) := dk_132 2 1 (dk_at dksX1_blow_3 1 rfl rfl)
theorem dX1_blow_76 : decode cX1_blow 76 = .ok (.goto (-41), 3) := dk_167 255 215 (dk_at dksX1_blow_3 4 rfl rfl)
theorem dX1_blow_79 : decode cX1_blow 79 = .ok (.iconst 0, 1) := dk_3 (dk_at dksX1_blow_3 7 rfl rfl)
theorem dX1_blow_80 : decode cX1_blow 80 = .ok (.istore_n 2, 1) := dk_61 (dk_at dksX1_blow_3 8 rfl rfl)
theorem dX1_blow_81 : decode cX1_blow 81 = .ok (.iload_n 2, 1) := dk_28 (dk_at dksX1_blow_3 9 rfl rfl)
theorem dX1_blow_82 : decode cX1_blow 82 = .ok (.aload_n 0, 1) := dk_42 (dk_at dksX1_blow_3 10 rfl rfl)
theorem dX1_blow_83 : decode cX1_blow 83 = .ok (.getfield 168, 3) := dk_180 0 168 (dk_at dksX1_blow_3 11 rfl rfl)
theorem dX1_blow_86 : decode cX1_blow 86 = .ok (.if_icmp .ge 194, 3) := dk_162 0 194 (dk_at dksX1_blow_3 14 rfl rfl)
theorem dX1_blow_89 : decode cX1_blow 89 = .ok (.aload_n 0, 1) := dk_42 (dk_at dksX1_blow_3 17 rfl rfl)
theorem dX1_blow_90 : decode cX1_blow 90 = .ok (.iload_n 2, 1) := dk_28 (dk_at dksX1_blow_3 18 rfl rfl)
theorem dX1_blow_91 : decode cX1_blow 91 = .ok (.invokevirtual 232, 3) := dk_182 0 232 (dk_at dksX1_blow_3 19 rfl rfl)
theorem dX1_blow_94 : decode cX1_blow 94 = .ok (.ifCond .ne 180, 3) := dk_154 0 180 (dk_at dksX1_blow_4 0 rfl rfl)
theorem dX1_blow_97 : decode cX1_blow 97 = .ok (.aload_n 0, 1) := dk_42 (dk_at dksX1_blow_4 3 rfl rfl)
theorem dX1_blow_98 : decode cX1_blow 98 = .ok (.getfield 27, 3) := dk_180 0 27 (dk_at dksX1_blow_4 4 rfl rfl)
theorem dX1_blow_101 : decode cX1_blow 101 = .ok (.iload_n 2, 1) := dk_28 (dk_at dksX1_blow_4 7 rfl rfl)
theorem dX1_blow_102 : decode cX1_blow 102 = .ok (.iaload, 1) := dk_46 (dk_at dksX1_blow_4 8 rfl rfl)
theorem dX1_blow_103 : decode cX1_blow 103 = .ok (.bipush 40, 2) := dk_16 40 (dk_at dksX1_blow_4 9 rfl rfl)
theorem dX1_blow_105 : decode cX1_blow 105 = .ok (.if_icmp .ge 6, 3) := dk_162 0 6 (dk_at dksX1_blow_4 11 rfl rfl)
theorem dX1_blow_108 : decode cX1_blow 108 = .ok (.goto 166, 3) := dk_167 0 166 (dk_at dksX1_blow_4 14 rfl rfl)
theorem dX1_blow_111 : decode cX1_blow 111 = .ok (.iconst 0, 1) := dk_3 (dk_at dksX1_blow_4 17 rfl rfl)
theorem dX1_blow_112 : decode cX1_blow 112 = .ok (.istore_n 3, 1) := dk_62 (dk_at dksX1_blow_4 18 rfl rfl)
theorem dX1_blow_113 : decode cX1_blow 113 = .ok (.iconst 0, 1) := dk_3 (dk_at dksX1_blow_4 19 rfl rfl)
theorem dX1_blow_114 : decode cX1_blow 114 = .ok (.istore 4, 2) := dk_54 4 (dk_at dksX1_blow_4 20 rfl rfl)
theorem dX1_blow_116 : decode cX1_blow 116 = .ok (.iload 4, 2) := dk_21 4 (dk_at dksX1_blow_4 22 rfl rfl)
theorem dX1_blow_118 : decode cX1_blow 118 = .ok (.aload_n 0, 1) := dk_42 (dk_at dksX1_blow_5 0 rfl rfl)
theorem dX1_blow_119 : decode cX1_blow 119 = .ok (.getfield 171, 3) := dk_180 0 171 (dk_at dksX1_blow_5 1 rfl rfl)
theorem dX1_blow_122 : decode cX1_blow 122 = .ok (.if_icmp .ge 44, 3) := dk_162 0 44 (dk_at dksX1_blow_5 4 rfl rfl)
theorem dX1_blow_125 : decode cX1_blow 125 = .ok (.aload_n 0, 1) := dk_42 (dk_at dksX1_blow_5 7 rfl rfl)
theorem dX1_blow_126 : decode cX1_blow 126 = .ok (.iload 4, 2) := dk_21 4 (dk_at dksX1_blow_5 8 rfl rfl)
theorem dX1_blow_128 : decode cX1_blow 128 = .ok (.iload_n 2, 1) := dk_28 (dk_at dksX1_blow_5 10 rfl rfl)
theorem dX1_blow_129 : decode cX1_blow 129 = .ok (.invokevirtual 226, 3) := dk_182 0 226 (dk_at dksX1_blow_5 11 rfl rfl)
theorem dX1_blow_132 : decode cX1_blow 132 = .ok (.istore 5, 2) := dk_54 5 (dk_at dksX1_blow_5 14 rfl rfl)
theorem dX1_blow_134 : decode cX1_blow 134 = .ok (.iload_n 3, 1) := dk_29 (dk_at dksX1_blow_5 16 rfl rfl)
theorem dX1_blow_135 : decode cX1_blow 135 = .ok (.ifCond .ne 19, 3) := dk_154 0 19 (dk_at dksX1_blow_5 17 rfl rfl)
theorem dX1_blow_138 : decode cX1_blow 138 = .ok (.iload 5, 2) := dk_21 5 (dk_at dksX1_blow_5 20 rfl rfl)
theorem dX1_blow_140 : decode cX1_blow 140 = .ok (.iconst (-1), 1) := dk_2 (dk_at dksX1_blow_5 22 rfl rfl)
theorem dX1_blow_141 : decode cX1_blow 141 = .ok (.if_icmp .eq 17, 3) := dk_159 0 17 (dk_at dksX1_blow_6 0 rfl rfl)
theorem dX1_blow_144 : decode cX1_blow 144 = .ok (.aload_n 0, 1) := dk_42 (dk_at dksX1_blow_6 3 rfl rfl)
theorem dX1_blow_145 : decode cX1_blow 145 = .ok (.getfield 131, 3) := dk_180 0 131 (dk_at dksX1_blow_6 4 rfl rfl)
theorem dX1_blow_148 : decode cX1_blow 148 = .ok (.iload 5, 2) := dk_21 5 (dk_at dksX1_blow_6 7 rfl rfl)
theorem dX1_blow_150 : decode cX1_blow 150 = .ok (.baload, 1) := dk_51 (dk_at dksX1_blow_6 9 rfl rfl)
theorem dX1_blow_151 : decode cX1_blow 151 = .ok (.ifCond .eq 7, 3) := dk_153 0 7 (dk_at dksX1_blow_6 10 rfl rfl)
theorem dX1_blow_154 : decode cX1_blow 154 = .ok (.iconst 1, 1) := dk_4 (dk_at dksX1_blow_6 13 rfl rfl)
theorem dX1_blow_155 : decode cX1_blow 155 = .ok (.goto 4, 3) := dk_167 0 4 (dk_at dksX1_blow_6 14 rfl rfl)
theorem dX1_blow_158 : decode cX1_blow 158 = .ok (.iconst 0, 1) := dk_3 (dk_at dksX1_blow_6 17 rfl rfl)
theorem dX1_blow_159 : decode cX1_blow 159 = .ok (.istore_n 3, 1) := dk_62 (dk_at dksX1_blow_6 18 rfl rfl)
theorem dX1_blow_160 : decode cX1_blow 160 = .ok (.iinc 4 1, 3) := dk_132 4 1 (dk_at dksX1_blow_6 19 rfl rfl)
theorem dX1_blow_163 : decode cX1_blow 163 = .ok (.goto (-47), 3) := dk_167 255 209 (dk_at dksX1_blow_7 0 rfl rfl)
theorem dX1_blow_166 : decode cX1_blow 166 = .ok (.aload_n 0, 1) := dk_42 (dk_at dksX1_blow_7 3 rfl rfl)
theorem dX1_blow_167 : decode cX1_blow 167 = .ok (.getfield 18, 3) := dk_180 0 18 (dk_at dksX1_blow_7 4 rfl rfl)
theorem dX1_blow_170 : decode cX1_blow 170 = .ok (.iload_n 2, 1) := dk_28 (dk_at dksX1_blow_7 7 rfl rfl)
theorem dX1_blow_171 : decode cX1_blow 171 = .ok (.iaload, 1) := dk_46 (dk_at dksX1_blow_7 8 rfl rfl)
theorem dX1_blow_172 : decode cX1_blow 172 = .ok (.ifCond .ne 8, 3) := dk_154 0 8 (dk_at dksX1_blow_7 9 rfl rfl)
theorem dX1_blow_175 : decode cX1_blow 175 = .ok (.bipush 6, 2) := dk_16 6 (dk_at dksX1_blow_7 12 rfl rfl)
theorem dX1_blow_177 : decode cX1_blow 177 = .ok (.goto 11, 3) := dk_167 0 11 (dk_at dksX1_blow_7 14 rfl rfl)
theorem dX1_blow_180 : decode cX1_blow 180 = .ok (.iconst 5, 1) := dk_8 (dk_at dksX1_blow_7 17 rfl rfl)
theorem dX1_blow_181 : decode cX1_blow 181 = .ok (.aload_n 0, 1) := dk_42 (dk_at dksX1_blow_7 18 rfl rfl)
theorem dX1_blow_182 : decode cX1_blow 182 = .ok (.getfield 18, 3) := dk_180 0 18 (dk_at dksX1_blow_7 19 rfl rfl)
theorem dX1_blow_185 : decode cX1_blow 185 = .ok (.iload_n 2, 1) := dk_28 (dk_at dksX1_blow_7 22 rfl rfl)
theorem dX1_blow_186 : decode cX1_blow 186 = .ok (.iaload, 1) := dk_46 (dk_at dksX1_blow_7 23 rfl rfl)
theorem dX1_blow_187 : decode cX1_blow 187 = .ok (.isub, 1) := dk_100 (dk_at dksX1_blow_8 0 rfl rfl)
theorem dX1_blow_188 : decode cX1_blow 188 = .ok (.istore 4, 2) := dk_54 4 (dk_at dksX1_blow_8 1 rfl rfl)
theorem dX1_blow_190 : decode cX1_blow 190 = .ok (.aload_n 0, 1) := dk_42 (dk_at dksX1_blow_8 3 rfl rfl)
theorem dX1_blow_191 : decode cX1_blow 191 = .ok (.getfield 30, 3) := dk_180 0 30 (dk_at dksX1_blow_8 4 rfl rfl)
theorem dX1_blow_194 : decode cX1_blow 194 = .ok (.iload_n 2, 1) := dk_28 (dk_at dksX1_blow_8 7 rfl rfl)
theorem dX1_blow_195 : decode cX1_blow 195 = .ok (.iaload, 1) := dk_46 (dk_at dksX1_blow_8 8 rfl rfl)
theorem dX1_blow_196 : decode cX1_blow 196 = .ok (.iload_n 1, 1) := dk_27 (dk_at dksX1_blow_8 9 rfl rfl)
theorem dX1_blow_197 : decode cX1_blow 197 = .ok (.iload 4, 2) := dk_21 4 (dk_at dksX1_blow_8 10 rfl rfl)
theorem dX1_blow_199 : decode cX1_blow 199 = .ok (.imul, 1) := dk_104 (dk_at dksX1_blow_8 12 rfl rfl)
theorem dX1_blow_200 : decode cX1_blow 200 = .ok (.iload_n 3, 1) := dk_29 (dk_at dksX1_blow_8 13 rfl rfl)
theorem dX1_blow_201 : decode cX1_blow 201 = .ok (.ifCond .eq 7, 3) := dk_153 0 7 (dk_at dksX1_blow_8 14 rfl rfl)
theorem dX1_blow_204 : decode cX1_blow 204 = .ok (.iconst 2, 1) := dk_5 (dk_at dksX1_blow_8 17 rfl rfl)
theorem dX1_blow_205 : decode cX1_blow 205 = .ok (.goto 4, 3) := dk_167 0 4 (dk_at dksX1_blow_8 18 rfl rfl)
theorem dX1_blow_208 : decode cX1_blow 208 = .ok (.iconst 1, 1) := dk_4 (dk_at dksX1_blow_8 21 rfl rfl)
theorem dX1_blow_209 : decode cX1_blow 209 = .ok (.imul, 1) := dk_104 (dk_at dksX1_blow_8 22 rfl rfl)
theorem dX1_blow_210 : decode cX1_blow 210 = .ok (.bipush 100, 2) := dk_16 100 (dk_at dksX1_blow_9 0 rfl rfl)
theorem dX1_blow_212 : decode cX1_blow 212 = .ok (.idiv, 1) := dk_108 (dk_at dksX1_blow_9 2 rfl rfl)
theorem dX1_blow_213 : decode cX1_blow 213 = .ok (.invokestatic 189, 3) := dk_184 0 189 (dk_at dksX1_blow_9 3 rfl rfl)
theorem dX1_blow_216 : decode cX1_blow 216 = .ok (.istore 5, 2) := dk_54 5 (dk_at dksX1_blow_9 6 rfl rfl)
theorem dX1_blow_218 : decode cX1_blow 218 = .ok (.aload_n 0, 1) := dk_42 (dk_at dksX1_blow_9 8 rfl rfl)
theorem dX1_blow_219 : decode cX1_blow 219 = .ok (.iload_n 2, 1) := dk_28 (dk_at dksX1_blow_9 9 rfl rfl)
theorem dX1_blow_220 : decode cX1_blow 220 = .ok (.invokevirtual 283, 3) := dk_182 1 27 (dk_at dksX1_blow_9 10 rfl rfl)
theorem dX1_blow_223 : decode cX1_blow 223 = .ok (.istore 6, 2) := dk_54 6 (dk_at dksX1_blow_9 13 rfl rfl)
theorem dX1_blow_225 : decode cX1_blow 225 = .ok (.aload_n 0, 1) := dk_42 (dk_at dksX1_blow_9 15 rfl rfl)
theorem dX1_blow_226 : decode cX1_blow 226 = .ok (.iload_n 2, 1) := dk_28 (dk_at dksX1_blow_9 16 rfl rfl)
theorem dX1_blow_227 : decode cX1_blow 227 = .ok (.aload_n 0, 1) := dk_42 (dk_at dksX1_blow_9 17 rfl rfl)
theorem dX1_blow_228 : decode cX1_blow 228 = .ok (.getfield 30, 3) := dk_180 0 30 (dk_at dksX1_blow_9 18 rfl rfl)
theorem dX1_blow_231 : decode cX1_blow 231 = .ok (.iload_n 2, 1) := dk_28 (dk_at dksX1_blow_9 21 rfl rfl)
theorem dX1_blow_232 : decode cX1_blow 232 = .ok (.iaload, 1) := dk_46 (dk_at dksX1_blow_9 22 rfl rfl)
theorem dX1_blow_233 : decode cX1_blow 233 = .ok (.iload 5, 2) := dk_21 5 (dk_at dksX1_blow_10 0 rfl rfl)
theorem dX1_blow_235 : decode cX1_blow 235 = .ok (.isub, 1) := dk_100 (dk_at dksX1_blow_10 2 rfl rfl)
theorem dX1_blow_236 : decode cX1_blow 236 = .ok (.invokevirtual 286, 3) := dk_182 1 30 (dk_at dksX1_blow_10 3 rfl rfl)
theorem dX1_blow_239 : decode cX1_blow 239 = .ok (.aload_n 0, 1) := dk_42 (dk_at dksX1_blow_10 6 rfl rfl)
theorem dX1_blow_240 : decode cX1_blow 240 = .ok (.getfield 33, 3) := dk_180 0 33 (dk_at dksX1_blow_10 7 rfl rfl)
theorem dX1_blow_243 : decode cX1_blow 243 = .ok (.iload_n 2, 1) := dk_28 (dk_at dksX1_blow_10 10 rfl rfl)
theorem dX1_blow_244 : decode cX1_blow 244 = .ok (.dup2, 1) := dk_92 (dk_at dksX1_blow_10 11 rfl rfl)
theorem dX1_blow_245 : decode cX1_blow 245 = .ok (.iaload, 1) := dk_46 (dk_at dksX1_blow_10 12 rfl rfl)
theorem dX1_blow_246 : decode cX1_blow 246 = .ok (.iload 6, 2) := dk_21 6 (dk_at dksX1_blow_10 13 rfl rfl)
theorem dX1_blow_248 : decode cX1_blow 248 = .ok (.aload_n 0, 1) := dk_42 (dk_at dksX1_blow_10 15 rfl rfl)
theorem dX1_blow_249 : decode cX1_blow 249 = .ok (.iload_n 2, 1) := dk_28 (dk_at dksX1_blow_10 16 rfl rfl)
theorem dX1_blow_250 : decode cX1_blow 250 = .ok (.invokevirtual 283, 3) := dk_182 1 27 (dk_at dksX1_blow_10 17 rfl rfl)
theorem dX1_blow_253 : decode cX1_blow 253 = .ok (.isub, 1) := dk_100 (dk_at dksX1_blow_10 20 rfl rfl)
theorem dX1_blow_254 : decode cX1_blow 254 = .ok (.iadd, 1) := dk_96 (dk_at dksX1_blow_10 21 rfl rfl)
theorem dX1_blow_255 : decode cX1_blow 255 = .ok (.iastore, 1) := dk_79 (dk_at dksX1_blow_10 22 rfl rfl)
theorem dX1_blow_256 : decode cX1_blow 256 = .ok (.aload_n 0, 1) := dk_42 (dk_at dksX1_blow_10 23 rfl rfl)
theorem dX1_blow_257 : decode cX1_blow 257 = .ok (.getfield 85, 3) := dk_180 0 85 (dk_at dksX1_blow_11 0 rfl rfl)
theorem dX1_blow_260 : decode cX1_blow 260 = .ok (.iconst 3, 1) := dk_6 (dk_at dksX1_blow_11 3 rfl rfl)
theorem dX1_blow_261 : decode cX1_blow 261 = .ok (.dup2, 1) := dk_92 (dk_at dksX1_blow_11 4 rfl rfl)
theorem dX1_blow_262 : decode cX1_blow 262 = .ok (.laload, 1) := dk_47 (dk_at dksX1_blow_11 5 rfl rfl)
theorem dX1_blow_263 : decode cX1_blow 263 = .ok (.iload 6, 2) := dk_21 6 (dk_at dksX1_blow_11 6 rfl rfl)
theorem dX1_blow_265 : decode cX1_blow 265 = .ok (.aload_n 0, 1) := dk_42 (dk_at dksX1_blow_11 8 rfl rfl)
theorem dX1_blow_266 : decode cX1_blow 266 = .ok (.iload_n 2, 1) := dk_28 (dk_at dksX1_blow_11 9 rfl rfl)
theorem dX1_blow_267 : decode cX1_blow 267 = .ok (.invokevirtual 283, 3) := dk_182 1 27 (dk_at dksX1_blow_11 10 rfl rfl)
theorem dX1_blow_270 : decode cX1_blow 270 = .ok (.isub, 1) := dk_100 (dk_at dksX1_blow_11 13 rfl rfl)
theorem dX1_blow_271 : decode cX1_blow 271 = .ok (.i2l, 1) := dk_133 (dk_at dksX1_blow_11 14 rfl rfl)
theorem dX1_blow_272 : decode cX1_blow 272 = .ok (.ladd, 1) := dk_97 (dk_at dksX1_blow_11 15 rfl rfl)
theorem dX1_blow_273 : decode cX1_blow 273 = .ok (.lastore, 1) := dk_80 (dk_at dksX1_blow_11 16 rfl rfl)
theorem dX1_blow_274 : decode cX1_blow 274 = .ok (.iinc 2 1, 3) := dk_132 2 1 (dk_at dksX1_blow_11 17 rfl rfl)
theorem dX1_blow_277 : decode cX1_blow 277 = .ok (.goto (-196), 3) := dk_167 255 60 (dk_at dksX1_blow_11 20 rfl rfl)
theorem dX1_blow_280 : decode cX1_blow 280 = .ok (.return_, 1) := dk_177 (dk_at dksX1_blow_11 23 rfl rfl)
abbrev cX1_eat : ByteArray := prog_4_method_33_code
def yX1_eat : MethodName := ⟨RX1, "eat", "()V"⟩
def dkwX1_eat_8 : List UInt8 := [180, 0, 85, 8, 92, 47, 29, 42, 27, 182, 1, 27, 100, 133, 97, 80, 132, 1, 1, 167, 255, 82, 177]
abbrev dktX1_eat_8 : List UInt8 := dkwX1_eat_8 ++ []
def dkwX1_eat_7 : List UInt8 := [180, 0, 30, 27, 46, 42, 180, 0, 36, 27, 46, 16, 100, 108, 100, 184, 0, 220, 182, 1, 30, 42]
abbrev dktX1_eat_7 : List UInt8 := dkwX1_eat_7 ++ dktX1_eat_8
def dkwX1_eat_6 : List UInt8 := [46, 104, 108, 96, 28, 16, 8, 108, 96, 184, 0, 189, 79, 42, 27, 182, 1, 27, 62, 42, 27, 3, 42]
abbrev dktX1_eat_6 : List UInt8 := dkwX1_eat_6 ++ dktX1_eat_7
def dkwX1_eat_5 : List UInt8 := [17, 3, 232, 42, 180, 0, 135, 27, 46, 5, 108, 42, 180, 0, 33, 27, 46, 16, 10, 42, 180, 0, 24, 27]
abbrev dktX1_eat_5 : List UInt8 := dkwX1_eat_5 ++ dktX1_eat_6
def dkwX1_eat_4 : List UInt8 := [3, 167, 0, 10, 42, 180, 0, 135, 21, 4, 46, 96, 61, 132, 3, 1, 167, 255, 217, 42, 180, 0, 36, 27]
abbrev dktX1_eat_4 : List UInt8 := dkwX1_eat_4 ++ dktX1_eat_5
def dkwX1_eat_3 : List UInt8 := [62, 29, 42, 180, 0, 171, 162, 0, 37, 42, 29, 27, 182, 0, 226, 54, 4, 28, 21, 4, 2, 160, 0, 7]
abbrev dktX1_eat_3 : List UInt8 := dkwX1_eat_3 ++ dktX1_eat_4
def dkwX1_eat_2 : List UInt8 := [154, 0, 11, 42, 27, 182, 0, 232, 153, 0, 13, 42, 180, 0, 36, 27, 3, 79, 167, 0, 139, 3, 61, 3]
abbrev dktX1_eat_2 : List UInt8 := dkwX1_eat_2 ++ dktX1_eat_3
def dkwX1_eat_1 : List UInt8 := [132, 1, 1, 167, 255, 233, 3, 60, 27, 42, 180, 0, 168, 162, 0, 172, 42, 180, 0, 18, 27, 46]
abbrev dktX1_eat_1 : List UInt8 := dkwX1_eat_1 ++ dktX1_eat_2
def dkwX1_eat_0 : List UInt8 := [3, 60, 27, 42, 180, 0, 168, 162, 0, 21, 42, 180, 0, 135, 27, 42, 180, 0, 36, 27, 46, 79]
abbrev dktX1_eat_0 : List UInt8 := dkwX1_eat_0 ++ dktX1_eat_1
theorem dksX1_eat_0 : cX1_eat.data.toList.drop 0 = dktX1_eat_0 := by decide +kernel
theorem dksX1_eat_1 : cX1_eat.data.toList.drop 22 = dktX1_eat_1 := dk_seg dksX1_eat_0 22 rfl rfl
theorem dksX1_eat_2 : cX1_eat.data.toList.drop 44 = dktX1_eat_2 := dk_seg dksX1_eat_1 22 rfl rfl
theorem dksX1_eat_3 : cX1_eat.data.toList.drop 68 = dktX1_eat_3 := dk_seg dksX1_eat_2 24 rfl rfl
theorem dksX1_eat_4 : cX1_eat.data.toList.drop 92 = dktX1_eat_4 := dk_seg dksX1_eat_3 24 rfl rfl
theorem dksX1_eat_5 : cX1_eat.data.toList.drop 116 = dktX1_eat_5 := dk_seg dksX1_eat_4 24 rfl rfl
theorem dksX1_eat_6 : cX1_eat.data.toList.drop 140 = dktX1_eat_6 := dk_seg dksX1_eat_5 24 rfl rfl
theorem dksX1_eat_7 : cX1_eat.data.toList.drop 163 = dktX1_eat_7 := dk_seg dksX1_eat_6 23 rfl rfl
theorem dksX1_eat_8 : cX1_eat.data.toList.drop 185 = dktX1_eat_8 := dk_seg dksX1_eat_7 22 rfl rfl
theorem dX1_eat_0 : decode cX1_eat 0 = .ok (.iconst 0, 1) := dk_3 (dk_at dksX1_eat_0 0 rfl rfl)
theorem dX1_eat_1 : decode cX1_eat 1 = .ok (.istore_n 1, 1) := dk_60 (dk_at dksX1_eat_0 1 rfl rfl)
theorem dX1_eat_2 : decode cX1_eat 2 = .ok (.iload_n 1, 1) := dk_27 (dk_at dksX1_eat_0 2 rfl rfl)
theorem dX1_eat_3 : decode cX1_eat 3 = .ok (.aload_n 0, 1) := dk_42 (dk_at dksX1_eat_0 3 rfl rfl)
theorem dX1_eat_4 : decode cX1_eat 4 = .ok (.getfield 168, 3) := dk_180 0 168 (dk_at dksX1_eat_0 4 rfl rfl)
theorem dX1_eat_7 : decode cX1_eat 7 = .ok (.if_icmp .ge 21, 3) := dk_162 0 21 (dk_at dksX1_eat_0 7 rfl rfl)
theorem dX1_eat_10 : decode cX1_eat 10 = .ok (.aload_n 0, 1) := dk_42 (dk_at dksX1_eat_0 10 rfl rfl)
theorem dX1_eat_11 : decode cX1_eat 11 = .ok (.getfield 135, 3) := dk_180 0 135 (dk_at dksX1_eat_0 11 rfl rfl)
theorem dX1_eat_14 : decode cX1_eat 14 = .ok (.iload_n 1, 1) := dk_27 (dk_at dksX1_eat_0 14 rfl rfl)
theorem dX1_eat_15 : decode cX1_eat 15 = .ok (.aload_n 0, 1) := dk_42 (dk_at dksX1_eat_0 15 rfl rfl)
theorem dX1_eat_16 : decode cX1_eat 16 = .ok (.getfield 36, 3) := dk_180 0 36 (dk_at dksX1_eat_0 16 rfl rfl)
theorem dX1_eat_19 : decode cX1_eat 19 = .ok (.iload_n 1, 1) := dk_27 (dk_at dksX1_eat_0 19 rfl rfl)
theorem dX1_eat_20 : decode cX1_eat 20 = .ok (.iaload, 1) := dk_46 (dk_at dksX1_eat_0 20 rfl rfl)
theorem dX1_eat_21 : decode cX1_eat 21 = .ok (.iastore, 1) := dk_79 (dk_at dksX1_eat_0 21 rfl rfl)
theorem dX1_eat_22 : decode cX1_eat 22 = .ok (.iinc 1 1, 3) := dk_132 1 1 (dk_at dksX1_eat_1 0 rfl rfl)
theorem dX1_eat_25 : decode cX1_eat 25 = .ok (.goto (-23), 3) := dk_167 255 233 (dk_at dksX1_eat_1 3 rfl rfl)
theorem dX1_eat_28 : decode cX1_eat 28 = .ok (.iconst 0, 1) := dk_3 (dk_at dksX1_eat_1 6 rfl rfl)
theorem dX1_eat_29 : decode cX1_eat 29 = .ok (.istore_n 1, 1) := dk_60 (dk_at dksX1_eat_1 7 rfl rfl)
theorem dX1_eat_30 : decode cX1_eat 30 = .ok (.iload_n 1, 1) := dk_27 (dk_at dksX1_eat_1 8 rfl rfl)
theorem dX1_eat_31 : decode cX1_eat 31 = .ok (.aload_n 0, 1) := dk_42 (dk_at dksX1_eat_1 9 rfl rfl)
theorem dX1_eat_32 : decode cX1_eat 32 = .ok (.getfield 168, 3) := dk_180 0 168 (dk_at dksX1_eat_1 10 rfl rfl)
theorem dX1_eat_35 : decode cX1_eat 35 = .ok (.if_icmp .ge 172, 3) := dk_162 0 172 (dk_at dksX1_eat_1 13 rfl rfl)
theorem dX1_eat_38 : decode cX1_eat 38 = .ok (.aload_n 0, 1) := dk_42 (dk_at dksX1_eat_1 16 rfl rfl)
theorem dX1_eat_39 : decode cX1_eat 39 = .ok (.getfield 18, 3) := dk_180 0 18 (dk_at dksX1_eat_1 17 rfl rfl)
theorem dX1_eat_42 : decode cX1_eat 42 = .ok (.iload_n 1, 1) := dk_27 (dk_at dksX1_eat_1 20 rfl rfl)
theorem dX1_eat_43 : decode cX1_eat 43 = .ok (.iaload, 1) := dk_46 (dk_at dksX1_eat_1 21 rfl rfl)
theorem dX1_eat_44 : decode cX1_eat 44 = .ok (.ifCond .ne 11, 3) := dk_154 0 11 (dk_at dksX1_eat_2 0 rfl rfl)
theorem dX1_eat_47 : decode cX1_eat 47 = .ok (.aload_n 0, 1) := dk_42 (dk_at dksX1_eat_2 3 rfl rfl)
theorem dX1_eat_48 : decode cX1_eat 48 = .ok (.iload_n 1, 1) := dk_27 (dk_at dksX1_eat_2 4 rfl rfl)
theorem dX1_eat_49 : decode cX1_eat 49 = .ok (.invokevirtual 232, 3) := dk_182 0 232 (dk_at dksX1_eat_2 5 rfl rfl)
theorem dX1_eat_52 : decode cX1_eat 52 = .ok (.ifCond .eq 13, 3) := dk_153 0 13 (dk_at dksX1_eat_2 8 rfl rfl)
theorem dX1_eat_55 : decode cX1_eat 55 = .ok (.aload_n 0, 1) := dk_42 (dk_at dksX1_eat_2 11 rfl rfl)
theorem dX1_eat_56 : decode cX1_eat 56 = .ok (.getfield 36, 3) := dk_180 0 36 (dk_at dksX1_eat_2 12 rfl rfl)
theorem dX1_eat_59 : decode cX1_eat 59 = .ok (.iload_n 1, 1) := dk_27 (dk_at dksX1_eat_2 15 rfl rfl)
theorem dX1_eat_60 : decode cX1_eat 60 = .ok (.iconst 0, 1) := dk_3 (dk_at dksX1_eat_2 16 rfl rfl)
theorem dX1_eat_61 : decode cX1_eat 61 = .ok (.iastore, 1) := dk_79 (dk_at dksX1_eat_2 17 rfl rfl)
theorem dX1_eat_62 : decode cX1_eat 62 = .ok (.goto 139, 3) := dk_167 0 139 (dk_at dksX1_eat_2 18 rfl rfl)
theorem dX1_eat_65 : decode cX1_eat 65 = .ok (.iconst 0, 1) := dk_3 (dk_at dksX1_eat_2 21 rfl rfl)
theorem dX1_eat_66 : decode cX1_eat 66 = .ok (.istore_n 2, 1) := dk_61 (dk_at dksX1_eat_2 22 rfl rfl)
theorem dX1_eat_67 : decode cX1_eat 67 = .ok (.iconst 0, 1) := dk_3 (dk_at dksX1_eat_2 23 rfl rfl)
theorem dX1_eat_68 : decode cX1_eat 68 = .ok (.istore_n 3, 1) := dk_62 (dk_at dksX1_eat_3 0 rfl rfl)
theorem dX1_eat_69 : decode cX1_eat 69 = .ok (.iload_n 3, 1) := dk_29 (dk_at dksX1_eat_3 1 rfl rfl)
theorem dX1_eat_70 : decode cX1_eat 70 = .ok (.aload_n 0, 1) := dk_42 (dk_at dksX1_eat_3 2 rfl rfl)
theorem dX1_eat_71 : decode cX1_eat 71 = .ok (.getfield 171, 3) := dk_180 0 171 (dk_at dksX1_eat_3 3 rfl rfl)
theorem dX1_eat_74 : decode cX1_eat 74 = .ok (.if_icmp .ge 37, 3) := dk_162 0 37 (dk_at dksX1_eat_3 6 rfl rfl)
theorem dX1_eat_77 : decode cX1_eat 77 = .ok (.aload_n 0, 1) := dk_42 (dk_at dksX1_eat_3 9 rfl rfl)
theorem dX1_eat_78 : decode cX1_eat 78 = .ok (.iload_n 3, 1) := dk_29 (dk_at dksX1_eat_3 10 rfl rfl)
theorem dX1_eat_79 : decode cX1_eat 79 = .ok (.iload_n 1, 1) := dk_27 (dk_at dksX1_eat_3 11 rfl rfl)
theorem dX1_eat_80 : decode cX1_eat 80 = .ok (.invokevirtual 226, 3) := dk_182 0 226 (dk_at dksX1_eat_3 12 rfl rfl)
theorem dX1_eat_83 : decode cX1_eat 83 = .ok (.istore 4, 2) := dk_54 4 (dk_at dksX1_eat_3 15 rfl rfl)
theorem dX1_eat_85 : decode cX1_eat 85 = .ok (.iload_n 2, 1) := dk_28 (dk_at dksX1_eat_3 17 rfl rfl)
theorem dX1_eat_86 : decode cX1_eat 86 = .ok (.iload 4, 2) := dk_21 4 (dk_at dksX1_eat_3 18 rfl rfl)
theorem dX1_eat_88 : decode cX1_eat 88 = .ok (.iconst (-1), 1) := dk_2 (dk_at dksX1_eat_3 20 rfl rfl)
theorem dX1_eat_89 : decode cX1_eat 89 = .ok (.if_icmp .ne 7, 3) := dk_160 0 7 (dk_at dksX1_eat_3 21 rfl rfl)
theorem dX1_eat_92 : decode cX1_eat 92 = .ok (.iconst 0, 1) := dk_3 (dk_at dksX1_eat_4 0 rfl rfl)
theorem dX1_eat_93 : decode cX1_eat 93 = .ok (.goto 10, 3) := dk_167 0 10 (dk_at dksX1_eat_4 1 rfl rfl)
theorem dX1_eat_96 : decode cX1_eat 96 = .ok (.aload_n 0, 1) := dk_42 (dk_at dksX1_eat_4 4 rfl rfl)
theorem dX1_eat_97 : decode cX1_eat 97 = .ok (.getfield 135, 3) := dk_180 0 135 (dk_at dksX1_eat_4 5 rfl rfl)
theorem dX1_eat_100 : decode cX1_eat 100 = .ok (.iload 4, 2) := dk_21 4 (dk_at dksX1_eat_4 8 rfl rfl)
theorem dX1_eat_102 : decode cX1_eat 102 = .ok (.iaload, 1) := dk_46 (dk_at dksX1_eat_4 10 rfl rfl)
theorem dX1_eat_103 : decode cX1_eat 103 = .ok (.iadd, 1) := dk_96 (dk_at dksX1_eat_4 11 rfl rfl)
theorem dX1_eat_104 : decode cX1_eat 104 = .ok (.istore_n 2, 1) := dk_61 (dk_at dksX1_eat_4 12 rfl rfl)
theorem dX1_eat_105 : decode cX1_eat 105 = .ok (.iinc 3 1, 3) := dk_132 3 1 (dk_at dksX1_eat_4 13 rfl rfl)
theorem dX1_eat_108 : decode cX1_eat 108 = .ok (.goto (-39), 3) := dk_167 255 217 (dk_at dksX1_eat_4 16 rfl rfl)
theorem dX1_eat_111 : decode cX1_eat 111 = .ok (.aload_n 0, 1) := dk_42 (dk_at dksX1_eat_4 19 rfl rfl)
theorem dX1_eat_112 : decode cX1_eat 112 = .ok (.getfield 36, 3) := dk_180 0 36 (dk_at dksX1_eat_4 20 rfl rfl)
theorem dX1_eat_115 : decode cX1_eat 115 = .ok (.iload_n 1, 1) := dk_27 (dk_at dksX1_eat_4 23 rfl rfl)
theorem dX1_eat_116 : decode cX1_eat 116 = .ok (.sipush 1000, 3) := dk_17 3 232 (dk_at dksX1_eat_5 0 rfl rfl)
theorem dX1_eat_119 : decode cX1_eat 119 = .ok (.aload_n 0, 1) := dk_42 (dk_at dksX1_eat_5 3 rfl rfl)
theorem dX1_eat_120 : decode cX1_eat 120 = .ok (.getfield 135, 3) := dk_180 0 135 (dk_at dksX1_eat_5 4 rfl rfl)
theorem dX1_eat_123 : decode cX1_eat 123 = .ok (.iload_n 1, 1) := dk_27 (dk_at dksX1_eat_5 7 rfl rfl)
theorem dX1_eat_124 : decode cX1_eat 124 = .ok (.iaload, 1) := dk_46 (dk_at dksX1_eat_5 8 rfl rfl)
theorem dX1_eat_125 : decode cX1_eat 125 = .ok (.iconst 2, 1) := dk_5 (dk_at dksX1_eat_5 9 rfl rfl)
theorem dX1_eat_126 : decode cX1_eat 126 = .ok (.idiv, 1) := dk_108 (dk_at dksX1_eat_5 10 rfl rfl)
theorem dX1_eat_127 : decode cX1_eat 127 = .ok (.aload_n 0, 1) := dk_42 (dk_at dksX1_eat_5 11 rfl rfl)
theorem dX1_eat_128 : decode cX1_eat 128 = .ok (.getfield 33, 3) := dk_180 0 33 (dk_at dksX1_eat_5 12 rfl rfl)
theorem dX1_eat_131 : decode cX1_eat 131 = .ok (.iload_n 1, 1) := dk_27 (dk_at dksX1_eat_5 15 rfl rfl)
theorem dX1_eat_132 : decode cX1_eat 132 = .ok (.iaload, 1) := dk_46 (dk_at dksX1_eat_5 16 rfl rfl)
theorem dX1_eat_133 : decode cX1_eat 133 = .ok (.bipush 10, 2) := dk_16 10 (dk_at dksX1_eat_5 17 rfl rfl)
theorem dX1_eat_135 : decode cX1_eat 135 = .ok (.aload_n 0, 1) := dk_42 (dk_at dksX1_eat_5 19 rfl rfl)
theorem dX1_eat_136 : decode cX1_eat 136 = .ok (.getfield 24, 3) := dk_180 0 24 (dk_at dksX1_eat_5 20 rfl rfl)
theorem dX1_eat_139 : decode cX1_eat 139 = .ok (.iload_n 1, 1) := dk_27 (dk_at dksX1_eat_5 23 rfl rfl)
theorem dX1_eat_140 : decode cX1_eat 140 = .ok (.iaload, 1) := dk_46 (dk_at dksX1_eat_6 0 rfl rfl)
theorem dX1_eat_141 : decode cX1_eat 141 = .ok (.imul, 1) := dk_104 (dk_at dksX1_eat_6 1 rfl rfl)
theorem dX1_eat_142 : decode cX1_eat 142 = .ok (.idiv, 1) := dk_108 (dk_at dksX1_eat_6 2 rfl rfl)
theorem dX1_eat_143 : decode cX1_eat 143 = .ok (.iadd, 1) := dk_96 (dk_at dksX1_eat_6 3 rfl rfl)
theorem dX1_eat_144 : decode cX1_eat 144 = .ok (.iload_n 2, 1) := dk_28 (dk_at dksX1_eat_6 4 rfl rfl)
theorem dX1_eat_145 : decode cX1_eat 145 = .ok (.bipush 8, 2) := dk_16 8 (dk_at dksX1_eat_6 5 rfl rfl)
theorem dX1_eat_147 : decode cX1_eat 147 = .ok (.idiv, 1) := dk_108 (dk_at dksX1_eat_6 7 rfl rfl)
theorem dX1_eat_148 : decode cX1_eat 148 = .ok (.iadd, 1) := dk_96 (dk_at dksX1_eat_6 8 rfl rfl)
theorem dX1_eat_149 : decode cX1_eat 149 = .ok (.invokestatic 189, 3) := dk_184 0 189 (dk_at dksX1_eat_6 9 rfl rfl)
theorem dX1_eat_152 : decode cX1_eat 152 = .ok (.iastore, 1) := dk_79 (dk_at dksX1_eat_6 12 rfl rfl)
theorem dX1_eat_153 : decode cX1_eat 153 = .ok (.aload_n 0, 1) := dk_42 (dk_at dksX1_eat_6 13 rfl rfl)
theorem dX1_eat_154 : decode cX1_eat 154 = .ok (.iload_n 1, 1) := dk_27 (dk_at dksX1_eat_6 14 rfl rfl)
theorem dX1_eat_155 : decode cX1_eat 155 = .ok (.invokevirtual 283, 3) := dk_182 1 27 (dk_at dksX1_eat_6 15 rfl rfl)
theorem dX1_eat_158 : decode cX1_eat 158 = .ok (.istore_n 3, 1) := dk_62 (dk_at dksX1_eat_6 18 rfl rfl)
theorem dX1_eat_159 : decode cX1_eat 159 = .ok (.aload_n 0, 1) := dk_42 (dk_at dksX1_eat_6 19 rfl rfl)
theorem dX1_eat_160 : decode cX1_eat 160 = .ok (.iload_n 1, 1) := dk_27 (dk_at dksX1_eat_6 20 rfl rfl)
theorem dX1_eat_161 : decode cX1_eat 161 = .ok (.iconst 0, 1) := dk_3 (dk_at dksX1_eat_6 21 rfl rfl)
theorem dX1_eat_162 : decode cX1_eat 162 = .ok (.aload_n 0, 1) := dk_42 (dk_at dksX1_eat_6 22 rfl rfl)
theorem dX1_eat_163 : decode cX1_eat 163 = .ok (.getfield 30, 3) := dk_180 0 30 (dk_at dksX1_eat_7 0 rfl rfl)
theorem dX1_eat_166 : decode cX1_eat 166 = .ok (.iload_n 1, 1) := dk_27 (dk_at dksX1_eat_7 3 rfl rfl)
theorem dX1_eat_167 : decode cX1_eat 167 = .ok (.iaload, 1) := dk_46 (dk_at dksX1_eat_7 4 rfl rfl)
theorem dX1_eat_168 : decode cX1_eat 168 = .ok (.aload_n 0, 1) := dk_42 (dk_at dksX1_eat_7 5 rfl rfl)
theorem dX1_eat_169 : decode cX1_eat 169 = .ok (.getfield 36, 3) := dk_180 0 36 (dk_at dksX1_eat_7 6 rfl rfl)
theorem dX1_eat_172 : decode cX1_eat 172 = .ok (.iload_n 1, 1) := dk_27 (dk_at dksX1_eat_7 9 rfl rfl)
theorem dX1_eat_173 : decode cX1_eat 173 = .ok (.iaload, 1) := dk_46 (dk_at dksX1_eat_7 10 rfl rfl)
theorem dX1_eat_174 : decode cX1_eat 174 = .ok (.bipush 100, 2) := dk_16 100 (dk_at dksX1_eat_7 11 rfl rfl)
theorem dX1_eat_176 : decode cX1_eat 176 = .ok (.idiv, 1) := dk_108 (dk_at dksX1_eat_7 13 rfl rfl)
theorem dX1_eat_177 : decode cX1_eat 177 = .ok (.isub, 1) := dk_100 (dk_at dksX1_eat_7 14 rfl rfl)
theorem dX1_eat_178 : decode cX1_eat 178 = .ok (.invokestatic 220, 3) := dk_184 0 220 (dk_at dksX1_eat_7 15 rfl rfl)
theorem dX1_eat_181 : decode cX1_eat 181 = .ok (.invokevirtual 286, 3) := dk_182 1 30 (dk_at dksX1_eat_7 18 rfl rfl)
theorem dX1_eat_184 : decode cX1_eat 184 = .ok (.aload_n 0, 1) := dk_42 (dk_at dksX1_eat_7 21 rfl rfl)
theorem dX1_eat_185 : decode cX1_eat 185 = .ok (.getfield 85, 3) := dk_180 0 85 (dk_at dksX1_eat_8 0 rfl rfl)
theorem dX1_eat_188 : decode cX1_eat 188 = .ok (.iconst 5, 1) := dk_8 (dk_at dksX1_eat_8 3 rfl rfl)
theorem dX1_eat_189 : decode cX1_eat 189 = .ok (.dup2, 1) := dk_92 (dk_at dksX1_eat_8 4 rfl rfl)
theorem dX1_eat_190 : decode cX1_eat 190 = .ok (.laload, 1) := dk_47 (dk_at dksX1_eat_8 5 rfl rfl)
theorem dX1_eat_191 : decode cX1_eat 191 = .ok (.iload_n 3, 1) := dk_29 (dk_at dksX1_eat_8 6 rfl rfl)
theorem dX1_eat_192 : decode cX1_eat 192 = .ok (.aload_n 0, 1) := dk_42 (dk_at dksX1_eat_8 7 rfl rfl)
theorem dX1_eat_193 : decode cX1_eat 193 = .ok (.iload_n 1, 1) := dk_27 (dk_at dksX1_eat_8 8 rfl rfl)
theorem dX1_eat_194 : decode cX1_eat 194 = .ok (.invokevirtual 283, 3) := dk_182 1 27 (dk_at dksX1_eat_8 9 rfl rfl)
theorem dX1_eat_197 : decode cX1_eat 197 = .ok (.isub, 1) := dk_100 (dk_at dksX1_eat_8 12 rfl rfl)
theorem dX1_eat_198 : decode cX1_eat 198 = .ok (.i2l, 1) := dk_133 (dk_at dksX1_eat_8 13 rfl rfl)
theorem dX1_eat_199 : decode cX1_eat 199 = .ok (.ladd, 1) := dk_97 (dk_at dksX1_eat_8 14 rfl rfl)
theorem dX1_eat_200 : decode cX1_eat 200 = .ok (.lastore, 1) := dk_80 (dk_at dksX1_eat_8 15 rfl rfl)
theorem dX1_eat_201 : decode cX1_eat 201 = .ok (.iinc 1 1, 3) := dk_132 1 1 (dk_at dksX1_eat_8 16 rfl rfl)
theorem dX1_eat_204 : decode cX1_eat 204 = .ok (.goto (-174), 3) := dk_167 255 82 (dk_at dksX1_eat_8 19 rfl rfl)
theorem dX1_eat_207 : decode cX1_eat 207 = .ok (.return_, 1) := dk_177 (dk_at dksX1_eat_8 22 rfl rfl)
abbrev cX1_rot : ByteArray := prog_4_method_34_code
def yX1_rot : MethodName := ⟨RX1, "rot", "()V"⟩
def dkwX1_rot_2 : List UInt8 := [167, 255, 211, 177]
abbrev dktX1_rot_2 : List UInt8 := dkwX1_rot_2 ++ []
def dkwX1_rot_1 : List UInt8 := [92, 47, 42, 180, 0, 33, 27, 46, 28, 100, 133, 97, 80, 42, 180, 0, 33, 27, 28, 79, 132, 1, 1]
abbrev dktX1_rot_1 : List UInt8 := dkwX1_rot_1 ++ dktX1_rot_2
def dkwX1_rot_0 : List UInt8 := [3, 60, 27, 42, 180, 0, 168, 162, 0, 43, 42, 180, 0, 33, 27, 46, 5, 108, 61, 42, 180, 0, 85, 7]
abbrev dktX1_rot_0 : List UInt8 := dkwX1_rot_0 ++ dktX1_rot_1
theorem dksX1_rot_0 : cX1_rot.data.toList.drop 0 = dktX1_rot_0 := by decide +kernel
theorem dksX1_rot_1 : cX1_rot.data.toList.drop 24 = dktX1_rot_1 := dk_seg dksX1_rot_0 24 rfl rfl
theorem dksX1_rot_2 : cX1_rot.data.toList.drop 47 = dktX1_rot_2 := dk_seg dksX1_rot_1 23 rfl rfl
theorem dX1_rot_0 : decode cX1_rot 0 = .ok (.iconst 0, 1) := dk_3 (dk_at dksX1_rot_0 0 rfl rfl)
theorem dX1_rot_1 : decode cX1_rot 1 = .ok (.istore_n 1, 1) := dk_60 (dk_at dksX1_rot_0 1 rfl rfl)
theorem dX1_rot_2 : decode cX1_rot 2 = .ok (.iload_n 1, 1) := dk_27 (dk_at dksX1_rot_0 2 rfl rfl)
theorem dX1_rot_3 : decode cX1_rot 3 = .ok (.aload_n 0, 1) := dk_42 (dk_at dksX1_rot_0 3 rfl rfl)
theorem dX1_rot_4 : decode cX1_rot 4 = .ok (.getfield 168, 3) := dk_180 0 168 (dk_at dksX1_rot_0 4 rfl rfl)
theorem dX1_rot_7 : decode cX1_rot 7 = .ok (.if_icmp .ge 43, 3) := dk_162 0 43 (dk_at dksX1_rot_0 7 rfl rfl)
theorem dX1_rot_10 : decode cX1_rot 10 = .ok (.aload_n 0, 1) := dk_42 (dk_at dksX1_rot_0 10 rfl rfl)
theorem dX1_rot_11 : decode cX1_rot 11 = .ok (.getfield 33, 3) := dk_180 0 33 (dk_at dksX1_rot_0 11 rfl rfl)
theorem dX1_rot_14 : decode cX1_rot 14 = .ok (.iload_n 1, 1) := dk_27 (dk_at dksX1_rot_0 14 rfl rfl)
theorem dX1_rot_15 : decode cX1_rot 15 = .ok (.iaload, 1) := dk_46 (dk_at dksX1_rot_0 15 rfl rfl)
theorem dX1_rot_16 : decode cX1_rot 16 = .ok (.iconst 2, 1) := dk_5 (dk_at dksX1_rot_0 16 rfl rfl)
theorem dX1_rot_17 : decode cX1_rot 17 = .ok (.idiv, 1) := dk_108 (dk_at dksX1_rot_0 17 rfl rfl)
theorem dX1_rot_18 : decode cX1_rot 18 = .ok (.istore_n 2, 1) := dk_61 (dk_at dksX1_rot_0 18 rfl rfl)
theorem dX1_rot_19 : decode cX1_rot 19 = .ok (.aload_n 0, 1) := dk_42 (dk_at dksX1_rot_0 19 rfl rfl)
theorem dX1_rot_20 : decode cX1_rot 20 = .ok (.getfield 85, 3) := dk_180 0 85 (dk_at dksX1_rot_0 20 rfl rfl)
theorem dX1_rot_23 : decode cX1_rot 23 = .ok (.iconst 4, 1) := dk_7 (dk_at dksX1_rot_0 23 rfl rfl)
theorem dX1_rot_24 : decode cX1_rot 24 = .ok (.dup2, 1) := dk_92 (dk_at dksX1_rot_1 0 rfl rfl)
theorem dX1_rot_25 : decode cX1_rot 25 = .ok (.laload, 1) := dk_47 (dk_at dksX1_rot_1 1 rfl rfl)
theorem dX1_rot_26 : decode cX1_rot 26 = .ok (.aload_n 0, 1) := dk_42 (dk_at dksX1_rot_1 2 rfl rfl)
theorem dX1_rot_27 : decode cX1_rot 27 = .ok (.getfield 33, 3) := dk_180 0 33 (dk_at dksX1_rot_1 3 rfl rfl)
theorem dX1_rot_30 : decode cX1_rot 30 = .ok (.iload_n 1, 1) := dk_27 (dk_at dksX1_rot_1 6 rfl rfl)
theorem dX1_rot_31 : decode cX1_rot 31 = .ok (.iaload, 1) := dk_46 (dk_at dksX1_rot_1 7 rfl rfl)
theorem dX1_rot_32 : decode cX1_rot 32 = .ok (.iload_n 2, 1) := dk_28 (dk_at dksX1_rot_1 8 rfl rfl)
theorem dX1_rot_33 : decode cX1_rot 33 = .ok (.isub, 1) := dk_100 (dk_at dksX1_rot_1 9 rfl rfl)
theorem dX1_rot_34 : decode cX1_rot 34 = .ok (.i2l, 1) := dk_133 (dk_at dksX1_rot_1 10 rfl rfl)
theorem dX1_rot_35 : decode cX1_rot 35 = .ok (.ladd, 1) := dk_97 (dk_at dksX1_rot_1 11 rfl rfl)
theorem dX1_rot_36 : decode cX1_rot 36 = .ok (.lastore, 1) := dk_80 (dk_at dksX1_rot_1 12 rfl rfl)
theorem dX1_rot_37 : decode cX1_rot 37 = .ok (.aload_n 0, 1) := dk_42 (dk_at dksX1_rot_1 13 rfl rfl)
theorem dX1_rot_38 : decode cX1_rot 38 = .ok (.getfield 33, 3) := dk_180 0 33 (dk_at dksX1_rot_1 14 rfl rfl)
theorem dX1_rot_41 : decode cX1_rot 41 = .ok (.iload_n 1, 1) := dk_27 (dk_at dksX1_rot_1 17 rfl rfl)
theorem dX1_rot_42 : decode cX1_rot 42 = .ok (.iload_n 2, 1) := dk_28 (dk_at dksX1_rot_1 18 rfl rfl)
theorem dX1_rot_43 : decode cX1_rot 43 = .ok (.iastore, 1) := dk_79 (dk_at dksX1_rot_1 19 rfl rfl)
theorem dX1_rot_44 : decode cX1_rot 44 = .ok (.iinc 1 1, 3) := dk_132 1 1 (dk_at dksX1_rot_1 20 rfl rfl)
theorem dX1_rot_47 : decode cX1_rot 47 = .ok (.goto (-45), 3) := dk_167 255 211 (dk_at dksX1_rot_2 0 rfl rfl)
theorem dX1_rot_50 : decode cX1_rot 50 = .ok (.return_, 1) := dk_177 (dk_at dksX1_rot_2 3 rfl rfl)
abbrev cX1_grow : ByteArray := prog_4_method_35_code
def yX1_grow : MethodName := ⟨RX1, "grow", "()V"⟩
def dkwX1_grow_4 : List UInt8 := [177]
abbrev dktX1_grow_4 : List UInt8 := dkwX1_grow_4 ++ []
def dkwX1_grow_3 : List UInt8 := [42, 180, 0, 27, 27, 46, 16, 100, 162, 0, 7, 4, 167, 0, 4, 3, 96, 79, 132, 1, 1, 167, 255, 165]
abbrev dktX1_grow_3 : List UInt8 := dkwX1_grow_3 ++ dktX1_grow_4
def dkwX1_grow_2 : List UInt8 := [4, 96, 184, 0, 189, 79, 42, 180, 0, 30, 27, 92, 46, 42, 180, 0, 30, 27, 46, 16, 100, 162, 0, 18]
abbrev dktX1_grow_2 : List UInt8 := dkwX1_grow_2 ++ dktX1_grow_3
def dkwX1_grow_1 : List UInt8 := [42, 180, 0, 142, 160, 0, 6, 167, 0, 59, 42, 180, 0, 27, 27, 17, 1, 144, 42, 180, 0, 27, 27, 46]
abbrev dktX1_grow_1 : List UInt8 := dkwX1_grow_1 ++ dktX1_grow_2
def dkwX1_grow_0 : List UInt8 := [3, 60, 27, 42, 180, 0, 168, 162, 0, 89, 42, 27, 182, 0, 232, 154, 0, 75, 42, 180, 0, 42, 27, 46]
abbrev dktX1_grow_0 : List UInt8 := dkwX1_grow_0 ++ dktX1_grow_1
theorem dksX1_grow_0 : cX1_grow.data.toList.drop 0 = dktX1_grow_0 := by decide +kernel
theorem dksX1_grow_1 : cX1_grow.data.toList.drop 24 = dktX1_grow_1 := dk_seg dksX1_grow_0 24 rfl rfl
theorem dksX1_grow_2 : cX1_grow.data.toList.drop 48 = dktX1_grow_2 := dk_seg dksX1_grow_1 24 rfl rfl
theorem dksX1_grow_3 : cX1_grow.data.toList.drop 72 = dktX1_grow_3 := dk_seg dksX1_grow_2 24 rfl rfl
theorem dksX1_grow_4 : cX1_grow.data.toList.drop 96 = dktX1_grow_4 := dk_seg dksX1_grow_3 24 rfl rfl
theorem dX1_grow_0 : decode cX1_grow 0 = .ok (.iconst 0, 1) := dk_3 (dk_at dksX1_grow_0 0 rfl rfl)
theorem dX1_grow_1 : decode cX1_grow 1 = .ok (.istore_n 1, 1) := dk_60 (dk_at dksX1_grow_0 1 rfl rfl)
theorem dX1_grow_2 : decode cX1_grow 2 = .ok (.iload_n 1, 1) := dk_27 (dk_at dksX1_grow_0 2 rfl rfl)
theorem dX1_grow_3 : decode cX1_grow 3 = .ok (.aload_n 0, 1) := dk_42 (dk_at dksX1_grow_0 3 rfl rfl)
theorem dX1_grow_4 : decode cX1_grow 4 = .ok (.getfield 168, 3) := dk_180 0 168 (dk_at dksX1_grow_0 4 rfl rfl)
theorem dX1_grow_7 : decode cX1_grow 7 = .ok (.if_icmp .ge 89, 3) := dk_162 0 89 (dk_at dksX1_grow_0 7 rfl rfl)
theorem dX1_grow_10 : decode cX1_grow 10 = .ok (.aload_n 0, 1) := dk_42 (dk_at dksX1_grow_0 10 rfl rfl)
theorem dX1_grow_11 : decode cX1_grow 11 = .ok (.iload_n 1, 1) := dk_27 (dk_at dksX1_grow_0 11 rfl rfl)
theorem dX1_grow_12 : decode cX1_grow 12 = .ok (.invokevirtual 232, 3) := dk_182 0 232 (dk_at dksX1_grow_0 12 rfl rfl)
theorem dX1_grow_15 : decode cX1_grow 15 = .ok (.ifCond .ne 75, 3) := dk_154 0 75 (dk_at dksX1_grow_0 15 rfl rfl)
theorem dX1_grow_18 : decode cX1_grow 18 = .ok (.aload_n 0, 1) := dk_42 (dk_at dksX1_grow_0 18 rfl rfl)
theorem dX1_grow_19 : decode cX1_grow 19 = .ok (.getfield 42, 3) := dk_180 0 42 (dk_at dksX1_grow_0 19 rfl rfl)
theorem dX1_grow_22 : decode cX1_grow 22 = .ok (.iload_n 1, 1) := dk_27 (dk_at dksX1_grow_0 22 rfl rfl)
theorem dX1_grow_23 : decode cX1_grow 23 = .ok (.iaload, 1) := dk_46 (dk_at dksX1_grow_0 23 rfl rfl)
theorem dX1_grow_24 : decode cX1_grow 24 = .ok (.aload_n 0, 1) := dk_42 (dk_at dksX1_grow_1 0 rfl rfl)
theorem dX1_grow_25 : decode cX1_grow 25 = .ok (.getfield 142, 3) := dk_180 0 142 (dk_at dksX1_grow_1 1 rfl rfl)
theorem dX1_grow_28 : decode cX1_grow 28 = .ok (.if_icmp .ne 6, 3) := dk_160 0 6 (dk_at dksX1_grow_1 4 rfl rfl)
theorem dX1_grow_31 : decode cX1_grow 31 = .ok (.goto 59, 3) := dk_167 0 59 (dk_at dksX1_grow_1 7 rfl rfl)
theorem dX1_grow_34 : decode cX1_grow 34 = .ok (.aload_n 0, 1) := dk_42 (dk_at dksX1_grow_1 10 rfl rfl)
theorem dX1_grow_35 : decode cX1_grow 35 = .ok (.getfield 27, 3) := dk_180 0 27 (dk_at dksX1_grow_1 11 rfl rfl)
theorem dX1_grow_38 : decode cX1_grow 38 = .ok (.iload_n 1, 1) := dk_27 (dk_at dksX1_grow_1 14 rfl rfl)
theorem dX1_grow_39 : decode cX1_grow 39 = .ok (.sipush 400, 3) := dk_17 1 144 (dk_at dksX1_grow_1 15 rfl rfl)
theorem dX1_grow_42 : decode cX1_grow 42 = .ok (.aload_n 0, 1) := dk_42 (dk_at dksX1_grow_1 18 rfl rfl)
theorem dX1_grow_43 : decode cX1_grow 43 = .ok (.getfield 27, 3) := dk_180 0 27 (dk_at dksX1_grow_1 19 rfl rfl)
theorem dX1_grow_46 : decode cX1_grow 46 = .ok (.iload_n 1, 1) := dk_27 (dk_at dksX1_grow_1 22 rfl rfl)
theorem dX1_grow_47 : decode cX1_grow 47 = .ok (.iaload, 1) := dk_46 (dk_at dksX1_grow_1 23 rfl rfl)
theorem dX1_grow_48 : decode cX1_grow 48 = .ok (.iconst 1, 1) := dk_4 (dk_at dksX1_grow_2 0 rfl rfl)
theorem dX1_grow_49 : decode cX1_grow 49 = .ok (.iadd, 1) := dk_96 (dk_at dksX1_grow_2 1 rfl rfl)
theorem dX1_grow_50 : decode cX1_grow 50 = .ok (.invokestatic 189, 3) := dk_184 0 189 (dk_at dksX1_grow_2 2 rfl rfl)
theorem dX1_grow_53 : decode cX1_grow 53 = .ok (.iastore, 1) := dk_79 (dk_at dksX1_grow_2 5 rfl rfl)
theorem dX1_grow_54 : decode cX1_grow 54 = .ok (.aload_n 0, 1) := dk_42 (dk_at dksX1_grow_2 6 rfl rfl)
theorem dX1_grow_55 : decode cX1_grow 55 = .ok (.getfield 30, 3) := dk_180 0 30 (dk_at dksX1_grow_2 7 rfl rfl)
theorem dX1_grow_58 : decode cX1_grow 58 = .ok (.iload_n 1, 1) := dk_27 (dk_at dksX1_grow_2 10 rfl rfl)
theorem dX1_grow_59 : decode cX1_grow 59 = .ok (.dup2, 1) := dk_92 (dk_at dksX1_grow_2 11 rfl rfl)
theorem dX1_grow_60 : decode cX1_grow 60 = .ok (.iaload, 1) := dk_46 (dk_at dksX1_grow_2 12 rfl rfl)
theorem dX1_grow_61 : decode cX1_grow 61 = .ok (.aload_n 0, 1) := dk_42 (dk_at dksX1_grow_2 13 rfl rfl)
theorem dX1_grow_62 : decode cX1_grow 62 = .ok (.getfield 30, 3) := dk_180 0 30 (dk_at dksX1_grow_2 14 rfl rfl)
theorem dX1_grow_65 : decode cX1_grow 65 = .ok (.iload_n 1, 1) := dk_27 (dk_at dksX1_grow_2 17 rfl rfl)
theorem dX1_grow_66 : decode cX1_grow 66 = .ok (.iaload, 1) := dk_46 (dk_at dksX1_grow_2 18 rfl rfl)
theorem dX1_grow_67 : decode cX1_grow 67 = .ok (.bipush 100, 2) := dk_16 100 (dk_at dksX1_grow_2 19 rfl rfl)
theorem dX1_grow_69 : decode cX1_grow 69 = .ok (.if_icmp .ge 18, 3) := dk_162 0 18 (dk_at dksX1_grow_2 21 rfl rfl)
theorem dX1_grow_72 : decode cX1_grow 72 = .ok (.aload_n 0, 1) := dk_42 (dk_at dksX1_grow_3 0 rfl rfl)
theorem dX1_grow_73 : decode cX1_grow 73 = .ok (.getfield 27, 3) := dk_180 0 27 (dk_at dksX1_grow_3 1 rfl rfl)
theorem dX1_grow_76 : decode cX1_grow 76 = .ok (.iload_n 1, 1) := dk_27 (dk_at dksX1_grow_3 4 rfl rfl)
theorem dX1_grow_77 : decode cX1_grow 77 = .ok (.iaload, 1) := dk_46 (dk_at dksX1_grow_3 5 rfl rfl)
theorem dX1_grow_78 : decode cX1_grow 78 = .ok (.bipush 100, 2) := dk_16 100 (dk_at dksX1_grow_3 6 rfl rfl)
theorem dX1_grow_80 : decode cX1_grow 80 = .ok (.if_icmp .ge 7, 3) := dk_162 0 7 (dk_at dksX1_grow_3 8 rfl rfl)
theorem dX1_grow_83 : decode cX1_grow 83 = .ok (.iconst 1, 1) := dk_4 (dk_at dksX1_grow_3 11 rfl rfl)
theorem dX1_grow_84 : decode cX1_grow 84 = .ok (.goto 4, 3) := dk_167 0 4 (dk_at dksX1_grow_3 12 rfl rfl)
theorem dX1_grow_87 : decode cX1_grow 87 = .ok (.iconst 0, 1) := dk_3 (dk_at dksX1_grow_3 15 rfl rfl)
theorem dX1_grow_88 : decode cX1_grow 88 = .ok (.iadd, 1) := dk_96 (dk_at dksX1_grow_3 16 rfl rfl)
theorem dX1_grow_89 : decode cX1_grow 89 = .ok (.iastore, 1) := dk_79 (dk_at dksX1_grow_3 17 rfl rfl)
theorem dX1_grow_90 : decode cX1_grow 90 = .ok (.iinc 1 1, 3) := dk_132 1 1 (dk_at dksX1_grow_3 18 rfl rfl)
theorem dX1_grow_93 : decode cX1_grow 93 = .ok (.goto (-91), 3) := dk_167 255 165 (dk_at dksX1_grow_3 21 rfl rfl)
theorem dX1_grow_96 : decode cX1_grow 96 = .ok (.return_, 1) := dk_177 (dk_at dksX1_grow_4 0 rfl rfl)
abbrev cX1_steal : ByteArray := prog_4_method_36_code
def yX1_steal : MethodName := ⟨RX1, "steal", "(I)V"⟩
def dkwX1_steal_8 : List UInt8 := [132, 3, 1, 167, 255, 166, 177]
abbrev dktX1_steal_8 : List UInt8 := dkwX1_steal_8 ++ []
def dkwX1_steal_7 : List UInt8 := [100, 61, 42, 180, 0, 85, 16, 6, 92, 47, 21, 4, 42, 29, 182, 1, 27, 100, 133, 97, 80, 167, 255, 184]
abbrev dktX1_steal_7 : List UInt8 := dkwX1_steal_7 ++ dktX1_steal_8
def dkwX1_steal_6 : List UInt8 := [54, 4, 42, 29, 42, 180, 0, 30, 29, 46, 4, 100, 182, 1, 30, 28, 21, 4, 42, 29, 182, 1, 27, 100]
abbrev dktX1_steal_6 : List UInt8 := dkwX1_steal_6 ++ dktX1_steal_7
def dkwX1_steal_5 : List UInt8 := [29, 46, 27, 160, 0, 68, 42, 29, 182, 0, 232, 154, 0, 60, 28, 158, 0, 56, 42, 29, 182, 1, 27]
abbrev dktX1_steal_5 : List UInt8 := dkwX1_steal_5 ++ dktX1_steal_6
def dkwX1_steal_4 : List UInt8 := [132, 3, 1, 167, 255, 186, 3, 62, 29, 42, 180, 0, 168, 162, 0, 88, 28, 158, 0, 84, 42, 180, 0, 9]
abbrev dktX1_steal_4 : List UInt8 := dkwX1_steal_4 ++ dktX1_steal_5
def dkwX1_steal_3 : List UInt8 := [21, 4, 100, 79, 28, 21, 4, 100, 61, 42, 180, 0, 85, 16, 6, 92, 47, 21, 4, 133, 97, 80]
abbrev dktX1_steal_3 : List UInt8 := dkwX1_steal_3 ++ dktX1_steal_4
def dkwX1_steal_2 : List UInt8 := [28, 42, 180, 0, 33, 29, 46, 184, 0, 189, 167, 0, 4, 3, 54, 4, 42, 180, 0, 33, 29, 92, 46]
abbrev dktX1_steal_2 : List UInt8 := dkwX1_steal_2 ++ dktX1_steal_3
def dkwX1_steal_1 : List UInt8 := [3, 62, 29, 42, 180, 0, 168, 162, 0, 68, 28, 158, 0, 64, 42, 180, 0, 9, 29, 46, 27, 160, 0, 16]
abbrev dktX1_steal_1 : List UInt8 := dkwX1_steal_1 ++ dktX1_steal_2
def dkwX1_steal_0 : List UInt8 := [3, 16, 10, 42, 180, 0, 116, 27, 46, 104, 16, 50, 42, 180, 0, 119, 27, 46, 104, 100, 184, 0, 220, 61]
abbrev dktX1_steal_0 : List UInt8 := dkwX1_steal_0 ++ dktX1_steal_1
theorem dksX1_steal_0 : cX1_steal.data.toList.drop 0 = dktX1_steal_0 := by decide +kernel
theorem dksX1_steal_1 : cX1_steal.data.toList.drop 24 = dktX1_steal_1 := dk_seg dksX1_steal_0 24 rfl rfl
theorem dksX1_steal_2 : cX1_steal.data.toList.drop 48 = dktX1_steal_2 := dk_seg dksX1_steal_1 24 rfl rfl
theorem dksX1_steal_3 : cX1_steal.data.toList.drop 71 = dktX1_steal_3 := dk_seg dksX1_steal_2 23 rfl rfl
theorem dksX1_steal_4 : cX1_steal.data.toList.drop 93 = dktX1_steal_4 := dk_seg dksX1_steal_3 22 rfl rfl
theorem dksX1_steal_5 : cX1_steal.data.toList.drop 117 = dktX1_steal_5 := dk_seg dksX1_steal_4 24 rfl rfl
theorem dksX1_steal_6 : cX1_steal.data.toList.drop 140 = dktX1_steal_6 := dk_seg dksX1_steal_5 23 rfl rfl
theorem dksX1_steal_7 : cX1_steal.data.toList.drop 164 = dktX1_steal_7 := dk_seg dksX1_steal_6 24 rfl rfl
theorem dksX1_steal_8 : cX1_steal.data.toList.drop 188 = dktX1_steal_8 := dk_seg dksX1_steal_7 24 rfl rfl
theorem dX1_steal_0 : decode cX1_steal 0 = .ok (.iconst 0, 1) := dk_3 (dk_at dksX1_steal_0 0 rfl rfl)
theorem dX1_steal_1 : decode cX1_steal 1 = .ok (.bipush 10, 2) := dk_16 10 (dk_at dksX1_steal_0 1 rfl rfl)
theorem dX1_steal_3 : decode cX1_steal 3 = .ok (.aload_n 0, 1) := dk_42 (dk_at dksX1_steal_0 3 rfl rfl)
theorem dX1_steal_4 : decode cX1_steal 4 = .ok (.getfield 116, 3) := dk_180 0 116 (dk_at dksX1_steal_0 4 rfl rfl)
theorem dX1_steal_7 : decode cX1_steal 7 = .ok (.iload_n 1, 1) := dk_27 (dk_at dksX1_steal_0 7 rfl rfl)
theorem dX1_steal_8 : decode cX1_steal 8 = .ok (.iaload, 1) := dk_46 (dk_at dksX1_steal_0 8 rfl rfl)
theorem dX1_steal_9 : decode cX1_steal 9 = .ok (.imul, 1) := dk_104 (dk_at dksX1_steal_0 9 rfl rfl)
theorem dX1_steal_10 : decode cX1_steal 10 = .ok (.bipush 50, 2) := dk_16 50 (dk_at dksX1_steal_0 10 rfl rfl)
theorem dX1_steal_12 : decode cX1_steal 12 = .ok (.aload_n 0, 1) := dk_42 (dk_at dksX1_steal_0 12 rfl rfl)
theorem dX1_steal_13 : decode cX1_steal 13 = .ok (.getfield 119, 3) := dk_180 0 119 (dk_at dksX1_steal_0 13 rfl rfl)
theorem dX1_steal_16 : decode cX1_steal 16 = .ok (.iload_n 1, 1) := dk_27 (dk_at dksX1_steal_0 16 rfl rfl)
theorem dX1_steal_17 : decode cX1_steal 17 = .ok (.iaload, 1) := dk_46 (dk_at dksX1_steal_0 17 rfl rfl)
theorem dX1_steal_18 : decode cX1_steal 18 = .ok (.imul, 1) := dk_104 (dk_at dksX1_steal_0 18 rfl rfl)
theorem dX1_steal_19 : decode cX1_steal 19 = .ok (.isub, 1) := dk_100 (dk_at dksX1_steal_0 19 rfl rfl)
theorem dX1_steal_20 : decode cX1_steal 20 = .ok (.invokestatic 220, 3) := dk_184 0 220 (dk_at dksX1_steal_0 20 rfl rfl)
theorem dX1_steal_23 : decode cX1_steal 23 = .ok (.istore_n 2, 1) := dk_61 (dk_at dksX1_steal_0 23 rfl rfl)
theorem dX1_steal_24 : decode cX1_steal 24 = .ok (.iconst 0, 1) := dk_3 (dk_at dksX1_steal_1 0 rfl rfl)
theorem dX1_steal_25 : decode cX1_steal 25 = .ok (.istore_n 3, 1) := dk_62 (dk_at dksX1_steal_1 1 rfl rfl)
theorem dX1_steal_26 : decode cX1_steal 26 = .ok (.iload_n 3, 1) := dk_29 (dk_at dksX1_steal_1 2 rfl rfl)
theorem dX1_steal_27 : decode cX1_steal 27 = .ok (.aload_n 0, 1) := dk_42 (dk_at dksX1_steal_1 3 rfl rfl)
theorem dX1_steal_28 : decode cX1_steal 28 = .ok (.getfield 168, 3) := dk_180 0 168 (dk_at dksX1_steal_1 4 rfl rfl)
theorem dX1_steal_31 : decode cX1_steal 31 = .ok (.if_icmp .ge 68, 3) := dk_162 0 68 (dk_at dksX1_steal_1 7 rfl rfl)
theorem dX1_steal_34 : decode cX1_steal 34 = .ok (.iload_n 2, 1) := dk_28 (dk_at dksX1_steal_1 10 rfl rfl)
theorem dX1_steal_35 : decode cX1_steal 35 = .ok (.ifCond .le 64, 3) := dk_158 0 64 (dk_at dksX1_steal_1 11 rfl rfl)
theorem dX1_steal_38 : decode cX1_steal 38 = .ok (.aload_n 0, 1) := dk_42 (dk_at dksX1_steal_1 14 rfl rfl)
theorem dX1_steal_39 : decode cX1_steal 39 = .ok (.getfield 9, 3) := dk_180 0 9 (dk_at dksX1_steal_1 15 rfl rfl)
theorem dX1_steal_42 : decode cX1_steal 42 = .ok (.iload_n 3, 1) := dk_29 (dk_at dksX1_steal_1 18 rfl rfl)
theorem dX1_steal_43 : decode cX1_steal 43 = .ok (.iaload, 1) := dk_46 (dk_at dksX1_steal_1 19 rfl rfl)
theorem dX1_steal_44 : decode cX1_steal 44 = .ok (.iload_n 1, 1) := dk_27 (dk_at dksX1_steal_1 20 rfl rfl)
theorem dX1_steal_45 : decode cX1_steal 45 = .ok (.if_icmp .ne 16, 3) := dk_160 0 16 (dk_at dksX1_steal_1 21 rfl rfl)
theorem dX1_steal_48 : decode cX1_steal 48 = .ok (.iload_n 2, 1) := dk_28 (dk_at dksX1_steal_2 0 rfl rfl)
theorem dX1_steal_49 : decode cX1_steal 49 = .ok (.aload_n 0, 1) := dk_42 (dk_at dksX1_steal_2 1 rfl rfl)
theorem dX1_steal_50 : decode cX1_steal 50 = .ok (.getfield 33, 3) := dk_180 0 33 (dk_at dksX1_steal_2 2 rfl rfl)
theorem dX1_steal_53 : decode cX1_steal 53 = .ok (.iload_n 3, 1) := dk_29 (dk_at dksX1_steal_2 5 rfl rfl)
theorem dX1_steal_54 : decode cX1_steal 54 = .ok (.iaload, 1) := dk_46 (dk_at dksX1_steal_2 6 rfl rfl)
theorem dX1_steal_55 : decode cX1_steal 55 = .ok (.invokestatic 189, 3) := dk_184 0 189 (dk_at dksX1_steal_2 7 rfl rfl)
theorem dX1_steal_58 : decode cX1_steal 58 = .ok (.goto 4, 3) := dk_167 0 4 (dk_at dksX1_steal_2 10 rfl rfl)
theorem dX1_steal_61 : decode cX1_steal 61 = .ok (.iconst 0, 1) := dk_3 (dk_at dksX1_steal_2 13 rfl rfl)
theorem dX1_steal_62 : decode cX1_steal 62 = .ok (.istore 4, 2) := dk_54 4 (dk_at dksX1_steal_2 14 rfl rfl)
theorem dX1_steal_64 : decode cX1_steal 64 = .ok (.aload_n 0, 1) := dk_42 (dk_at dksX1_steal_2 16 rfl rfl)
theorem dX1_steal_65 : decode cX1_steal 65 = .ok (.getfield 33, 3) := dk_180 0 33 (dk_at dksX1_steal_2 17 rfl rfl)
theorem dX1_steal_68 : decode cX1_steal 68 = .ok (.iload_n 3, 1) := dk_29 (dk_at dksX1_steal_2 20 rfl rfl)
theorem dX1_steal_69 : decode cX1_steal 69 = .ok (.dup2, 1) := dk_92 (dk_at dksX1_steal_2 21 rfl rfl)
theorem dX1_steal_70 : decode cX1_steal 70 = .ok (.iaload, 1) := dk_46 (dk_at dksX1_steal_2 22 rfl rfl)
theorem dX1_steal_71 : decode cX1_steal 71 = .ok (.iload 4, 2) := dk_21 4 (dk_at dksX1_steal_3 0 rfl rfl)
theorem dX1_steal_73 : decode cX1_steal 73 = .ok (.isub, 1) := dk_100 (dk_at dksX1_steal_3 2 rfl rfl)
theorem dX1_steal_74 : decode cX1_steal 74 = .ok (.iastore, 1) := dk_79 (dk_at dksX1_steal_3 3 rfl rfl)
theorem dX1_steal_75 : decode cX1_steal 75 = .ok (.iload_n 2, 1) := dk_28 (dk_at dksX1_steal_3 4 rfl rfl)
theorem dX1_steal_76 : decode cX1_steal 76 = .ok (.iload 4, 2) := dk_21 4 (dk_at dksX1_steal_3 5 rfl rfl)
theorem dX1_steal_78 : decode cX1_steal 78 = .ok (.isub, 1) := dk_100 (dk_at dksX1_steal_3 7 rfl rfl)
theorem dX1_steal_79 : decode cX1_steal 79 = .ok (.istore_n 2, 1) := dk_61 (dk_at dksX1_steal_3 8 rfl rfl)
theorem dX1_steal_80 : decode cX1_steal 80 = .ok (.aload_n 0, 1) := dk_42 (dk_at dksX1_steal_3 9 rfl rfl)
theorem dX1_steal_81 : decode cX1_steal 81 = .ok (.getfield 85, 3) := dk_180 0 85 (dk_at dksX1_steal_3 10 rfl rfl)
theorem dX1_steal_84 : decode cX1_steal 84 = .ok (.bipush 6, 2) := dk_16 6 (dk_at dksX1_steal_3 13 rfl rfl)
theorem dX1_steal_86 : decode cX1_steal 86 = .ok (.dup2, 1) := dk_92 (dk_at dksX1_steal_3 15 rfl rfl)
theorem dX1_steal_87 : decode cX1_steal 87 = .ok (.laload, 1) := dk_47 (dk_at dksX1_steal_3 16 rfl rfl)
theorem dX1_steal_88 : decode cX1_steal 88 = .ok (.iload 4, 2) := dk_21 4 (dk_at dksX1_steal_3 17 rfl rfl)
theorem dX1_steal_90 : decode cX1_steal 90 = .ok (.i2l, 1) := dk_133 (dk_at dksX1_steal_3 19 rfl rfl)
theorem dX1_steal_91 : decode cX1_steal 91 = .ok (.ladd, 1) := dk_97 (dk_at dksX1_steal_3 20 rfl rfl)
theorem dX1_steal_92 : decode cX1_steal 92 = .ok (.lastore, 1) := dk_80 (dk_at dksX1_steal_3 21 rfl rfl)
theorem dX1_steal_93 : decode cX1_steal 93 = .ok (.iinc 3 1, 3) := dk_132 3 1 (dk_at dksX1_steal_4 0 rfl rfl)
theorem dX1_steal_96 : decode cX1_steal 96 = .ok (.goto (-70), 3) := dk_167 255 186 (dk_at dksX1_steal_4 3 rfl rfl)
theorem dX1_steal_99 : decode cX1_steal 99 = .ok (.iconst 0, 1) := dk_3 (dk_at dksX1_steal_4 6 rfl rfl)
theorem dX1_steal_100 : decode cX1_steal 100 = .ok (.istore_n 3, 1) := dk_62 (dk_at dksX1_steal_4 7 rfl rfl)
theorem dX1_steal_101 : decode cX1_steal 101 = .ok (.iload_n 3, 1) := dk_29 (dk_at dksX1_steal_4 8 rfl rfl)
theorem dX1_steal_102 : decode cX1_steal 102 = .ok (.aload_n 0, 1) := dk_42 (dk_at dksX1_steal_4 9 rfl rfl)
theorem dX1_steal_103 : decode cX1_steal 103 = .ok (.getfield 168, 3) := dk_180 0 168 (dk_at dksX1_steal_4 10 rfl rfl)
theorem dX1_steal_106 : decode cX1_steal 106 = .ok (.if_icmp .ge 88, 3) := dk_162 0 88 (dk_at dksX1_steal_4 13 rfl rfl)
theorem dX1_steal_109 : decode cX1_steal 109 = .ok (.iload_n 2, 1) := dk_28 (dk_at dksX1_steal_4 16 rfl rfl)
theorem dX1_steal_110 : decode cX1_steal 110 = .ok (.ifCond .le 84, 3) := dk_158 0 84 (dk_at dksX1_steal_4 17 rfl rfl)
theorem dX1_steal_113 : decode cX1_steal 113 = .ok (.aload_n 0, 1) := dk_42 (dk_at dksX1_steal_4 20 rfl rfl)
theorem dX1_steal_114 : decode cX1_steal 114 = .ok (.getfield 9, 3) := dk_180 0 9 (dk_at dksX1_steal_4 21 rfl rfl)
theorem dX1_steal_117 : decode cX1_steal 117 = .ok (.iload_n 3, 1) := dk_29 (dk_at dksX1_steal_5 0 rfl rfl)
theorem dX1_steal_118 : decode cX1_steal 118 = .ok (.iaload, 1) := dk_46 (dk_at dksX1_steal_5 1 rfl rfl)
theorem dX1_steal_119 : decode cX1_steal 119 = .ok (.iload_n 1, 1) := dk_27 (dk_at dksX1_steal_5 2 rfl rfl)
theorem dX1_steal_120 : decode cX1_steal 120 = .ok (.if_icmp .ne 68, 3) := dk_160 0 68 (dk_at dksX1_steal_5 3 rfl rfl)
theorem dX1_steal_123 : decode cX1_steal 123 = .ok (.aload_n 0, 1) := dk_42 (dk_at dksX1_steal_5 6 rfl rfl)
theorem dX1_steal_124 : decode cX1_steal 124 = .ok (.iload_n 3, 1) := dk_29 (dk_at dksX1_steal_5 7 rfl rfl)
theorem dX1_steal_125 : decode cX1_steal 125 = .ok (.invokevirtual 232, 3) := dk_182 0 232 (dk_at dksX1_steal_5 8 rfl rfl)
theorem dX1_steal_128 : decode cX1_steal 128 = .ok (.ifCond .ne 60, 3) := dk_154 0 60 (dk_at dksX1_steal_5 11 rfl rfl)
theorem dX1_steal_131 : decode cX1_steal 131 = .ok (.iload_n 2, 1) := dk_28 (dk_at dksX1_steal_5 14 rfl rfl)
theorem dX1_steal_132 : decode cX1_steal 132 = .ok (.ifCond .le 56, 3) := dk_158 0 56 (dk_at dksX1_steal_5 15 rfl rfl)
theorem dX1_steal_135 : decode cX1_steal 135 = .ok (.aload_n 0, 1) := dk_42 (dk_at dksX1_steal_5 18 rfl rfl)
theorem dX1_steal_136 : decode cX1_steal 136 = .ok (.iload_n 3, 1) := dk_29 (dk_at dksX1_steal_5 19 rfl rfl)
theorem dX1_steal_137 : decode cX1_steal 137 = .ok (.invokevirtual 283, 3) := dk_182 1 27 (dk_at dksX1_steal_5 20 rfl rfl)
theorem dX1_steal_140 : decode cX1_steal 140 = .ok (.istore 4, 2) := dk_54 4 (dk_at dksX1_steal_6 0 rfl rfl)
theorem dX1_steal_142 : decode cX1_steal 142 = .ok (.aload_n 0, 1) := dk_42 (dk_at dksX1_steal_6 2 rfl rfl)
theorem dX1_steal_143 : decode cX1_steal 143 = .ok (.iload_n 3, 1) := dk_29 (dk_at dksX1_steal_6 3 rfl rfl)
theorem dX1_steal_144 : decode cX1_steal 144 = .ok (.aload_n 0, 1) := dk_42 (dk_at dksX1_steal_6 4 rfl rfl)
theorem dX1_steal_145 : decode cX1_steal 145 = .ok (.getfield 30, 3) := dk_180 0 30 (dk_at dksX1_steal_6 5 rfl rfl)
theorem dX1_steal_148 : decode cX1_steal 148 = .ok (.iload_n 3, 1) := dk_29 (dk_at dksX1_steal_6 8 rfl rfl)
theorem dX1_steal_149 : decode cX1_steal 149 = .ok (.iaload, 1) := dk_46 (dk_at dksX1_steal_6 9 rfl rfl)
theorem dX1_steal_150 : decode cX1_steal 150 = .ok (.iconst 1, 1) := dk_4 (dk_at dksX1_steal_6 10 rfl rfl)
theorem dX1_steal_151 : decode cX1_steal 151 = .ok (.isub, 1) := dk_100 (dk_at dksX1_steal_6 11 rfl rfl)
theorem dX1_steal_152 : decode cX1_steal 152 = .ok (.invokevirtual 286, 3) := dk_182 1 30 (dk_at dksX1_steal_6 12 rfl rfl)
theorem dX1_steal_155 : decode cX1_steal 155 = .ok (.iload_n 2, 1) := dk_28 (dk_at dksX1_steal_6 15 rfl rfl)
theorem dX1_steal_156 : decode cX1_steal 156 = .ok (.iload 4, 2) := dk_21 4 (dk_at dksX1_steal_6 16 rfl rfl)
theorem dX1_steal_158 : decode cX1_steal 158 = .ok (.aload_n 0, 1) := dk_42 (dk_at dksX1_steal_6 18 rfl rfl)
theorem dX1_steal_159 : decode cX1_steal 159 = .ok (.iload_n 3, 1) := dk_29 (dk_at dksX1_steal_6 19 rfl rfl)
theorem dX1_steal_160 : decode cX1_steal 160 = .ok (.invokevirtual 283, 3) := dk_182 1 27 (dk_at dksX1_steal_6 20 rfl rfl)
theorem dX1_steal_163 : decode cX1_steal 163 = .ok (.isub, 1) := dk_100 (dk_at dksX1_steal_6 23 rfl rfl)
theorem dX1_steal_164 : decode cX1_steal 164 = .ok (.isub, 1) := dk_100 (dk_at dksX1_steal_7 0 rfl rfl)
theorem dX1_steal_165 : decode cX1_steal 165 = .ok (.istore_n 2, 1) := dk_61 (dk_at dksX1_steal_7 1 rfl rfl)
theorem dX1_steal_166 : decode cX1_steal 166 = .ok (.aload_n 0, 1) := dk_42 (dk_at dksX1_steal_7 2 rfl rfl)
theorem dX1_steal_167 : decode cX1_steal 167 = .ok (.getfield 85, 3) := dk_180 0 85 (dk_at dksX1_steal_7 3 rfl rfl)
theorem dX1_steal_170 : decode cX1_steal 170 = .ok (.bipush 6, 2) := dk_16 6 (dk_at dksX1_steal_7 6 rfl rfl)
theorem dX1_steal_172 : decode cX1_steal 172 = .ok (.dup2, 1) := dk_92 (dk_at dksX1_steal_7 8 rfl rfl)
theorem dX1_steal_173 : decode cX1_steal 173 = .ok (.laload, 1) := dk_47 (dk_at dksX1_steal_7 9 rfl rfl)
theorem dX1_steal_174 : decode cX1_steal 174 = .ok (.iload 4, 2) := dk_21 4 (dk_at dksX1_steal_7 10 rfl rfl)
theorem dX1_steal_176 : decode cX1_steal 176 = .ok (.aload_n 0, 1) := dk_42 (dk_at dksX1_steal_7 12 rfl rfl)
theorem dX1_steal_177 : decode cX1_steal 177 = .ok (.iload_n 3, 1) := dk_29 (dk_at dksX1_steal_7 13 rfl rfl)
theorem dX1_steal_178 : decode cX1_steal 178 = .ok (.invokevirtual 283, 3) := dk_182 1 27 (dk_at dksX1_steal_7 14 rfl rfl)
theorem dX1_steal_181 : decode cX1_steal 181 = .ok (.isub, 1) := dk_100 (dk_at dksX1_steal_7 17 rfl rfl)
theorem dX1_steal_182 : decode cX1_steal 182 = .ok (.i2l, 1) := dk_133 (dk_at dksX1_steal_7 18 rfl rfl)
theorem dX1_steal_183 : decode cX1_steal 183 = .ok (.ladd, 1) := dk_97 (dk_at dksX1_steal_7 19 rfl rfl)
theorem dX1_steal_184 : decode cX1_steal 184 = .ok (.lastore, 1) := dk_80 (dk_at dksX1_steal_7 20 rfl rfl)
theorem dX1_steal_185 : decode cX1_steal 185 = .ok (.goto (-72), 3) := dk_167 255 184 (dk_at dksX1_steal_7 21 rfl rfl)
theorem dX1_steal_188 : decode cX1_steal 188 = .ok (.iinc 3 1, 3) := dk_132 3 1 (dk_at dksX1_steal_8 0 rfl rfl)
theorem dX1_steal_191 : decode cX1_steal 191 = .ok (.goto (-90), 3) := dk_167 255 166 (dk_at dksX1_steal_8 3 rfl rfl)
theorem dX1_steal_194 : decode cX1_steal 194 = .ok (.return_, 1) := dk_177 (dk_at dksX1_steal_8 6 rfl rfl)
abbrev cX1_count : ByteArray := prog_4_method_40_code
def yX1_count : MethodName := ⟨RX1, "count", "(II)I"⟩
def dkwX1_count_10 : List UInt8 := [42, 180, 0, 125, 21, 7, 5, 96, 46, 172]
abbrev dktX1_count_10 : List UInt8 := dkwX1_count_10 ++ []
def dkwX1_count_9 : List UInt8 := [21, 7, 7, 96, 21, 6, 42, 180, 0, 24, 27, 46, 104, 79, 42, 180, 0, 122, 27, 92, 46, 4, 96, 79]
abbrev dktX1_count_9 : List UInt8 := dkwX1_count_9 ++ dktX1_count_10
def dkwX1_count_8 : List UInt8 := [136, 79, 42, 180, 0, 125, 21, 7, 6, 96, 21, 5, 42, 180, 0, 24, 27, 46, 104, 79, 42, 180, 0, 125]
abbrev dktX1_count_8 : List UInt8 := dkwX1_count_8 ++ dktX1_count_9
def dkwX1_count_7 : List UInt8 := [46, 79, 42, 180, 0, 125, 21, 7, 5, 96, 21, 4, 133, 42, 180, 0, 24, 27, 46, 133, 105, 28, 133, 109]
abbrev dktX1_count_7 : List UInt8 := dkwX1_count_7 ++ dktX1_count_8
def dkwX1_count_6 : List UInt8 := [42, 180, 0, 125, 21, 7, 42, 180, 0, 142, 79, 42, 180, 0, 125, 21, 7, 4, 96, 42, 180, 0, 27, 27]
abbrev dktX1_count_6 : List UInt8 := dkwX1_count_6 ++ dktX1_count_7
def dkwX1_count_5 : List UInt8 := [180, 0, 122, 27, 92, 46, 4, 100, 79, 8, 16, 8, 27, 104, 42, 180, 0, 122, 27, 46, 96, 104, 54, 7]
abbrev dktX1_count_5 : List UInt8 := dkwX1_count_5 ++ dktX1_count_6
def dkwX1_count_4 : List UInt8 := [27, 104, 54, 7, 42, 180, 0, 125, 21, 7, 8, 96, 42, 180, 0, 125, 21, 7, 16, 35, 184, 0, 156, 42]
abbrev dktX1_count_4 : List UInt8 := dkwX1_count_4 ++ dktX1_count_5
def dkwX1_count_3 : List UInt8 := [184, 0, 220, 54, 6, 132, 7, 1, 167, 255, 206, 42, 180, 0, 122, 27, 46, 16, 8, 160, 0, 38, 16, 40]
abbrev dktX1_count_3 : List UInt8 := dkwX1_count_3 ++ dktX1_count_4
def dkwX1_count_2 : List UInt8 := [54, 8, 21, 4, 21, 8, 96, 54, 4, 21, 5, 21, 8, 184, 0, 189, 54, 5, 21, 6, 21, 8]
abbrev dktX1_count_2 : List UInt8 := dkwX1_count_2 ++ dktX1_count_3
def dkwX1_count_1 : List UInt8 := [3, 54, 7, 21, 7, 28, 162, 0, 50, 29, 16, 50, 42, 16, 101, 182, 1, 62, 96, 104, 16, 100, 108]
abbrev dktX1_count_1 : List UInt8 := dkwX1_count_1 ++ dktX1_count_2
def dkwX1_count_0 : List UInt8 := [42, 27, 182, 1, 27, 42, 180, 0, 24, 27, 46, 108, 62, 3, 54, 4, 19, 1, 61, 54, 5, 3, 54, 6]
abbrev dktX1_count_0 : List UInt8 := dkwX1_count_0 ++ dktX1_count_1
theorem dksX1_count_0 : cX1_count.data.toList.drop 0 = dktX1_count_0 := by decide +kernel
theorem dksX1_count_1 : cX1_count.data.toList.drop 24 = dktX1_count_1 := dk_seg dksX1_count_0 24 rfl rfl
theorem dksX1_count_2 : cX1_count.data.toList.drop 47 = dktX1_count_2 := dk_seg dksX1_count_1 23 rfl rfl
theorem dksX1_count_3 : cX1_count.data.toList.drop 69 = dktX1_count_3 := dk_seg dksX1_count_2 22 rfl rfl
theorem dksX1_count_4 : cX1_count.data.toList.drop 93 = dktX1_count_4 := dk_seg dksX1_count_3 24 rfl rfl
theorem dksX1_count_5 : cX1_count.data.toList.drop 117 = dktX1_count_5 := dk_seg dksX1_count_4 24 rfl rfl
theorem dksX1_count_6 : cX1_count.data.toList.drop 141 = dktX1_count_6 := dk_seg dksX1_count_5 24 rfl rfl
theorem dksX1_count_7 : cX1_count.data.toList.drop 165 = dktX1_count_7 := dk_seg dksX1_count_6 24 rfl rfl
theorem dksX1_count_8 : cX1_count.data.toList.drop 189 = dktX1_count_8 := dk_seg dksX1_count_7 24 rfl rfl
theorem dksX1_count_9 : cX1_count.data.toList.drop 213 = dktX1_count_9 := dk_seg dksX1_count_8 24 rfl rfl
theorem dksX1_count_10 : cX1_count.data.toList.drop 237 = dktX1_count_10 := dk_seg dksX1_count_9 24 rfl rfl
theorem dX1_count_0 : decode cX1_count 0 = .ok (.aload_n 0, 1) := dk_42 (dk_at dksX1_count_0 0 rfl rfl)
theorem dX1_count_1 : decode cX1_count 1 = .ok (.iload_n 1, 1) := dk_27 (dk_at dksX1_count_0 1 rfl rfl)
theorem dX1_count_2 : decode cX1_count 2 = .ok (.invokevirtual 283, 3) := dk_182 1 27 (dk_at dksX1_count_0 2 rfl rfl)
theorem dX1_count_5 : decode cX1_count 5 = .ok (.aload_n 0, 1) := dk_42 (dk_at dksX1_count_0 5 rfl rfl)
theorem dX1_count_6 : decode cX1_count 6 = .ok (.getfield 24, 3) := dk_180 0 24 (dk_at dksX1_count_0 6 rfl rfl)
theorem dX1_count_9 : decode cX1_count 9 = .ok (.iload_n 1, 1) := dk_27 (dk_at dksX1_count_0 9 rfl rfl)
theorem dX1_count_10 : decode cX1_count 10 = .ok (.iaload, 1) := dk_46 (dk_at dksX1_count_0 10 rfl rfl)
theorem dX1_count_11 : decode cX1_count 11 = .ok (.idiv, 1) := dk_108 (dk_at dksX1_count_0 11 rfl rfl)
theorem dX1_count_12 : decode cX1_count 12 = .ok (.istore_n 3, 1) := dk_62 (dk_at dksX1_count_0 12 rfl rfl)
theorem dX1_count_13 : decode cX1_count 13 = .ok (.iconst 0, 1) := dk_3 (dk_at dksX1_count_0 13 rfl rfl)
theorem dX1_count_14 : decode cX1_count 14 = .ok (.istore 4, 2) := dk_54 4 (dk_at dksX1_count_0 14 rfl rfl)
theorem dX1_count_16 : decode cX1_count 16 = .ok (.ldc_w 317, 3) := dk_19 1 61 (dk_at dksX1_count_0 16 rfl rfl)
theorem dX1_count_19 : decode cX1_count 19 = .ok (.istore 5, 2) := dk_54 5 (dk_at dksX1_count_0 19 rfl rfl)
theorem dX1_count_21 : decode cX1_count 21 = .ok (.iconst 0, 1) := dk_3 (dk_at dksX1_count_0 21 rfl rfl)
theorem dX1_count_22 : decode cX1_count 22 = .ok (.istore 6, 2) := dk_54 6 (dk_at dksX1_count_0 22 rfl rfl)
theorem dX1_count_24 : decode cX1_count 24 = .ok (.iconst 0, 1) := dk_3 (dk_at dksX1_count_1 0 rfl rfl)
theorem dX1_count_25 : decode cX1_count 25 = .ok (.istore 7, 2) := dk_54 7 (dk_at dksX1_count_1 1 rfl rfl)
theorem dX1_count_27 : decode cX1_count 27 = .ok (.iload 7, 2) := dk_21 7 (dk_at dksX1_count_1 3 rfl rfl)
theorem dX1_count_29 : decode cX1_count 29 = .ok (.iload_n 2, 1) := dk_28 (dk_at dksX1_count_1 5 rfl rfl)
theorem dX1_count_30 : decode cX1_count 30 = .ok (.if_icmp .ge 50, 3) := dk_162 0 50 (dk_at dksX1_count_1 6 rfl rfl)
theorem dX1_count_33 : decode cX1_count 33 = .ok (.iload_n 3, 1) := dk_29 (dk_at dksX1_count_1 9 rfl rfl)
theorem dX1_count_34 : decode cX1_count 34 = .ok (.bipush 50, 2) := dk_16 50 (dk_at dksX1_count_1 10 rfl rfl)
theorem dX1_count_36 : decode cX1_count 36 = .ok (.aload_n 0, 1) := dk_42 (dk_at dksX1_count_1 12 rfl rfl)
theorem dX1_count_37 : decode cX1_count 37 = .ok (.bipush 101, 2) := dk_16 101 (dk_at dksX1_count_1 13 rfl rfl)
theorem dX1_count_39 : decode cX1_count 39 = .ok (.invokevirtual 318, 3) := dk_182 1 62 (dk_at dksX1_count_1 15 rfl rfl)
theorem dX1_count_42 : decode cX1_count 42 = .ok (.iadd, 1) := dk_96 (dk_at dksX1_count_1 18 rfl rfl)
theorem dX1_count_43 : decode cX1_count 43 = .ok (.imul, 1) := dk_104 (dk_at dksX1_count_1 19 rfl rfl)
theorem dX1_count_44 : decode cX1_count 44 = .ok (.bipush 100, 2) := dk_16 100 (dk_at dksX1_count_1 20 rfl rfl)
theorem dX1_count_46 : decode cX1_count 46 = .ok (.idiv, 1) := dk_108 (dk_at dksX1_count_1 22 rfl rfl)
theorem dX1_count_47 : decode cX1_count 47 = .ok (.istore 8, 2) := dk_54 8 (dk_at dksX1_count_2 0 rfl rfl)
theorem dX1_count_49 : decode cX1_count 49 = .ok (.iload 4, 2) := dk_21 4 (dk_at dksX1_count_2 2 rfl rfl)
theorem dX1_count_51 : decode cX1_count 51 = .ok (.iload 8, 2) := dk_21 8 (dk_at dksX1_count_2 4 rfl rfl)
theorem dX1_count_53 : decode cX1_count 53 = .ok (.iadd, 1) := dk_96 (dk_at dksX1_count_2 6 rfl rfl)
theorem dX1_count_54 : decode cX1_count 54 = .ok (.istore 4, 2) := dk_54 4 (dk_at dksX1_count_2 7 rfl rfl)
theorem dX1_count_56 : decode cX1_count 56 = .ok (.iload 5, 2) := dk_21 5 (dk_at dksX1_count_2 9 rfl rfl)
theorem dX1_count_58 : decode cX1_count 58 = .ok (.iload 8, 2) := dk_21 8 (dk_at dksX1_count_2 11 rfl rfl)
theorem dX1_count_60 : decode cX1_count 60 = .ok (.invokestatic 189, 3) := dk_184 0 189 (dk_at dksX1_count_2 13 rfl rfl)
theorem dX1_count_63 : decode cX1_count 63 = .ok (.istore 5, 2) := dk_54 5 (dk_at dksX1_count_2 16 rfl rfl)
theorem dX1_count_65 : decode cX1_count 65 = .ok (.iload 6, 2) := dk_21 6 (dk_at dksX1_count_2 18 rfl rfl)
theorem dX1_count_67 : decode cX1_count 67 = .ok (.iload 8, 2) := dk_21 8 (dk_at dksX1_count_2 20 rfl rfl)
theorem dX1_count_69 : decode cX1_count 69 = .ok (.invokestatic 220, 3) := dk_184 0 220 (dk_at dksX1_count_3 0 rfl rfl)
theorem dX1_count_72 : decode cX1_count 72 = .ok (.istore 6, 2) := dk_54 6 (dk_at dksX1_count_3 3 rfl rfl)
theorem dX1_count_74 : decode cX1_count 74 = .ok (.iinc 7 1, 3) := dk_132 7 1 (dk_at dksX1_count_3 5 rfl rfl)
theorem dX1_count_77 : decode cX1_count 77 = .ok (.goto (-50), 3) := dk_167 255 206 (dk_at dksX1_count_3 8 rfl rfl)
theorem dX1_count_80 : decode cX1_count 80 = .ok (.aload_n 0, 1) := dk_42 (dk_at dksX1_count_3 11 rfl rfl)
theorem dX1_count_81 : decode cX1_count 81 = .ok (.getfield 122, 3) := dk_180 0 122 (dk_at dksX1_count_3 12 rfl rfl)
theorem dX1_count_84 : decode cX1_count 84 = .ok (.iload_n 1, 1) := dk_27 (dk_at dksX1_count_3 15 rfl rfl)
theorem dX1_count_85 : decode cX1_count 85 = .ok (.iaload, 1) := dk_46 (dk_at dksX1_count_3 16 rfl rfl)
theorem dX1_count_86 : decode cX1_count 86 = .ok (.bipush 8, 2) := dk_16 8 (dk_at dksX1_count_3 17 rfl rfl)
theorem dX1_count_88 : decode cX1_count 88 = .ok (.if_icmp .ne 38, 3) := dk_160 0 38 (dk_at dksX1_count_3 19 rfl rfl)
theorem dX1_count_91 : decode cX1_count 91 = .ok (.bipush 40, 2) := dk_16 40 (dk_at dksX1_count_3 22 rfl rfl)
theorem dX1_count_93 : decode cX1_count 93 = .ok (.iload_n 1, 1) := dk_27 (dk_at dksX1_count_4 0 rfl rfl)
theorem dX1_count_94 : decode cX1_count 94 = .ok (.imul, 1) := dk_104 (dk_at dksX1_count_4 1 rfl rfl)
theorem dX1_count_95 : decode cX1_count 95 = .ok (.istore 7, 2) := dk_54 7 (dk_at dksX1_count_4 2 rfl rfl)
theorem dX1_count_97 : decode cX1_count 97 = .ok (.aload_n 0, 1) := dk_42 (dk_at dksX1_count_4 4 rfl rfl)
theorem dX1_count_98 : decode cX1_count 98 = .ok (.getfield 125, 3) := dk_180 0 125 (dk_at dksX1_count_4 5 rfl rfl)
theorem dX1_count_101 : decode cX1_count 101 = .ok (.iload 7, 2) := dk_21 7 (dk_at dksX1_count_4 8 rfl rfl)
theorem dX1_count_103 : decode cX1_count 103 = .ok (.iconst 5, 1) := dk_8 (dk_at dksX1_count_4 10 rfl rfl)
theorem dX1_count_104 : decode cX1_count 104 = .ok (.iadd, 1) := dk_96 (dk_at dksX1_count_4 11 rfl rfl)
theorem dX1_count_105 : decode cX1_count 105 = .ok (.aload_n 0, 1) := dk_42 (dk_at dksX1_count_4 12 rfl rfl)
theorem dX1_count_106 : decode cX1_count 106 = .ok (.getfield 125, 3) := dk_180 0 125 (dk_at dksX1_count_4 13 rfl rfl)
theorem dX1_count_109 : decode cX1_count 109 = .ok (.iload 7, 2) := dk_21 7 (dk_at dksX1_count_4 16 rfl rfl)
theorem dX1_count_111 : decode cX1_count 111 = .ok (.bipush 35, 2) := dk_16 35 (dk_at dksX1_count_4 18 rfl rfl)
theorem dX1_count_113 : decode cX1_count 113 = .ok (.invokestatic 156, 3) := dk_184 0 156 (dk_at dksX1_count_4 20 rfl rfl)
theorem dX1_count_116 : decode cX1_count 116 = .ok (.aload_n 0, 1) := dk_42 (dk_at dksX1_count_4 23 rfl rfl)
theorem dX1_count_117 : decode cX1_count 117 = .ok (.getfield 122, 3) := dk_180 0 122 (dk_at dksX1_count_5 0 rfl rfl)
theorem dX1_count_120 : decode cX1_count 120 = .ok (.iload_n 1, 1) := dk_27 (dk_at dksX1_count_5 3 rfl rfl)
theorem dX1_count_121 : decode cX1_count 121 = .ok (.dup2, 1) := dk_92 (dk_at dksX1_count_5 4 rfl rfl)
theorem dX1_count_122 : decode cX1_count 122 = .ok (.iaload, 1) := dk_46 (dk_at dksX1_count_5 5 rfl rfl)
theorem dX1_count_123 : decode cX1_count 123 = .ok (.iconst 1, 1) := dk_4 (dk_at dksX1_count_5 6 rfl rfl)
theorem dX1_count_124 : decode cX1_count 124 = .ok (.isub, 1) := dk_100 (dk_at dksX1_count_5 7 rfl rfl)
theorem dX1_count_125 : decode cX1_count 125 = .ok (.iastore, 1) := dk_79 (dk_at dksX1_count_5 8 rfl rfl)
theorem dX1_count_126 : decode cX1_count 126 = .ok (.iconst 5, 1) := dk_8 (dk_at dksX1_count_5 9 rfl rfl)
theorem dX1_count_127 : decode cX1_count 127 = .ok (.bipush 8, 2) := dk_16 8 (dk_at dksX1_count_5 10 rfl rfl)
theorem dX1_count_129 : decode cX1_count 129 = .ok (.iload_n 1, 1) := dk_27 (dk_at dksX1_count_5 12 rfl rfl)
theorem dX1_count_130 : decode cX1_count 130 = .ok (.imul, 1) := dk_104 (dk_at dksX1_count_5 13 rfl rfl)
theorem dX1_count_131 : decode cX1_count 131 = .ok (.aload_n 0, 1) := dk_42 (dk_at dksX1_count_5 14 rfl rfl)
theorem dX1_count_132 : decode cX1_count 132 = .ok (.getfield 122, 3) := dk_180 0 122 (dk_at dksX1_count_5 15 rfl rfl)
theorem dX1_count_135 : decode cX1_count 135 = .ok (.iload_n 1, 1) := dk_27 (dk_at dksX1_count_5 18 rfl rfl)
theorem dX1_count_136 : decode cX1_count 136 = .ok (.iaload, 1) := dk_46 (dk_at dksX1_count_5 19 rfl rfl)
theorem dX1_count_137 : decode cX1_count 137 = .ok (.iadd, 1) := dk_96 (dk_at dksX1_count_5 20 rfl rfl)
theorem dX1_count_138 : decode cX1_count 138 = .ok (.imul, 1) := dk_104 (dk_at dksX1_count_5 21 rfl rfl)
theorem dX1_count_139 : decode cX1_count 139 = .ok (.istore 7, 2) := dk_54 7 (dk_at dksX1_count_5 22 rfl rfl)
theorem dX1_count_141 : decode cX1_count 141 = .ok (.aload_n 0, 1) := dk_42 (dk_at dksX1_count_6 0 rfl rfl)
theorem dX1_count_142 : decode cX1_count 142 = .ok (.getfield 125, 3) := dk_180 0 125 (dk_at dksX1_count_6 1 rfl rfl)
theorem dX1_count_145 : decode cX1_count 145 = .ok (.iload 7, 2) := dk_21 7 (dk_at dksX1_count_6 4 rfl rfl)
theorem dX1_count_147 : decode cX1_count 147 = .ok (.aload_n 0, 1) := dk_42 (dk_at dksX1_count_6 6 rfl rfl)
theorem dX1_count_148 : decode cX1_count 148 = .ok (.getfield 142, 3) := dk_180 0 142 (dk_at dksX1_count_6 7 rfl rfl)
theorem dX1_count_151 : decode cX1_count 151 = .ok (.iastore, 1) := dk_79 (dk_at dksX1_count_6 10 rfl rfl)
theorem dX1_count_152 : decode cX1_count 152 = .ok (.aload_n 0, 1) := dk_42 (dk_at dksX1_count_6 11 rfl rfl)
theorem dX1_count_153 : decode cX1_count 153 = .ok (.getfield 125, 3) := dk_180 0 125 (dk_at dksX1_count_6 12 rfl rfl)
theorem dX1_count_156 : decode cX1_count 156 = .ok (.iload 7, 2) := dk_21 7 (dk_at dksX1_count_6 15 rfl rfl)
theorem dX1_count_158 : decode cX1_count 158 = .ok (.iconst 1, 1) := dk_4 (dk_at dksX1_count_6 17 rfl rfl)
theorem dX1_count_159 : decode cX1_count 159 = .ok (.iadd, 1) := dk_96 (dk_at dksX1_count_6 18 rfl rfl)
theorem dX1_count_160 : decode cX1_count 160 = .ok (.aload_n 0, 1) := dk_42 (dk_at dksX1_count_6 19 rfl rfl)
theorem dX1_count_161 : decode cX1_count 161 = .ok (.getfield 27, 3) := dk_180 0 27 (dk_at dksX1_count_6 20 rfl rfl)
theorem dX1_count_164 : decode cX1_count 164 = .ok (.iload_n 1, 1) := dk_27 (dk_at dksX1_count_6 23 rfl rfl)
theorem dX1_count_165 : decode cX1_count 165 = .ok (.iaload, 1) := dk_46 (dk_at dksX1_count_7 0 rfl rfl)
theorem dX1_count_166 : decode cX1_count 166 = .ok (.iastore, 1) := dk_79 (dk_at dksX1_count_7 1 rfl rfl)
theorem dX1_count_167 : decode cX1_count 167 = .ok (.aload_n 0, 1) := dk_42 (dk_at dksX1_count_7 2 rfl rfl)
theorem dX1_count_168 : decode cX1_count 168 = .ok (.getfield 125, 3) := dk_180 0 125 (dk_at dksX1_count_7 3 rfl rfl)
theorem dX1_count_171 : decode cX1_count 171 = .ok (.iload 7, 2) := dk_21 7 (dk_at dksX1_count_7 6 rfl rfl)
theorem dX1_count_173 : decode cX1_count 173 = .ok (.iconst 2, 1) := dk_5 (dk_at dksX1_count_7 8 rfl rfl)
theorem dX1_count_174 : decode cX1_count 174 = .ok (.iadd, 1) := dk_96 (dk_at dksX1_count_7 9 rfl rfl)
theorem dX1_count_175 : decode cX1_count 175 = .ok (.iload 4, 2) := dk_21 4 (dk_at dksX1_count_7 10 rfl rfl)
theorem dX1_count_177 : decode cX1_count 177 = .ok (.i2l, 1) := dk_133 (dk_at dksX1_count_7 12 rfl rfl)
theorem dX1_count_178 : decode cX1_count 178 = .ok (.aload_n 0, 1) := dk_42 (dk_at dksX1_count_7 13 rfl rfl)
theorem dX1_count_179 : decode cX1_count 179 = .ok (.getfield 24, 3) := dk_180 0 24 (dk_at dksX1_count_7 14 rfl rfl)
theorem dX1_count_182 : decode cX1_count 182 = .ok (.iload_n 1, 1) := dk_27 (dk_at dksX1_count_7 17 rfl rfl)
theorem dX1_count_183 : decode cX1_count 183 = .ok (.iaload, 1) := dk_46 (dk_at dksX1_count_7 18 rfl rfl)
theorem dX1_count_184 : decode cX1_count 184 = .ok (.i2l, 1) := dk_133 (dk_at dksX1_count_7 19 rfl rfl)
theorem dX1_count_185 : decode cX1_count 185 = .ok (.lmul, 1) := dk_105 (dk_at dksX1_count_7 20 rfl rfl)
theorem dX1_count_186 : decode cX1_count 186 = .ok (.iload_n 2, 1) := dk_28 (dk_at dksX1_count_7 21 rfl rfl)
theorem dX1_count_187 : decode cX1_count 187 = .ok (.i2l, 1) := dk_133 (dk_at dksX1_count_7 22 rfl rfl)
theorem dX1_count_188 : decode cX1_count 188 = .ok (.ldiv, 1) := dk_109 (dk_at dksX1_count_7 23 rfl rfl)
theorem dX1_count_189 : decode cX1_count 189 = .ok (.l2i, 1) := dk_136 (dk_at dksX1_count_8 0 rfl rfl)
theorem dX1_count_190 : decode cX1_count 190 = .ok (.iastore, 1) := dk_79 (dk_at dksX1_count_8 1 rfl rfl)
theorem dX1_count_191 : decode cX1_count 191 = .ok (.aload_n 0, 1) := dk_42 (dk_at dksX1_count_8 2 rfl rfl)
theorem dX1_count_192 : decode cX1_count 192 = .ok (.getfield 125, 3) := dk_180 0 125 (dk_at dksX1_count_8 3 rfl rfl)
theorem dX1_count_195 : decode cX1_count 195 = .ok (.iload 7, 2) := dk_21 7 (dk_at dksX1_count_8 6 rfl rfl)
theorem dX1_count_197 : decode cX1_count 197 = .ok (.iconst 3, 1) := dk_6 (dk_at dksX1_count_8 8 rfl rfl)
theorem dX1_count_198 : decode cX1_count 198 = .ok (.iadd, 1) := dk_96 (dk_at dksX1_count_8 9 rfl rfl)
theorem dX1_count_199 : decode cX1_count 199 = .ok (.iload 5, 2) := dk_21 5 (dk_at dksX1_count_8 10 rfl rfl)
theorem dX1_count_201 : decode cX1_count 201 = .ok (.aload_n 0, 1) := dk_42 (dk_at dksX1_count_8 12 rfl rfl)
theorem dX1_count_202 : decode cX1_count 202 = .ok (.getfield 24, 3) := dk_180 0 24 (dk_at dksX1_count_8 13 rfl rfl)
theorem dX1_count_205 : decode cX1_count 205 = .ok (.iload_n 1, 1) := dk_27 (dk_at dksX1_count_8 16 rfl rfl)
theorem dX1_count_206 : decode cX1_count 206 = .ok (.iaload, 1) := dk_46 (dk_at dksX1_count_8 17 rfl rfl)
theorem dX1_count_207 : decode cX1_count 207 = .ok (.imul, 1) := dk_104 (dk_at dksX1_count_8 18 rfl rfl)
theorem dX1_count_208 : decode cX1_count 208 = .ok (.iastore, 1) := dk_79 (dk_at dksX1_count_8 19 rfl rfl)
theorem dX1_count_209 : decode cX1_count 209 = .ok (.aload_n 0, 1) := dk_42 (dk_at dksX1_count_8 20 rfl rfl)
theorem dX1_count_210 : decode cX1_count 210 = .ok (.getfield 125, 3) := dk_180 0 125 (dk_at dksX1_count_8 21 rfl rfl)
theorem dX1_count_213 : decode cX1_count 213 = .ok (.iload 7, 2) := dk_21 7 (dk_at dksX1_count_9 0 rfl rfl)
theorem dX1_count_215 : decode cX1_count 215 = .ok (.iconst 4, 1) := dk_7 (dk_at dksX1_count_9 2 rfl rfl)
theorem dX1_count_216 : decode cX1_count 216 = .ok (.iadd, 1) := dk_96 (dk_at dksX1_count_9 3 rfl rfl)
theorem dX1_count_217 : decode cX1_count 217 = .ok (.iload 6, 2) := dk_21 6 (dk_at dksX1_count_9 4 rfl rfl)
theorem dX1_count_219 : decode cX1_count 219 = .ok (.aload_n 0, 1) := dk_42 (dk_at dksX1_count_9 6 rfl rfl)
theorem dX1_count_220 : decode cX1_count 220 = .ok (.getfield 24, 3) := dk_180 0 24 (dk_at dksX1_count_9 7 rfl rfl)
theorem dX1_count_223 : decode cX1_count 223 = .ok (.iload_n 1, 1) := dk_27 (dk_at dksX1_count_9 10 rfl rfl)
theorem dX1_count_224 : decode cX1_count 224 = .ok (.iaload, 1) := dk_46 (dk_at dksX1_count_9 11 rfl rfl)
theorem dX1_count_225 : decode cX1_count 225 = .ok (.imul, 1) := dk_104 (dk_at dksX1_count_9 12 rfl rfl)
theorem dX1_count_226 : decode cX1_count 226 = .ok (.iastore, 1) := dk_79 (dk_at dksX1_count_9 13 rfl rfl)
theorem dX1_count_227 : decode cX1_count 227 = .ok (.aload_n 0, 1) := dk_42 (dk_at dksX1_count_9 14 rfl rfl)
theorem dX1_count_228 : decode cX1_count 228 = .ok (.getfield 122, 3) := dk_180 0 122 (dk_at dksX1_count_9 15 rfl rfl)
theorem dX1_count_231 : decode cX1_count 231 = .ok (.iload_n 1, 1) := dk_27 (dk_at dksX1_count_9 18 rfl rfl)
theorem dX1_count_232 : decode cX1_count 232 = .ok (.dup2, 1) := dk_92 (dk_at dksX1_count_9 19 rfl rfl)
theorem dX1_count_233 : decode cX1_count 233 = .ok (.iaload, 1) := dk_46 (dk_at dksX1_count_9 20 rfl rfl)
theorem dX1_count_234 : decode cX1_count 234 = .ok (.iconst 1, 1) := dk_4 (dk_at dksX1_count_9 21 rfl rfl)
theorem dX1_count_235 : decode cX1_count 235 = .ok (.iadd, 1) := dk_96 (dk_at dksX1_count_9 22 rfl rfl)
theorem dX1_count_236 : decode cX1_count 236 = .ok (.iastore, 1) := dk_79 (dk_at dksX1_count_9 23 rfl rfl)
theorem dX1_count_237 : decode cX1_count 237 = .ok (.aload_n 0, 1) := dk_42 (dk_at dksX1_count_10 0 rfl rfl)
theorem dX1_count_238 : decode cX1_count 238 = .ok (.getfield 125, 3) := dk_180 0 125 (dk_at dksX1_count_10 1 rfl rfl)
theorem dX1_count_241 : decode cX1_count 241 = .ok (.iload 7, 2) := dk_21 7 (dk_at dksX1_count_10 4 rfl rfl)
theorem dX1_count_243 : decode cX1_count 243 = .ok (.iconst 2, 1) := dk_5 (dk_at dksX1_count_10 6 rfl rfl)
theorem dX1_count_244 : decode cX1_count 244 = .ok (.iadd, 1) := dk_96 (dk_at dksX1_count_10 7 rfl rfl)
theorem dX1_count_245 : decode cX1_count 245 = .ok (.iaload, 1) := dk_46 (dk_at dksX1_count_10 8 rfl rfl)
theorem dX1_count_246 : decode cX1_count 246 = .ok (.ireturn, 1) := dk_172 (dk_at dksX1_count_10 9 rfl rfl)
abbrev cX1_draw : ByteArray := prog_4_method_11_code
def yX1_draw : MethodName := ⟨RX1, "draw", "(I)I"⟩
def dkwX1_draw_1 : List UInt8 := [172]
abbrev dktX1_draw_1 : List UInt8 := dkwX1_draw_1 ++ []
def dkwX1_draw_0 : List UInt8 := [42, 42, 180, 0, 51, 18, 187, 104, 17, 48, 57, 96, 181, 0, 51, 42, 180, 0, 51, 16, 16, 124, 27, 112]
abbrev dktX1_draw_0 : List UInt8 := dkwX1_draw_0 ++ dktX1_draw_1
theorem dksX1_draw_0 : cX1_draw.data.toList.drop 0 = dktX1_draw_0 := by decide +kernel
theorem dksX1_draw_1 : cX1_draw.data.toList.drop 24 = dktX1_draw_1 := dk_seg dksX1_draw_0 24 rfl rfl
theorem dX1_draw_0 : decode cX1_draw 0 = .ok (.aload_n 0, 1) := dk_42 (dk_at dksX1_draw_0 0 rfl rfl)
theorem dX1_draw_1 : decode cX1_draw 1 = .ok (.aload_n 0, 1) := dk_42 (dk_at dksX1_draw_0 1 rfl rfl)
theorem dX1_draw_2 : decode cX1_draw 2 = .ok (.getfield 51, 3) := dk_180 0 51 (dk_at dksX1_draw_0 2 rfl rfl)
theorem dX1_draw_5 : decode cX1_draw 5 = .ok (.ldc 187, 2) := dk_18 187 (dk_at dksX1_draw_0 5 rfl rfl)
theorem dX1_draw_7 : decode cX1_draw 7 = .ok (.imul, 1) := dk_104 (dk_at dksX1_draw_0 7 rfl rfl)
theorem dX1_draw_8 : decode cX1_draw 8 = .ok (.sipush 12345, 3) := dk_17 48 57 (dk_at dksX1_draw_0 8 rfl rfl)
theorem dX1_draw_11 : decode cX1_draw 11 = .ok (.iadd, 1) := dk_96 (dk_at dksX1_draw_0 11 rfl rfl)
theorem dX1_draw_12 : decode cX1_draw 12 = .ok (.putfield 51, 3) := dk_181 0 51 (dk_at dksX1_draw_0 12 rfl rfl)
theorem dX1_draw_15 : decode cX1_draw 15 = .ok (.aload_n 0, 1) := dk_42 (dk_at dksX1_draw_0 15 rfl rfl)
theorem dX1_draw_16 : decode cX1_draw 16 = .ok (.getfield 51, 3) := dk_180 0 51 (dk_at dksX1_draw_0 16 rfl rfl)
theorem dX1_draw_19 : decode cX1_draw 19 = .ok (.bipush 16, 2) := dk_16 16 (dk_at dksX1_draw_0 19 rfl rfl)
theorem dX1_draw_21 : decode cX1_draw 21 = .ok (.iushr, 1) := dk_124 (dk_at dksX1_draw_0 21 rfl rfl)
theorem dX1_draw_22 : decode cX1_draw 22 = .ok (.iload_n 1, 1) := dk_27 (dk_at dksX1_draw_0 22 rfl rfl)
theorem dX1_draw_23 : decode cX1_draw 23 = .ok (.irem, 1) := dk_112 (dk_at dksX1_draw_0 23 rfl rfl)
theorem dX1_draw_24 : decode cX1_draw 24 = .ok (.ireturn, 1) := dk_172 (dk_at dksX1_draw_1 0 rfl rfl)
abbrev cX1_as : ByteArray := prog_4_method_2_code
def yX1_as : MethodName := ⟨RX1, "as", "(LWoodState$Forest;)V"⟩
def dkwX1_as_11 : List UInt8 := [184, 0, 156, 177]
abbrev dktX1_as_11 : List UInt8 := dkwX1_as_11 ++ []
def dkwX1_as_10 : List UInt8 := [180, 0, 122, 3, 16, 24, 184, 0, 156, 43, 180, 0, 125, 3, 42, 180, 0, 125, 3, 17, 3, 192]
abbrev dktX1_as_10 : List UInt8 := dkwX1_as_10 ++ dktX1_as_11
def dkwX1_as_9 : List UInt8 := [184, 0, 156, 43, 180, 0, 119, 3, 42, 180, 0, 119, 3, 16, 6, 184, 0, 156, 43, 180, 0, 122, 3, 42]
abbrev dktX1_as_9 : List UInt8 := dkwX1_as_9 ++ dktX1_as_10
def dkwX1_as_8 : List UInt8 := [3, 42, 180, 0, 113, 3, 16, 100, 184, 0, 156, 43, 180, 0, 116, 3, 42, 180, 0, 116, 3, 16, 6]
abbrev dktX1_as_8 : List UInt8 := dkwX1_as_8 ++ dktX1_as_9
def dkwX1_as_7 : List UInt8 := [16, 30, 184, 0, 156, 43, 180, 0, 110, 3, 42, 180, 0, 110, 3, 16, 12, 184, 0, 156, 43, 180, 0, 113]
abbrev dktX1_as_7 : List UInt8 := dkwX1_as_7 ++ dktX1_as_8
def dkwX1_as_6 : List UInt8 := [180, 0, 104, 3, 42, 180, 0, 104, 3, 16, 30, 184, 0, 156, 43, 180, 0, 107, 3, 42, 180, 0, 107, 3]
abbrev dktX1_as_6 : List UInt8 := dkwX1_as_6 ++ dktX1_as_7
def dkwX1_as_5 : List UInt8 := [180, 0, 165, 181, 0, 165, 43, 180, 0, 101, 3, 42, 180, 0, 101, 3, 16, 30, 184, 0, 156, 43]
abbrev dktX1_as_5 : List UInt8 := dkwX1_as_5 ++ dktX1_as_6
def dkwX1_as_4 : List UInt8 := [16, 16, 184, 0, 156, 43, 180, 0, 98, 3, 42, 180, 0, 98, 3, 16, 16, 184, 0, 156, 42, 43]
abbrev dktX1_as_4 : List UInt8 := dkwX1_as_4 ++ dktX1_as_5
def dkwX1_as_3 : List UInt8 := [180, 0, 91, 3, 42, 180, 0, 91, 3, 16, 16, 184, 0, 156, 43, 180, 0, 95, 3, 42, 180, 0, 95, 3]
abbrev dktX1_as_3 : List UInt8 := dkwX1_as_3 ++ dktX1_as_4
def dkwX1_as_2 : List UInt8 := [43, 180, 0, 85, 3, 42, 180, 0, 85, 3, 16, 8, 184, 0, 156, 42, 43, 180, 0, 162, 181, 0, 162, 43]
abbrev dktX1_as_2 : List UInt8 := dkwX1_as_2 ++ dktX1_as_3
def dkwX1_as_1 : List UInt8 := [162, 0, 24, 42, 180, 0, 81, 28, 50, 43, 180, 0, 81, 28, 50, 182, 0, 152, 132, 2, 1, 167, 255, 232]
abbrev dktX1_as_1 : List UInt8 := dkwX1_as_1 ++ dktX1_as_2
def dkwX1_as_0 : List UInt8 := [42, 43, 180, 0, 142, 181, 0, 142, 42, 43, 182, 0, 145, 42, 43, 182, 0, 149, 3, 61, 28, 16, 60]
abbrev dktX1_as_0 : List UInt8 := dkwX1_as_0 ++ dktX1_as_1
theorem dksX1_as_0 : cX1_as.data.toList.drop 0 = dktX1_as_0 := by decide +kernel
theorem dksX1_as_1 : cX1_as.data.toList.drop 23 = dktX1_as_1 := dk_seg dksX1_as_0 23 rfl rfl
theorem dksX1_as_2 : cX1_as.data.toList.drop 47 = dktX1_as_2 := dk_seg dksX1_as_1 24 rfl rfl
theorem dksX1_as_3 : cX1_as.data.toList.drop 71 = dktX1_as_3 := dk_seg dksX1_as_2 24 rfl rfl
theorem dksX1_as_4 : cX1_as.data.toList.drop 95 = dktX1_as_4 := dk_seg dksX1_as_3 24 rfl rfl
theorem dksX1_as_5 : cX1_as.data.toList.drop 117 = dktX1_as_5 := dk_seg dksX1_as_4 22 rfl rfl
theorem dksX1_as_6 : cX1_as.data.toList.drop 139 = dktX1_as_6 := dk_seg dksX1_as_5 22 rfl rfl
theorem dksX1_as_7 : cX1_as.data.toList.drop 163 = dktX1_as_7 := dk_seg dksX1_as_6 24 rfl rfl
theorem dksX1_as_8 : cX1_as.data.toList.drop 187 = dktX1_as_8 := dk_seg dksX1_as_7 24 rfl rfl
theorem dksX1_as_9 : cX1_as.data.toList.drop 210 = dktX1_as_9 := dk_seg dksX1_as_8 23 rfl rfl
theorem dksX1_as_10 : cX1_as.data.toList.drop 234 = dktX1_as_10 := dk_seg dksX1_as_9 24 rfl rfl
theorem dksX1_as_11 : cX1_as.data.toList.drop 256 = dktX1_as_11 := dk_seg dksX1_as_10 22 rfl rfl
theorem dX1_as_0 : decode cX1_as 0 = .ok (.aload_n 0, 1) := dk_42 (dk_at dksX1_as_0 0 rfl rfl)
theorem dX1_as_1 : decode cX1_as 1 = .ok (.aload_n 1, 1) := dk_43 (dk_at dksX1_as_0 1 rfl rfl)
theorem dX1_as_2 : decode cX1_as 2 = .ok (.getfield 142, 3) := dk_180 0 142 (dk_at dksX1_as_0 2 rfl rfl)
theorem dX1_as_5 : decode cX1_as 5 = .ok (.putfield 142, 3) := dk_181 0 142 (dk_at dksX1_as_0 5 rfl rfl)
theorem dX1_as_8 : decode cX1_as 8 = .ok (.aload_n 0, 1) := dk_42 (dk_at dksX1_as_0 8 rfl rfl)
theorem dX1_as_9 : decode cX1_as 9 = .ok (.aload_n 1, 1) := dk_43 (dk_at dksX1_as_0 9 rfl rfl)
theorem dX1_as_10 : decode cX1_as 10 = .ok (.invokevirtual 145, 3) := dk_182 0 145 (dk_at dksX1_as_0 10 rfl rfl)
theorem dX1_as_13 : decode cX1_as 13 = .ok (.aload_n 0, 1) := dk_42 (dk_at dksX1_as_0 13 rfl rfl)
theorem dX1_as_14 : decode cX1_as 14 = .ok (.aload_n 1, 1) := dk_43 (dk_at dksX1_as_0 14 rfl rfl)
theorem dX1_as_15 : decode cX1_as 15 = .ok (.invokevirtual 149, 3) := dk_182 0 149 (dk_at dksX1_as_0 15 rfl rfl)
theorem dX1_as_18 : decode cX1_as 18 = .ok (.iconst 0, 1) := dk_3 (dk_at dksX1_as_0 18 rfl rfl)
theorem dX1_as_19 : decode cX1_as 19 = .ok (.istore_n 2, 1) := dk_61 (dk_at dksX1_as_0 19 rfl rfl)
theorem dX1_as_20 : decode cX1_as 20 = .ok (.iload_n 2, 1) := dk_28 (dk_at dksX1_as_0 20 rfl rfl)
theorem dX1_as_21 : decode cX1_as 21 = .ok (.bipush 60, 2) := dk_16 60 (dk_at dksX1_as_0 21 rfl rfl)
theorem dX1_as_23 : decode cX1_as 23 = .ok (.if_icmp .ge 24, 3) := dk_162 0 24 (dk_at dksX1_as_1 0 rfl rfl)
theorem dX1_as_26 : decode cX1_as 26 = .ok (.aload_n 0, 1) := dk_42 (dk_at dksX1_as_1 3 rfl rfl)
theorem dX1_as_27 : decode cX1_as 27 = .ok (.getfield 81, 3) := dk_180 0 81 (dk_at dksX1_as_1 4 rfl rfl)
theorem dX1_as_30 : decode cX1_as 30 = .ok (.iload_n 2, 1) := dk_28 (dk_at dksX1_as_1 7 rfl rfl)
theorem dX1_as_31 : decode cX1_as 31 = .ok (.aaload, 1) := dk_50 (dk_at dksX1_as_1 8 rfl rfl)
theorem dX1_as_32 : decode cX1_as 32 = .ok (.aload_n 1, 1) := dk_43 (dk_at dksX1_as_1 9 rfl rfl)
theorem dX1_as_33 : decode cX1_as 33 = .ok (.getfield 81, 3) := dk_180 0 81 (dk_at dksX1_as_1 10 rfl rfl)
theorem dX1_as_36 : decode cX1_as 36 = .ok (.iload_n 2, 1) := dk_28 (dk_at dksX1_as_1 13 rfl rfl)
theorem dX1_as_37 : decode cX1_as 37 = .ok (.aaload, 1) := dk_50 (dk_at dksX1_as_1 14 rfl rfl)
theorem dX1_as_38 : decode cX1_as 38 = .ok (.invokevirtual 152, 3) := dk_182 0 152 (dk_at dksX1_as_1 15 rfl rfl)
theorem dX1_as_41 : decode cX1_as 41 = .ok (.iinc 2 1, 3) := dk_132 2 1 (dk_at dksX1_as_1 18 rfl rfl)
theorem dX1_as_44 : decode cX1_as 44 = .ok (.goto (-24), 3) := dk_167 255 232 (dk_at dksX1_as_1 21 rfl rfl)
theorem dX1_as_47 : decode cX1_as 47 = .ok (.aload_n 1, 1) := dk_43 (dk_at dksX1_as_2 0 rfl rfl)
theorem dX1_as_48 : decode cX1_as 48 = .ok (.getfield 85, 3) := dk_180 0 85 (dk_at dksX1_as_2 1 rfl rfl)
theorem dX1_as_51 : decode cX1_as 51 = .ok (.iconst 0, 1) := dk_3 (dk_at dksX1_as_2 4 rfl rfl)
theorem dX1_as_52 : decode cX1_as 52 = .ok (.aload_n 0, 1) := dk_42 (dk_at dksX1_as_2 5 rfl rfl)
theorem dX1_as_53 : decode cX1_as 53 = .ok (.getfield 85, 3) := dk_180 0 85 (dk_at dksX1_as_2 6 rfl rfl)
theorem dX1_as_56 : decode cX1_as 56 = .ok (.iconst 0, 1) := dk_3 (dk_at dksX1_as_2 9 rfl rfl)
theorem dX1_as_57 : decode cX1_as 57 = .ok (.bipush 8, 2) := dk_16 8 (dk_at dksX1_as_2 10 rfl rfl)
theorem dX1_as_59 : decode cX1_as 59 = .ok (.invokestatic 156, 3) := dk_184 0 156 (dk_at dksX1_as_2 12 rfl rfl)
theorem dX1_as_62 : decode cX1_as 62 = .ok (.aload_n 0, 1) := dk_42 (dk_at dksX1_as_2 15 rfl rfl)
theorem dX1_as_63 : decode cX1_as 63 = .ok (.aload_n 1, 1) := dk_43 (dk_at dksX1_as_2 16 rfl rfl)
theorem dX1_as_64 : decode cX1_as 64 = .ok (.getfield 162, 3) := dk_180 0 162 (dk_at dksX1_as_2 17 rfl rfl)
theorem dX1_as_67 : decode cX1_as 67 = .ok (.putfield 162, 3) := dk_181 0 162 (dk_at dksX1_as_2 20 rfl rfl)
theorem dX1_as_70 : decode cX1_as 70 = .ok (.aload_n 1, 1) := dk_43 (dk_at dksX1_as_2 23 rfl rfl)
theorem dX1_as_71 : decode cX1_as 71 = .ok (.getfield 91, 3) := dk_180 0 91 (dk_at dksX1_as_3 0 rfl rfl)
theorem dX1_as_74 : decode cX1_as 74 = .ok (.iconst 0, 1) := dk_3 (dk_at dksX1_as_3 3 rfl rfl)
theorem dX1_as_75 : decode cX1_as 75 = .ok (.aload_n 0, 1) := dk_42 (dk_at dksX1_as_3 4 rfl rfl)
theorem dX1_as_76 : decode cX1_as 76 = .ok (.getfield 91, 3) := dk_180 0 91 (dk_at dksX1_as_3 5 rfl rfl)
theorem dX1_as_79 : decode cX1_as 79 = .ok (.iconst 0, 1) := dk_3 (dk_at dksX1_as_3 8 rfl rfl)
theorem dX1_as_80 : decode cX1_as 80 = .ok (.bipush 16, 2) := dk_16 16 (dk_at dksX1_as_3 9 rfl rfl)
theorem dX1_as_82 : decode cX1_as 82 = .ok (.invokestatic 156, 3) := dk_184 0 156 (dk_at dksX1_as_3 11 rfl rfl)
theorem dX1_as_85 : decode cX1_as 85 = .ok (.aload_n 1, 1) := dk_43 (dk_at dksX1_as_3 14 rfl rfl)
theorem dX1_as_86 : decode cX1_as 86 = .ok (.getfield 95, 3) := dk_180 0 95 (dk_at dksX1_as_3 15 rfl rfl)
theorem dX1_as_89 : decode cX1_as 89 = .ok (.iconst 0, 1) := dk_3 (dk_at dksX1_as_3 18 rfl rfl)
theorem dX1_as_90 : decode cX1_as 90 = .ok (.aload_n 0, 1) := dk_42 (dk_at dksX1_as_3 19 rfl rfl)
theorem dX1_as_91 : decode cX1_as 91 = .ok (.getfield 95, 3) := dk_180 0 95 (dk_at dksX1_as_3 20 rfl rfl)
theorem dX1_as_94 : decode cX1_as 94 = .ok (.iconst 0, 1) := dk_3 (dk_at dksX1_as_3 23 rfl rfl)
theorem dX1_as_95 : decode cX1_as 95 = .ok (.bipush 16, 2) := dk_16 16 (dk_at dksX1_as_4 0 rfl rfl)
theorem dX1_as_97 : decode cX1_as 97 = .ok (.invokestatic 156, 3) := dk_184 0 156 (dk_at dksX1_as_4 2 rfl rfl)
theorem dX1_as_100 : decode cX1_as 100 = .ok (.aload_n 1, 1) := dk_43 (dk_at dksX1_as_4 5 rfl rfl)
theorem dX1_as_101 : decode cX1_as 101 = .ok (.getfield 98, 3) := dk_180 0 98 (dk_at dksX1_as_4 6 rfl rfl)
theorem dX1_as_104 : decode cX1_as 104 = .ok (.iconst 0, 1) := dk_3 (dk_at dksX1_as_4 9 rfl rfl)
theorem dX1_as_105 : decode cX1_as 105 = .ok (.aload_n 0, 1) := dk_42 (dk_at dksX1_as_4 10 rfl rfl)
theorem dX1_as_106 : decode cX1_as 106 = .ok (.getfield 98, 3) := dk_180 0 98 (dk_at dksX1_as_4 11 rfl rfl)
theorem dX1_as_109 : decode cX1_as 109 = .ok (.iconst 0, 1) := dk_3 (dk_at dksX1_as_4 14 rfl rfl)
theorem dX1_as_110 : decode cX1_as 110 = .ok (.bipush 16, 2) := dk_16 16 (dk_at dksX1_as_4 15 rfl rfl)
theorem dX1_as_112 : decode cX1_as 112 = .ok (.invokestatic 156, 3) := dk_184 0 156 (dk_at dksX1_as_4 17 rfl rfl)
theorem dX1_as_115 : decode cX1_as 115 = .ok (.aload_n 0, 1) := dk_42 (dk_at dksX1_as_4 20 rfl rfl)
theorem dX1_as_116 : decode cX1_as 116 = .ok (.aload_n 1, 1) := dk_43 (dk_at dksX1_as_4 21 rfl rfl)
theorem dX1_as_117 : decode cX1_as 117 = .ok (.getfield 165, 3) := dk_180 0 165 (dk_at dksX1_as_5 0 rfl rfl)
theorem dX1_as_120 : decode cX1_as 120 = .ok (.putfield 165, 3) := dk_181 0 165 (dk_at dksX1_as_5 3 rfl rfl)
theorem dX1_as_123 : decode cX1_as 123 = .ok (.aload_n 1, 1) := dk_43 (dk_at dksX1_as_5 6 rfl rfl)
theorem dX1_as_124 : decode cX1_as 124 = .ok (.getfield 101, 3) := dk_180 0 101 (dk_at dksX1_as_5 7 rfl rfl)
theorem dX1_as_127 : decode cX1_as 127 = .ok (.iconst 0, 1) := dk_3 (dk_at dksX1_as_5 10 rfl rfl)
theorem dX1_as_128 : decode cX1_as 128 = .ok (.aload_n 0, 1) := dk_42 (dk_at dksX1_as_5 11 rfl rfl)
theorem dX1_as_129 : decode cX1_as 129 = .ok (.getfield 101, 3) := dk_180 0 101 (dk_at dksX1_as_5 12 rfl rfl)
theorem dX1_as_132 : decode cX1_as 132 = .ok (.iconst 0, 1) := dk_3 (dk_at dksX1_as_5 15 rfl rfl)
theorem dX1_as_133 : decode cX1_as 133 = .ok (.bipush 30, 2) := dk_16 30 (dk_at dksX1_as_5 16 rfl rfl)
theorem dX1_as_135 : decode cX1_as 135 = .ok (.invokestatic 156, 3) := dk_184 0 156 (dk_at dksX1_as_5 18 rfl rfl)
theorem dX1_as_138 : decode cX1_as 138 = .ok (.aload_n 1, 1) := dk_43 (dk_at dksX1_as_5 21 rfl rfl)
theorem dX1_as_139 : decode cX1_as 139 = .ok (.getfield 104, 3) := dk_180 0 104 (dk_at dksX1_as_6 0 rfl rfl)
theorem dX1_as_142 : decode cX1_as 142 = .ok (.iconst 0, 1) := dk_3 (dk_at dksX1_as_6 3 rfl rfl)
theorem dX1_as_143 : decode cX1_as 143 = .ok (.aload_n 0, 1) := dk_42 (dk_at dksX1_as_6 4 rfl rfl)
theorem dX1_as_144 : decode cX1_as 144 = .ok (.getfield 104, 3) := dk_180 0 104 (dk_at dksX1_as_6 5 rfl rfl)
theorem dX1_as_147 : decode cX1_as 147 = .ok (.iconst 0, 1) := dk_3 (dk_at dksX1_as_6 8 rfl rfl)
theorem dX1_as_148 : decode cX1_as 148 = .ok (.bipush 30, 2) := dk_16 30 (dk_at dksX1_as_6 9 rfl rfl)
theorem dX1_as_150 : decode cX1_as 150 = .ok (.invokestatic 156, 3) := dk_184 0 156 (dk_at dksX1_as_6 11 rfl rfl)
theorem dX1_as_153 : decode cX1_as 153 = .ok (.aload_n 1, 1) := dk_43 (dk_at dksX1_as_6 14 rfl rfl)
theorem dX1_as_154 : decode cX1_as 154 = .ok (.getfield 107, 3) := dk_180 0 107 (dk_at dksX1_as_6 15 rfl rfl)
theorem dX1_as_157 : decode cX1_as 157 = .ok (.iconst 0, 1) := dk_3 (dk_at dksX1_as_6 18 rfl rfl)
theorem dX1_as_158 : decode cX1_as 158 = .ok (.aload_n 0, 1) := dk_42 (dk_at dksX1_as_6 19 rfl rfl)
theorem dX1_as_159 : decode cX1_as 159 = .ok (.getfield 107, 3) := dk_180 0 107 (dk_at dksX1_as_6 20 rfl rfl)
theorem dX1_as_162 : decode cX1_as 162 = .ok (.iconst 0, 1) := dk_3 (dk_at dksX1_as_6 23 rfl rfl)
theorem dX1_as_163 : decode cX1_as 163 = .ok (.bipush 30, 2) := dk_16 30 (dk_at dksX1_as_7 0 rfl rfl)
theorem dX1_as_165 : decode cX1_as 165 = .ok (.invokestatic 156, 3) := dk_184 0 156 (dk_at dksX1_as_7 2 rfl rfl)
theorem dX1_as_168 : decode cX1_as 168 = .ok (.aload_n 1, 1) := dk_43 (dk_at dksX1_as_7 5 rfl rfl)
theorem dX1_as_169 : decode cX1_as 169 = .ok (.getfield 110, 3) := dk_180 0 110 (dk_at dksX1_as_7 6 rfl rfl)
theorem dX1_as_172 : decode cX1_as 172 = .ok (.iconst 0, 1) := dk_3 (dk_at dksX1_as_7 9 rfl rfl)
theorem dX1_as_173 : decode cX1_as 173 = .ok (.aload_n 0, 1) := dk_42 (dk_at dksX1_as_7 10 rfl rfl)
theorem dX1_as_174 : decode cX1_as 174 = .ok (.getfield 110, 3) := dk_180 0 110 (dk_at dksX1_as_7 11 rfl rfl)
theorem dX1_as_177 : decode cX1_as 177 = .ok (.iconst 0, 1) := dk_3 (dk_at dksX1_as_7 14 rfl rfl)
theorem dX1_as_178 : decode cX1_as 178 = .ok (.bipush 12, 2) := dk_16 12 (dk_at dksX1_as_7 15 rfl rfl)
theorem dX1_as_180 : decode cX1_as 180 = .ok (.invokestatic 156, 3) := dk_184 0 156 (dk_at dksX1_as_7 17 rfl rfl)
theorem dX1_as_183 : decode cX1_as 183 = .ok (.aload_n 1, 1) := dk_43 (dk_at dksX1_as_7 20 rfl rfl)
theorem dX1_as_184 : decode cX1_as 184 = .ok (.getfield 113, 3) := dk_180 0 113 (dk_at dksX1_as_7 21 rfl rfl)
theorem dX1_as_187 : decode cX1_as 187 = .ok (.iconst 0, 1) := dk_3 (dk_at dksX1_as_8 0 rfl rfl)
theorem dX1_as_188 : decode cX1_as 188 = .ok (.aload_n 0, 1) := dk_42 (dk_at dksX1_as_8 1 rfl rfl)
theorem dX1_as_189 : decode cX1_as 189 = .ok (.getfield 113, 3) := dk_180 0 113 (dk_at dksX1_as_8 2 rfl rfl)
theorem dX1_as_192 : decode cX1_as 192 = .ok (.iconst 0, 1) := dk_3 (dk_at dksX1_as_8 5 rfl rfl)
theorem dX1_as_193 : decode cX1_as 193 = .ok (.bipush 100, 2) := dk_16 100 (dk_at dksX1_as_8 6 rfl rfl)
theorem dX1_as_195 : decode cX1_as 195 = .ok (.invokestatic 156, 3) := dk_184 0 156 (dk_at dksX1_as_8 8 rfl rfl)
theorem dX1_as_198 : decode cX1_as 198 = .ok (.aload_n 1, 1) := dk_43 (dk_at dksX1_as_8 11 rfl rfl)
theorem dX1_as_199 : decode cX1_as 199 = .ok (.getfield 116, 3) := dk_180 0 116 (dk_at dksX1_as_8 12 rfl rfl)
theorem dX1_as_202 : decode cX1_as 202 = .ok (.iconst 0, 1) := dk_3 (dk_at dksX1_as_8 15 rfl rfl)
theorem dX1_as_203 : decode cX1_as 203 = .ok (.aload_n 0, 1) := dk_42 (dk_at dksX1_as_8 16 rfl rfl)
theorem dX1_as_204 : decode cX1_as 204 = .ok (.getfield 116, 3) := dk_180 0 116 (dk_at dksX1_as_8 17 rfl rfl)
theorem dX1_as_207 : decode cX1_as 207 = .ok (.iconst 0, 1) := dk_3 (dk_at dksX1_as_8 20 rfl rfl)
theorem dX1_as_208 : decode cX1_as 208 = .ok (.bipush 6, 2) := dk_16 6 (dk_at dksX1_as_8 21 rfl rfl)
theorem dX1_as_210 : decode cX1_as 210 = .ok (.invokestatic 156, 3) := dk_184 0 156 (dk_at dksX1_as_9 0 rfl rfl)
theorem dX1_as_213 : decode cX1_as 213 = .ok (.aload_n 1, 1) := dk_43 (dk_at dksX1_as_9 3 rfl rfl)
theorem dX1_as_214 : decode cX1_as 214 = .ok (.getfield 119, 3) := dk_180 0 119 (dk_at dksX1_as_9 4 rfl rfl)
theorem dX1_as_217 : decode cX1_as 217 = .ok (.iconst 0, 1) := dk_3 (dk_at dksX1_as_9 7 rfl rfl)
theorem dX1_as_218 : decode cX1_as 218 = .ok (.aload_n 0, 1) := dk_42 (dk_at dksX1_as_9 8 rfl rfl)
theorem dX1_as_219 : decode cX1_as 219 = .ok (.getfield 119, 3) := dk_180 0 119 (dk_at dksX1_as_9 9 rfl rfl)
theorem dX1_as_222 : decode cX1_as 222 = .ok (.iconst 0, 1) := dk_3 (dk_at dksX1_as_9 12 rfl rfl)
theorem dX1_as_223 : decode cX1_as 223 = .ok (.bipush 6, 2) := dk_16 6 (dk_at dksX1_as_9 13 rfl rfl)
theorem dX1_as_225 : decode cX1_as 225 = .ok (.invokestatic 156, 3) := dk_184 0 156 (dk_at dksX1_as_9 15 rfl rfl)
theorem dX1_as_228 : decode cX1_as 228 = .ok (.aload_n 1, 1) := dk_43 (dk_at dksX1_as_9 18 rfl rfl)
theorem dX1_as_229 : decode cX1_as 229 = .ok (.getfield 122, 3) := dk_180 0 122 (dk_at dksX1_as_9 19 rfl rfl)
theorem dX1_as_232 : decode cX1_as 232 = .ok (.iconst 0, 1) := dk_3 (dk_at dksX1_as_9 22 rfl rfl)
theorem dX1_as_233 : decode cX1_as 233 = .ok (.aload_n 0, 1) := dk_42 (dk_at dksX1_as_9 23 rfl rfl)
theorem dX1_as_234 : decode cX1_as 234 = .ok (.getfield 122, 3) := dk_180 0 122 (dk_at dksX1_as_10 0 rfl rfl)
theorem dX1_as_237 : decode cX1_as 237 = .ok (.iconst 0, 1) := dk_3 (dk_at dksX1_as_10 3 rfl rfl)
theorem dX1_as_238 : decode cX1_as 238 = .ok (.bipush 24, 2) := dk_16 24 (dk_at dksX1_as_10 4 rfl rfl)
theorem dX1_as_240 : decode cX1_as 240 = .ok (.invokestatic 156, 3) := dk_184 0 156 (dk_at dksX1_as_10 6 rfl rfl)
theorem dX1_as_243 : decode cX1_as 243 = .ok (.aload_n 1, 1) := dk_43 (dk_at dksX1_as_10 9 rfl rfl)
theorem dX1_as_244 : decode cX1_as 244 = .ok (.getfield 125, 3) := dk_180 0 125 (dk_at dksX1_as_10 10 rfl rfl)
theorem dX1_as_247 : decode cX1_as 247 = .ok (.iconst 0, 1) := dk_3 (dk_at dksX1_as_10 13 rfl rfl)
theorem dX1_as_248 : decode cX1_as 248 = .ok (.aload_n 0, 1) := dk_42 (dk_at dksX1_as_10 14 rfl rfl)
theorem dX1_as_249 : decode cX1_as 249 = .ok (.getfield 125, 3) := dk_180 0 125 (dk_at dksX1_as_10 15 rfl rfl)
theorem dX1_as_252 : decode cX1_as 252 = .ok (.iconst 0, 1) := dk_3 (dk_at dksX1_as_10 18 rfl rfl)
theorem dX1_as_253 : decode cX1_as 253 = .ok (.sipush 960, 3) := dk_17 3 192 (dk_at dksX1_as_10 19 rfl rfl)
theorem dX1_as_256 : decode cX1_as 256 = .ok (.invokestatic 156, 3) := dk_184 0 156 (dk_at dksX1_as_11 0 rfl rfl)
theorem dX1_as_259 : decode cX1_as 259 = .ok (.return_, 1) := dk_177 (dk_at dksX1_as_11 3 rfl rfl)
abbrev cX1_asStands : ByteArray := prog_4_method_3_code
def yX1_asStands : MethodName := ⟨RX1, "asStands", "(LWoodState$Forest;)V"⟩
def dkwX1_asStands_9 : List UInt8 := [180, 0, 51, 181, 0, 51, 177]
abbrev dktX1_asStands_9 : List UInt8 := dkwX1_asStands_9 ++ []
def dkwX1_asStands_8 : List UInt8 := [16, 60, 184, 0, 156, 43, 180, 0, 48, 3, 42, 180, 0, 48, 3, 16, 60, 184, 0, 156, 42, 43]
abbrev dktX1_asStands_8 : List UInt8 := dkwX1_asStands_8 ++ dktX1_asStands_9
def dkwX1_asStands_7 : List UInt8 := [3, 16, 24, 184, 0, 156, 42, 43, 180, 0, 171, 181, 0, 171, 43, 180, 0, 45, 3, 42, 180, 0, 45, 3]
abbrev dktX1_asStands_7 : List UInt8 := dkwX1_asStands_7 ++ dktX1_asStands_8
def dkwX1_asStands_6 : List UInt8 := [43, 180, 0, 39, 3, 42, 180, 0, 39, 3, 16, 24, 184, 0, 156, 43, 180, 0, 42, 3, 42, 180, 0, 42]
abbrev dktX1_asStands_6 : List UInt8 := dkwX1_asStands_6 ++ dktX1_asStands_7
def dkwX1_asStands_5 : List UInt8 := [180, 0, 33, 3, 16, 24, 184, 0, 156, 43, 180, 0, 36, 3, 42, 180, 0, 36, 3, 16, 24, 184, 0, 156]
abbrev dktX1_asStands_5 : List UInt8 := dkwX1_asStands_5 ++ dktX1_asStands_6
def dkwX1_asStands_4 : List UInt8 := [184, 0, 156, 43, 180, 0, 30, 3, 42, 180, 0, 30, 3, 16, 24, 184, 0, 156, 43, 180, 0, 33, 3, 42]
abbrev dktX1_asStands_4 : List UInt8 := dkwX1_asStands_4 ++ dktX1_asStands_5
def dkwX1_asStands_3 : List UInt8 := [3, 42, 180, 0, 24, 3, 16, 24, 184, 0, 156, 43, 180, 0, 27, 3, 42, 180, 0, 27, 3, 16, 24]
abbrev dktX1_asStands_3 : List UInt8 := dkwX1_asStands_3 ++ dktX1_asStands_4
def dkwX1_asStands_2 : List UInt8 := [16, 24, 184, 0, 156, 43, 180, 0, 21, 3, 42, 180, 0, 21, 3, 16, 24, 184, 0, 156, 43, 180, 0, 24]
abbrev dktX1_asStands_2 : List UInt8 := dkwX1_asStands_2 ++ dktX1_asStands_3
def dkwX1_asStands_1 : List UInt8 := [180, 0, 15, 3, 42, 180, 0, 15, 3, 16, 24, 184, 0, 156, 43, 180, 0, 18, 3, 42, 180, 0, 18, 3]
abbrev dktX1_asStands_1 : List UInt8 := dkwX1_asStands_1 ++ dktX1_asStands_2
def dkwX1_asStands_0 : List UInt8 := [42, 43, 180, 0, 168, 181, 0, 168, 43, 180, 0, 9, 3, 42, 180, 0, 9, 3, 16, 24, 184, 0, 156, 43]
abbrev dktX1_asStands_0 : List UInt8 := dkwX1_asStands_0 ++ dktX1_asStands_1
theorem dksX1_asStands_0 : cX1_asStands.data.toList.drop 0 = dktX1_asStands_0 := by decide +kernel
theorem dksX1_asStands_1 : cX1_asStands.data.toList.drop 24 = dktX1_asStands_1 := dk_seg dksX1_asStands_0 24 rfl rfl
theorem dksX1_asStands_2 : cX1_asStands.data.toList.drop 48 = dktX1_asStands_2 := dk_seg dksX1_asStands_1 24 rfl rfl
theorem dksX1_asStands_3 : cX1_asStands.data.toList.drop 72 = dktX1_asStands_3 := dk_seg dksX1_asStands_2 24 rfl rfl
theorem dksX1_asStands_4 : cX1_asStands.data.toList.drop 95 = dktX1_asStands_4 := dk_seg dksX1_asStands_3 23 rfl rfl
theorem dksX1_asStands_5 : cX1_asStands.data.toList.drop 119 = dktX1_asStands_5 := dk_seg dksX1_asStands_4 24 rfl rfl
theorem dksX1_asStands_6 : cX1_asStands.data.toList.drop 143 = dktX1_asStands_6 := dk_seg dksX1_asStands_5 24 rfl rfl
theorem dksX1_asStands_7 : cX1_asStands.data.toList.drop 167 = dktX1_asStands_7 := dk_seg dksX1_asStands_6 24 rfl rfl
theorem dksX1_asStands_8 : cX1_asStands.data.toList.drop 191 = dktX1_asStands_8 := dk_seg dksX1_asStands_7 24 rfl rfl
theorem dksX1_asStands_9 : cX1_asStands.data.toList.drop 213 = dktX1_asStands_9 := dk_seg dksX1_asStands_8 22 rfl rfl
theorem dX1_asStands_0 : decode cX1_asStands 0 = .ok (.aload_n 0, 1) := dk_42 (dk_at dksX1_asStands_0 0 rfl rfl)
theorem dX1_asStands_1 : decode cX1_asStands 1 = .ok (.aload_n 1, 1) := dk_43 (dk_at dksX1_asStands_0 1 rfl rfl)
theorem dX1_asStands_2 : decode cX1_asStands 2 = .ok (.getfield 168, 3) := dk_180 0 168 (dk_at dksX1_asStands_0 2 rfl rfl)
theorem dX1_asStands_5 : decode cX1_asStands 5 = .ok (.putfield 168, 3) := dk_181 0 168 (dk_at dksX1_asStands_0 5 rfl rfl)
theorem dX1_asStands_8 : decode cX1_asStands 8 = .ok (.aload_n 1, 1) := dk_43 (dk_at dksX1_asStands_0 8 rfl rfl)
theorem dX1_asStands_9 : decode cX1_asStands 9 = .ok (.getfield 9, 3) := dk_180 0 9 (dk_at dksX1_asStands_0 9 rfl rfl)
theorem dX1_asStands_12 : decode cX1_asStands 12 = .ok (.iconst 0, 1) := dk_3 (dk_at dksX1_asStands_0 12 rfl rfl)
theorem dX1_asStands_13 : decode cX1_asStands 13 = .ok (.aload_n 0, 1) := dk_42 (dk_at dksX1_asStands_0 13 rfl rfl)
theorem dX1_asStands_14 : decode cX1_asStands 14 = .ok (.getfield 9, 3) := dk_180 0 9 (dk_at dksX1_asStands_0 14 rfl rfl)
theorem dX1_asStands_17 : decode cX1_asStands 17 = .ok (.iconst 0, 1) := dk_3 (dk_at dksX1_asStands_0 17 rfl rfl)
theorem dX1_asStands_18 : decode cX1_asStands 18 = .ok (.bipush 24, 2) := dk_16 24 (dk_at dksX1_asStands_0 18 rfl rfl)
theorem dX1_asStands_20 : decode cX1_asStands 20 = .ok (.invokestatic 156, 3) := dk_184 0 156 (dk_at dksX1_asStands_0 20 rfl rfl)
theorem dX1_asStands_23 : decode cX1_asStands 23 = .ok (.aload_n 1, 1) := dk_43 (dk_at dksX1_asStands_0 23 rfl rfl)
theorem dX1_asStands_24 : decode cX1_asStands 24 = .ok (.getfield 15, 3) := dk_180 0 15 (dk_at dksX1_asStands_1 0 rfl rfl)
theorem dX1_asStands_27 : decode cX1_asStands 27 = .ok (.iconst 0, 1) := dk_3 (dk_at dksX1_asStands_1 3 rfl rfl)
theorem dX1_asStands_28 : decode cX1_asStands 28 = .ok (.aload_n 0, 1) := dk_42 (dk_at dksX1_asStands_1 4 rfl rfl)
theorem dX1_asStands_29 : decode cX1_asStands 29 = .ok (.getfield 15, 3) := dk_180 0 15 (dk_at dksX1_asStands_1 5 rfl rfl)
theorem dX1_asStands_32 : decode cX1_asStands 32 = .ok (.iconst 0, 1) := dk_3 (dk_at dksX1_asStands_1 8 rfl rfl)
theorem dX1_asStands_33 : decode cX1_asStands 33 = .ok (.bipush 24, 2) := dk_16 24 (dk_at dksX1_asStands_1 9 rfl rfl)
theorem dX1_asStands_35 : decode cX1_asStands 35 = .ok (.invokestatic 156, 3) := dk_184 0 156 (dk_at dksX1_asStands_1 11 rfl rfl)
theorem dX1_asStands_38 : decode cX1_asStands 38 = .ok (.aload_n 1, 1) := dk_43 (dk_at dksX1_asStands_1 14 rfl rfl)
theorem dX1_asStands_39 : decode cX1_asStands 39 = .ok (.getfield 18, 3) := dk_180 0 18 (dk_at dksX1_asStands_1 15 rfl rfl)
theorem dX1_asStands_42 : decode cX1_asStands 42 = .ok (.iconst 0, 1) := dk_3 (dk_at dksX1_asStands_1 18 rfl rfl)
theorem dX1_asStands_43 : decode cX1_asStands 43 = .ok (.aload_n 0, 1) := dk_42 (dk_at dksX1_asStands_1 19 rfl rfl)
theorem dX1_asStands_44 : decode cX1_asStands 44 = .ok (.getfield 18, 3) := dk_180 0 18 (dk_at dksX1_asStands_1 20 rfl rfl)
theorem dX1_asStands_47 : decode cX1_asStands 47 = .ok (.iconst 0, 1) := dk_3 (dk_at dksX1_asStands_1 23 rfl rfl)
theorem dX1_asStands_48 : decode cX1_asStands 48 = .ok (.bipush 24, 2) := dk_16 24 (dk_at dksX1_asStands_2 0 rfl rfl)
theorem dX1_asStands_50 : decode cX1_asStands 50 = .ok (.invokestatic 156, 3) := dk_184 0 156 (dk_at dksX1_asStands_2 2 rfl rfl)
theorem dX1_asStands_53 : decode cX1_asStands 53 = .ok (.aload_n 1, 1) := dk_43 (dk_at dksX1_asStands_2 5 rfl rfl)
theorem dX1_asStands_54 : decode cX1_asStands 54 = .ok (.getfield 21, 3) := dk_180 0 21 (dk_at dksX1_asStands_2 6 rfl rfl)
theorem dX1_asStands_57 : decode cX1_asStands 57 = .ok (.iconst 0, 1) := dk_3 (dk_at dksX1_asStands_2 9 rfl rfl)
theorem dX1_asStands_58 : decode cX1_asStands 58 = .ok (.aload_n 0, 1) := dk_42 (dk_at dksX1_asStands_2 10 rfl rfl)
theorem dX1_asStands_59 : decode cX1_asStands 59 = .ok (.getfield 21, 3) := dk_180 0 21 (dk_at dksX1_asStands_2 11 rfl rfl)
theorem dX1_asStands_62 : decode cX1_asStands 62 = .ok (.iconst 0, 1) := dk_3 (dk_at dksX1_asStands_2 14 rfl rfl)
theorem dX1_asStands_63 : decode cX1_asStands 63 = .ok (.bipush 24, 2) := dk_16 24 (dk_at dksX1_asStands_2 15 rfl rfl)
theorem dX1_asStands_65 : decode cX1_asStands 65 = .ok (.invokestatic 156, 3) := dk_184 0 156 (dk_at dksX1_asStands_2 17 rfl rfl)
theorem dX1_asStands_68 : decode cX1_asStands 68 = .ok (.aload_n 1, 1) := dk_43 (dk_at dksX1_asStands_2 20 rfl rfl)
theorem dX1_asStands_69 : decode cX1_asStands 69 = .ok (.getfield 24, 3) := dk_180 0 24 (dk_at dksX1_asStands_2 21 rfl rfl)
theorem dX1_asStands_72 : decode cX1_asStands 72 = .ok (.iconst 0, 1) := dk_3 (dk_at dksX1_asStands_3 0 rfl rfl)
theorem dX1_asStands_73 : decode cX1_asStands 73 = .ok (.aload_n 0, 1) := dk_42 (dk_at dksX1_asStands_3 1 rfl rfl)
theorem dX1_asStands_74 : decode cX1_asStands 74 = .ok (.getfield 24, 3) := dk_180 0 24 (dk_at dksX1_asStands_3 2 rfl rfl)
theorem dX1_asStands_77 : decode cX1_asStands 77 = .ok (.iconst 0, 1) := dk_3 (dk_at dksX1_asStands_3 5 rfl rfl)
theorem dX1_asStands_78 : decode cX1_asStands 78 = .ok (.bipush 24, 2) := dk_16 24 (dk_at dksX1_asStands_3 6 rfl rfl)
theorem dX1_asStands_80 : decode cX1_asStands 80 = .ok (.invokestatic 156, 3) := dk_184 0 156 (dk_at dksX1_asStands_3 8 rfl rfl)
theorem dX1_asStands_83 : decode cX1_asStands 83 = .ok (.aload_n 1, 1) := dk_43 (dk_at dksX1_asStands_3 11 rfl rfl)
theorem dX1_asStands_84 : decode cX1_asStands 84 = .ok (.getfield 27, 3) := dk_180 0 27 (dk_at dksX1_asStands_3 12 rfl rfl)
theorem dX1_asStands_87 : decode cX1_asStands 87 = .ok (.iconst 0, 1) := dk_3 (dk_at dksX1_asStands_3 15 rfl rfl)
theorem dX1_asStands_88 : decode cX1_asStands 88 = .ok (.aload_n 0, 1) := dk_42 (dk_at dksX1_asStands_3 16 rfl rfl)
theorem dX1_asStands_89 : decode cX1_asStands 89 = .ok (.getfield 27, 3) := dk_180 0 27 (dk_at dksX1_asStands_3 17 rfl rfl)
theorem dX1_asStands_92 : decode cX1_asStands 92 = .ok (.iconst 0, 1) := dk_3 (dk_at dksX1_asStands_3 20 rfl rfl)
theorem dX1_asStands_93 : decode cX1_asStands 93 = .ok (.bipush 24, 2) := dk_16 24 (dk_at dksX1_asStands_3 21 rfl rfl)
theorem dX1_asStands_95 : decode cX1_asStands 95 = .ok (.invokestatic 156, 3) := dk_184 0 156 (dk_at dksX1_asStands_4 0 rfl rfl)
theorem dX1_asStands_98 : decode cX1_asStands 98 = .ok (.aload_n 1, 1) := dk_43 (dk_at dksX1_asStands_4 3 rfl rfl)
theorem dX1_asStands_99 : decode cX1_asStands 99 = .ok (.getfield 30, 3) := dk_180 0 30 (dk_at dksX1_asStands_4 4 rfl rfl)
theorem dX1_asStands_102 : decode cX1_asStands 102 = .ok (.iconst 0, 1) := dk_3 (dk_at dksX1_asStands_4 7 rfl rfl)
theorem dX1_asStands_103 : decode cX1_asStands 103 = .ok (.aload_n 0, 1) := dk_42 (dk_at dksX1_asStands_4 8 rfl rfl)
theorem dX1_asStands_104 : decode cX1_asStands 104 = .ok (.getfield 30, 3) := dk_180 0 30 (dk_at dksX1_asStands_4 9 rfl rfl)
theorem dX1_asStands_107 : decode cX1_asStands 107 = .ok (.iconst 0, 1) := dk_3 (dk_at dksX1_asStands_4 12 rfl rfl)
theorem dX1_asStands_108 : decode cX1_asStands 108 = .ok (.bipush 24, 2) := dk_16 24 (dk_at dksX1_asStands_4 13 rfl rfl)
theorem dX1_asStands_110 : decode cX1_asStands 110 = .ok (.invokestatic 156, 3) := dk_184 0 156 (dk_at dksX1_asStands_4 15 rfl rfl)
theorem dX1_asStands_113 : decode cX1_asStands 113 = .ok (.aload_n 1, 1) := dk_43 (dk_at dksX1_asStands_4 18 rfl rfl)
theorem dX1_asStands_114 : decode cX1_asStands 114 = .ok (.getfield 33, 3) := dk_180 0 33 (dk_at dksX1_asStands_4 19 rfl rfl)
theorem dX1_asStands_117 : decode cX1_asStands 117 = .ok (.iconst 0, 1) := dk_3 (dk_at dksX1_asStands_4 22 rfl rfl)
theorem dX1_asStands_118 : decode cX1_asStands 118 = .ok (.aload_n 0, 1) := dk_42 (dk_at dksX1_asStands_4 23 rfl rfl)
theorem dX1_asStands_119 : decode cX1_asStands 119 = .ok (.getfield 33, 3) := dk_180 0 33 (dk_at dksX1_asStands_5 0 rfl rfl)
theorem dX1_asStands_122 : decode cX1_asStands 122 = .ok (.iconst 0, 1) := dk_3 (dk_at dksX1_asStands_5 3 rfl rfl)
theorem dX1_asStands_123 : decode cX1_asStands 123 = .ok (.bipush 24, 2) := dk_16 24 (dk_at dksX1_asStands_5 4 rfl rfl)
theorem dX1_asStands_125 : decode cX1_asStands 125 = .ok (.invokestatic 156, 3) := dk_184 0 156 (dk_at dksX1_asStands_5 6 rfl rfl)
theorem dX1_asStands_128 : decode cX1_asStands 128 = .ok (.aload_n 1, 1) := dk_43 (dk_at dksX1_asStands_5 9 rfl rfl)
theorem dX1_asStands_129 : decode cX1_asStands 129 = .ok (.getfield 36, 3) := dk_180 0 36 (dk_at dksX1_asStands_5 10 rfl rfl)
theorem dX1_asStands_132 : decode cX1_asStands 132 = .ok (.iconst 0, 1) := dk_3 (dk_at dksX1_asStands_5 13 rfl rfl)
theorem dX1_asStands_133 : decode cX1_asStands 133 = .ok (.aload_n 0, 1) := dk_42 (dk_at dksX1_asStands_5 14 rfl rfl)
theorem dX1_asStands_134 : decode cX1_asStands 134 = .ok (.getfield 36, 3) := dk_180 0 36 (dk_at dksX1_asStands_5 15 rfl rfl)
theorem dX1_asStands_137 : decode cX1_asStands 137 = .ok (.iconst 0, 1) := dk_3 (dk_at dksX1_asStands_5 18 rfl rfl)
theorem dX1_asStands_138 : decode cX1_asStands 138 = .ok (.bipush 24, 2) := dk_16 24 (dk_at dksX1_asStands_5 19 rfl rfl)
theorem dX1_asStands_140 : decode cX1_asStands 140 = .ok (.invokestatic 156, 3) := dk_184 0 156 (dk_at dksX1_asStands_5 21 rfl rfl)
theorem dX1_asStands_143 : decode cX1_asStands 143 = .ok (.aload_n 1, 1) := dk_43 (dk_at dksX1_asStands_6 0 rfl rfl)
theorem dX1_asStands_144 : decode cX1_asStands 144 = .ok (.getfield 39, 3) := dk_180 0 39 (dk_at dksX1_asStands_6 1 rfl rfl)
theorem dX1_asStands_147 : decode cX1_asStands 147 = .ok (.iconst 0, 1) := dk_3 (dk_at dksX1_asStands_6 4 rfl rfl)
theorem dX1_asStands_148 : decode cX1_asStands 148 = .ok (.aload_n 0, 1) := dk_42 (dk_at dksX1_asStands_6 5 rfl rfl)
theorem dX1_asStands_149 : decode cX1_asStands 149 = .ok (.getfield 39, 3) := dk_180 0 39 (dk_at dksX1_asStands_6 6 rfl rfl)
theorem dX1_asStands_152 : decode cX1_asStands 152 = .ok (.iconst 0, 1) := dk_3 (dk_at dksX1_asStands_6 9 rfl rfl)
theorem dX1_asStands_153 : decode cX1_asStands 153 = .ok (.bipush 24, 2) := dk_16 24 (dk_at dksX1_asStands_6 10 rfl rfl)
theorem dX1_asStands_155 : decode cX1_asStands 155 = .ok (.invokestatic 156, 3) := dk_184 0 156 (dk_at dksX1_asStands_6 12 rfl rfl)
theorem dX1_asStands_158 : decode cX1_asStands 158 = .ok (.aload_n 1, 1) := dk_43 (dk_at dksX1_asStands_6 15 rfl rfl)
theorem dX1_asStands_159 : decode cX1_asStands 159 = .ok (.getfield 42, 3) := dk_180 0 42 (dk_at dksX1_asStands_6 16 rfl rfl)
theorem dX1_asStands_162 : decode cX1_asStands 162 = .ok (.iconst 0, 1) := dk_3 (dk_at dksX1_asStands_6 19 rfl rfl)
theorem dX1_asStands_163 : decode cX1_asStands 163 = .ok (.aload_n 0, 1) := dk_42 (dk_at dksX1_asStands_6 20 rfl rfl)
theorem dX1_asStands_164 : decode cX1_asStands 164 = .ok (.getfield 42, 3) := dk_180 0 42 (dk_at dksX1_asStands_6 21 rfl rfl)
theorem dX1_asStands_167 : decode cX1_asStands 167 = .ok (.iconst 0, 1) := dk_3 (dk_at dksX1_asStands_7 0 rfl rfl)
theorem dX1_asStands_168 : decode cX1_asStands 168 = .ok (.bipush 24, 2) := dk_16 24 (dk_at dksX1_asStands_7 1 rfl rfl)
theorem dX1_asStands_170 : decode cX1_asStands 170 = .ok (.invokestatic 156, 3) := dk_184 0 156 (dk_at dksX1_asStands_7 3 rfl rfl)
theorem dX1_asStands_173 : decode cX1_asStands 173 = .ok (.aload_n 0, 1) := dk_42 (dk_at dksX1_asStands_7 6 rfl rfl)
theorem dX1_asStands_174 : decode cX1_asStands 174 = .ok (.aload_n 1, 1) := dk_43 (dk_at dksX1_asStands_7 7 rfl rfl)
theorem dX1_asStands_175 : decode cX1_asStands 175 = .ok (.getfield 171, 3) := dk_180 0 171 (dk_at dksX1_asStands_7 8 rfl rfl)
theorem dX1_asStands_178 : decode cX1_asStands 178 = .ok (.putfield 171, 3) := dk_181 0 171 (dk_at dksX1_asStands_7 11 rfl rfl)
theorem dX1_asStands_181 : decode cX1_asStands 181 = .ok (.aload_n 1, 1) := dk_43 (dk_at dksX1_asStands_7 14 rfl rfl)
theorem dX1_asStands_182 : decode cX1_asStands 182 = .ok (.getfield 45, 3) := dk_180 0 45 (dk_at dksX1_asStands_7 15 rfl rfl)
theorem dX1_asStands_185 : decode cX1_asStands 185 = .ok (.iconst 0, 1) := dk_3 (dk_at dksX1_asStands_7 18 rfl rfl)
theorem dX1_asStands_186 : decode cX1_asStands 186 = .ok (.aload_n 0, 1) := dk_42 (dk_at dksX1_asStands_7 19 rfl rfl)
theorem dX1_asStands_187 : decode cX1_asStands 187 = .ok (.getfield 45, 3) := dk_180 0 45 (dk_at dksX1_asStands_7 20 rfl rfl)
theorem dX1_asStands_190 : decode cX1_asStands 190 = .ok (.iconst 0, 1) := dk_3 (dk_at dksX1_asStands_7 23 rfl rfl)
theorem dX1_asStands_191 : decode cX1_asStands 191 = .ok (.bipush 60, 2) := dk_16 60 (dk_at dksX1_asStands_8 0 rfl rfl)
theorem dX1_asStands_193 : decode cX1_asStands 193 = .ok (.invokestatic 156, 3) := dk_184 0 156 (dk_at dksX1_asStands_8 2 rfl rfl)
theorem dX1_asStands_196 : decode cX1_asStands 196 = .ok (.aload_n 1, 1) := dk_43 (dk_at dksX1_asStands_8 5 rfl rfl)
theorem dX1_asStands_197 : decode cX1_asStands 197 = .ok (.getfield 48, 3) := dk_180 0 48 (dk_at dksX1_asStands_8 6 rfl rfl)
theorem dX1_asStands_200 : decode cX1_asStands 200 = .ok (.iconst 0, 1) := dk_3 (dk_at dksX1_asStands_8 9 rfl rfl)
theorem dX1_asStands_201 : decode cX1_asStands 201 = .ok (.aload_n 0, 1) := dk_42 (dk_at dksX1_asStands_8 10 rfl rfl)
theorem dX1_asStands_202 : decode cX1_asStands 202 = .ok (.getfield 48, 3) := dk_180 0 48 (dk_at dksX1_asStands_8 11 rfl rfl)
theorem dX1_asStands_205 : decode cX1_asStands 205 = .ok (.iconst 0, 1) := dk_3 (dk_at dksX1_asStands_8 14 rfl rfl)
theorem dX1_asStands_206 : decode cX1_asStands 206 = .ok (.bipush 60, 2) := dk_16 60 (dk_at dksX1_asStands_8 15 rfl rfl)
theorem dX1_asStands_208 : decode cX1_asStands 208 = .ok (.invokestatic 156, 3) := dk_184 0 156 (dk_at dksX1_asStands_8 17 rfl rfl)
theorem dX1_asStands_211 : decode cX1_asStands 211 = .ok (.aload_n 0, 1) := dk_42 (dk_at dksX1_asStands_8 20 rfl rfl)
theorem dX1_asStands_212 : decode cX1_asStands 212 = .ok (.aload_n 1, 1) := dk_43 (dk_at dksX1_asStands_8 21 rfl rfl)
theorem dX1_asStands_213 : decode cX1_asStands 213 = .ok (.getfield 51, 3) := dk_180 0 51 (dk_at dksX1_asStands_9 0 rfl rfl)
theorem dX1_asStands_216 : decode cX1_asStands 216 = .ok (.putfield 51, 3) := dk_181 0 51 (dk_at dksX1_asStands_9 3 rfl rfl)
theorem dX1_asStands_219 : decode cX1_asStands 219 = .ok (.return_, 1) := dk_177 (dk_at dksX1_asStands_9 6 rfl rfl)
abbrev cX1_asLands : ByteArray := prog_4_method_4_code
def yX1_asLands : MethodName := ⟨RX1, "asLands", "(LWoodState$Forest;)V"⟩
def dkwX1_asLands_5 : List UInt8 := [16, 8, 184, 0, 156, 43, 180, 0, 76, 3, 42, 180, 0, 76, 3, 16, 8, 184, 0, 156, 177]
abbrev dktX1_asLands_5 : List UInt8 := dkwX1_asLands_5 ++ []
def dkwX1_asLands_4 : List UInt8 := [180, 0, 70, 3, 42, 180, 0, 70, 3, 16, 8, 184, 0, 156, 43, 180, 0, 73, 3, 42, 180, 0, 73, 3]
abbrev dktX1_asLands_4 : List UInt8 := dkwX1_asLands_4 ++ dktX1_asLands_5
def dkwX1_asLands_3 : List UInt8 := [180, 0, 177, 181, 0, 177, 43, 180, 0, 67, 3, 42, 180, 0, 67, 3, 16, 8, 184, 0, 156, 43]
abbrev dktX1_asLands_3 : List UInt8 := dkwX1_asLands_3 ++ dktX1_asLands_4
def dkwX1_asLands_2 : List UInt8 := [16, 12, 184, 0, 156, 43, 180, 0, 64, 3, 42, 180, 0, 64, 3, 16, 6, 184, 0, 156, 42, 43]
abbrev dktX1_asLands_2 : List UInt8 := dkwX1_asLands_2 ++ dktX1_asLands_3
def dkwX1_asLands_1 : List UInt8 := [180, 0, 58, 3, 42, 180, 0, 58, 3, 16, 12, 184, 0, 156, 43, 180, 0, 61, 3, 42, 180, 0, 61, 3]
abbrev dktX1_asLands_1 : List UInt8 := dkwX1_asLands_1 ++ dktX1_asLands_2
def dkwX1_asLands_0 : List UInt8 := [42, 43, 180, 0, 174, 181, 0, 174, 43, 180, 0, 55, 3, 42, 180, 0, 55, 3, 16, 12, 184, 0, 156, 43]
abbrev dktX1_asLands_0 : List UInt8 := dkwX1_asLands_0 ++ dktX1_asLands_1
theorem dksX1_asLands_0 : cX1_asLands.data.toList.drop 0 = dktX1_asLands_0 := by decide +kernel
theorem dksX1_asLands_1 : cX1_asLands.data.toList.drop 24 = dktX1_asLands_1 := dk_seg dksX1_asLands_0 24 rfl rfl
theorem dksX1_asLands_2 : cX1_asLands.data.toList.drop 48 = dktX1_asLands_2 := dk_seg dksX1_asLands_1 24 rfl rfl
theorem dksX1_asLands_3 : cX1_asLands.data.toList.drop 70 = dktX1_asLands_3 := dk_seg dksX1_asLands_2 22 rfl rfl
theorem dksX1_asLands_4 : cX1_asLands.data.toList.drop 92 = dktX1_asLands_4 := dk_seg dksX1_asLands_3 22 rfl rfl
theorem dksX1_asLands_5 : cX1_asLands.data.toList.drop 116 = dktX1_asLands_5 := dk_seg dksX1_asLands_4 24 rfl rfl
theorem dX1_asLands_0 : decode cX1_asLands 0 = .ok (.aload_n 0, 1) := dk_42 (dk_at dksX1_asLands_0 0 rfl rfl)
theorem dX1_asLands_1 : decode cX1_asLands 1 = .ok (.aload_n 1, 1) := dk_43 (dk_at dksX1_asLands_0 1 rfl rfl)
theorem dX1_asLands_2 : decode cX1_asLands 2 = .ok (.getfield 174, 3) := dk_180 0 174 (dk_at dksX1_asLands_0 2 rfl rfl)
theorem dX1_asLands_5 : decode cX1_asLands 5 = .ok (.putfield 174, 3) := dk_181 0 174 (dk_at dksX1_asLands_0 5 rfl rfl)
theorem dX1_asLands_8 : decode cX1_asLands 8 = .ok (.aload_n 1, 1) := dk_43 (dk_at dksX1_asLands_0 8 rfl rfl)
theorem dX1_asLands_9 : decode cX1_asLands 9 = .ok (.getfield 55, 3) := dk_180 0 55 (dk_at dksX1_asLands_0 9 rfl rfl)
theorem dX1_asLands_12 : decode cX1_asLands 12 = .ok (.iconst 0, 1) := dk_3 (dk_at dksX1_asLands_0 12 rfl rfl)
theorem dX1_asLands_13 : decode cX1_asLands 13 = .ok (.aload_n 0, 1) := dk_42 (dk_at dksX1_asLands_0 13 rfl rfl)
theorem dX1_asLands_14 : decode cX1_asLands 14 = .ok (.getfield 55, 3) := dk_180 0 55 (dk_at dksX1_asLands_0 14 rfl rfl)
theorem dX1_asLands_17 : decode cX1_asLands 17 = .ok (.iconst 0, 1) := dk_3 (dk_at dksX1_asLands_0 17 rfl rfl)
theorem dX1_asLands_18 : decode cX1_asLands 18 = .ok (.bipush 12, 2) := dk_16 12 (dk_at dksX1_asLands_0 18 rfl rfl)
theorem dX1_asLands_20 : decode cX1_asLands 20 = .ok (.invokestatic 156, 3) := dk_184 0 156 (dk_at dksX1_asLands_0 20 rfl rfl)
theorem dX1_asLands_23 : decode cX1_asLands 23 = .ok (.aload_n 1, 1) := dk_43 (dk_at dksX1_asLands_0 23 rfl rfl)
theorem dX1_asLands_24 : decode cX1_asLands 24 = .ok (.getfield 58, 3) := dk_180 0 58 (dk_at dksX1_asLands_1 0 rfl rfl)
theorem dX1_asLands_27 : decode cX1_asLands 27 = .ok (.iconst 0, 1) := dk_3 (dk_at dksX1_asLands_1 3 rfl rfl)
theorem dX1_asLands_28 : decode cX1_asLands 28 = .ok (.aload_n 0, 1) := dk_42 (dk_at dksX1_asLands_1 4 rfl rfl)
theorem dX1_asLands_29 : decode cX1_asLands 29 = .ok (.getfield 58, 3) := dk_180 0 58 (dk_at dksX1_asLands_1 5 rfl rfl)
theorem dX1_asLands_32 : decode cX1_asLands 32 = .ok (.iconst 0, 1) := dk_3 (dk_at dksX1_asLands_1 8 rfl rfl)
theorem dX1_asLands_33 : decode cX1_asLands 33 = .ok (.bipush 12, 2) := dk_16 12 (dk_at dksX1_asLands_1 9 rfl rfl)
theorem dX1_asLands_35 : decode cX1_asLands 35 = .ok (.invokestatic 156, 3) := dk_184 0 156 (dk_at dksX1_asLands_1 11 rfl rfl)
theorem dX1_asLands_38 : decode cX1_asLands 38 = .ok (.aload_n 1, 1) := dk_43 (dk_at dksX1_asLands_1 14 rfl rfl)
theorem dX1_asLands_39 : decode cX1_asLands 39 = .ok (.getfield 61, 3) := dk_180 0 61 (dk_at dksX1_asLands_1 15 rfl rfl)
theorem dX1_asLands_42 : decode cX1_asLands 42 = .ok (.iconst 0, 1) := dk_3 (dk_at dksX1_asLands_1 18 rfl rfl)
theorem dX1_asLands_43 : decode cX1_asLands 43 = .ok (.aload_n 0, 1) := dk_42 (dk_at dksX1_asLands_1 19 rfl rfl)
theorem dX1_asLands_44 : decode cX1_asLands 44 = .ok (.getfield 61, 3) := dk_180 0 61 (dk_at dksX1_asLands_1 20 rfl rfl)
theorem dX1_asLands_47 : decode cX1_asLands 47 = .ok (.iconst 0, 1) := dk_3 (dk_at dksX1_asLands_1 23 rfl rfl)
theorem dX1_asLands_48 : decode cX1_asLands 48 = .ok (.bipush 12, 2) := dk_16 12 (dk_at dksX1_asLands_2 0 rfl rfl)
theorem dX1_asLands_50 : decode cX1_asLands 50 = .ok (.invokestatic 156, 3) := dk_184 0 156 (dk_at dksX1_asLands_2 2 rfl rfl)
theorem dX1_asLands_53 : decode cX1_asLands 53 = .ok (.aload_n 1, 1) := dk_43 (dk_at dksX1_asLands_2 5 rfl rfl)
theorem dX1_asLands_54 : decode cX1_asLands 54 = .ok (.getfield 64, 3) := dk_180 0 64 (dk_at dksX1_asLands_2 6 rfl rfl)
theorem dX1_asLands_57 : decode cX1_asLands 57 = .ok (.iconst 0, 1) := dk_3 (dk_at dksX1_asLands_2 9 rfl rfl)
theorem dX1_asLands_58 : decode cX1_asLands 58 = .ok (.aload_n 0, 1) := dk_42 (dk_at dksX1_asLands_2 10 rfl rfl)
theorem dX1_asLands_59 : decode cX1_asLands 59 = .ok (.getfield 64, 3) := dk_180 0 64 (dk_at dksX1_asLands_2 11 rfl rfl)
theorem dX1_asLands_62 : decode cX1_asLands 62 = .ok (.iconst 0, 1) := dk_3 (dk_at dksX1_asLands_2 14 rfl rfl)
theorem dX1_asLands_63 : decode cX1_asLands 63 = .ok (.bipush 6, 2) := dk_16 6 (dk_at dksX1_asLands_2 15 rfl rfl)
theorem dX1_asLands_65 : decode cX1_asLands 65 = .ok (.invokestatic 156, 3) := dk_184 0 156 (dk_at dksX1_asLands_2 17 rfl rfl)
theorem dX1_asLands_68 : decode cX1_asLands 68 = .ok (.aload_n 0, 1) := dk_42 (dk_at dksX1_asLands_2 20 rfl rfl)
theorem dX1_asLands_69 : decode cX1_asLands 69 = .ok (.aload_n 1, 1) := dk_43 (dk_at dksX1_asLands_2 21 rfl rfl)
theorem dX1_asLands_70 : decode cX1_asLands 70 = .ok (.getfield 177, 3) := dk_180 0 177 (dk_at dksX1_asLands_3 0 rfl rfl)
theorem dX1_asLands_73 : decode cX1_asLands 73 = .ok (.putfield 177, 3) := dk_181 0 177 (dk_at dksX1_asLands_3 3 rfl rfl)
theorem dX1_asLands_76 : decode cX1_asLands 76 = .ok (.aload_n 1, 1) := dk_43 (dk_at dksX1_asLands_3 6 rfl rfl)
theorem dX1_asLands_77 : decode cX1_asLands 77 = .ok (.getfield 67, 3) := dk_180 0 67 (dk_at dksX1_asLands_3 7 rfl rfl)
theorem dX1_asLands_80 : decode cX1_asLands 80 = .ok (.iconst 0, 1) := dk_3 (dk_at dksX1_asLands_3 10 rfl rfl)
theorem dX1_asLands_81 : decode cX1_asLands 81 = .ok (.aload_n 0, 1) := dk_42 (dk_at dksX1_asLands_3 11 rfl rfl)
theorem dX1_asLands_82 : decode cX1_asLands 82 = .ok (.getfield 67, 3) := dk_180 0 67 (dk_at dksX1_asLands_3 12 rfl rfl)
theorem dX1_asLands_85 : decode cX1_asLands 85 = .ok (.iconst 0, 1) := dk_3 (dk_at dksX1_asLands_3 15 rfl rfl)
theorem dX1_asLands_86 : decode cX1_asLands 86 = .ok (.bipush 8, 2) := dk_16 8 (dk_at dksX1_asLands_3 16 rfl rfl)
theorem dX1_asLands_88 : decode cX1_asLands 88 = .ok (.invokestatic 156, 3) := dk_184 0 156 (dk_at dksX1_asLands_3 18 rfl rfl)
theorem dX1_asLands_91 : decode cX1_asLands 91 = .ok (.aload_n 1, 1) := dk_43 (dk_at dksX1_asLands_3 21 rfl rfl)
theorem dX1_asLands_92 : decode cX1_asLands 92 = .ok (.getfield 70, 3) := dk_180 0 70 (dk_at dksX1_asLands_4 0 rfl rfl)
theorem dX1_asLands_95 : decode cX1_asLands 95 = .ok (.iconst 0, 1) := dk_3 (dk_at dksX1_asLands_4 3 rfl rfl)
theorem dX1_asLands_96 : decode cX1_asLands 96 = .ok (.aload_n 0, 1) := dk_42 (dk_at dksX1_asLands_4 4 rfl rfl)
theorem dX1_asLands_97 : decode cX1_asLands 97 = .ok (.getfield 70, 3) := dk_180 0 70 (dk_at dksX1_asLands_4 5 rfl rfl)
theorem dX1_asLands_100 : decode cX1_asLands 100 = .ok (.iconst 0, 1) := dk_3 (dk_at dksX1_asLands_4 8 rfl rfl)
theorem dX1_asLands_101 : decode cX1_asLands 101 = .ok (.bipush 8, 2) := dk_16 8 (dk_at dksX1_asLands_4 9 rfl rfl)
theorem dX1_asLands_103 : decode cX1_asLands 103 = .ok (.invokestatic 156, 3) := dk_184 0 156 (dk_at dksX1_asLands_4 11 rfl rfl)
theorem dX1_asLands_106 : decode cX1_asLands 106 = .ok (.aload_n 1, 1) := dk_43 (dk_at dksX1_asLands_4 14 rfl rfl)
theorem dX1_asLands_107 : decode cX1_asLands 107 = .ok (.getfield 73, 3) := dk_180 0 73 (dk_at dksX1_asLands_4 15 rfl rfl)
theorem dX1_asLands_110 : decode cX1_asLands 110 = .ok (.iconst 0, 1) := dk_3 (dk_at dksX1_asLands_4 18 rfl rfl)
theorem dX1_asLands_111 : decode cX1_asLands 111 = .ok (.aload_n 0, 1) := dk_42 (dk_at dksX1_asLands_4 19 rfl rfl)
theorem dX1_asLands_112 : decode cX1_asLands 112 = .ok (.getfield 73, 3) := dk_180 0 73 (dk_at dksX1_asLands_4 20 rfl rfl)
theorem dX1_asLands_115 : decode cX1_asLands 115 = .ok (.iconst 0, 1) := dk_3 (dk_at dksX1_asLands_4 23 rfl rfl)
theorem dX1_asLands_116 : decode cX1_asLands 116 = .ok (.bipush 8, 2) := dk_16 8 (dk_at dksX1_asLands_5 0 rfl rfl)
theorem dX1_asLands_118 : decode cX1_asLands 118 = .ok (.invokestatic 156, 3) := dk_184 0 156 (dk_at dksX1_asLands_5 2 rfl rfl)
theorem dX1_asLands_121 : decode cX1_asLands 121 = .ok (.aload_n 1, 1) := dk_43 (dk_at dksX1_asLands_5 5 rfl rfl)
theorem dX1_asLands_122 : decode cX1_asLands 122 = .ok (.getfield 76, 3) := dk_180 0 76 (dk_at dksX1_asLands_5 6 rfl rfl)
theorem dX1_asLands_125 : decode cX1_asLands 125 = .ok (.iconst 0, 1) := dk_3 (dk_at dksX1_asLands_5 9 rfl rfl)
theorem dX1_asLands_126 : decode cX1_asLands 126 = .ok (.aload_n 0, 1) := dk_42 (dk_at dksX1_asLands_5 10 rfl rfl)
theorem dX1_asLands_127 : decode cX1_asLands 127 = .ok (.getfield 76, 3) := dk_180 0 76 (dk_at dksX1_asLands_5 11 rfl rfl)
theorem dX1_asLands_130 : decode cX1_asLands 130 = .ok (.iconst 0, 1) := dk_3 (dk_at dksX1_asLands_5 14 rfl rfl)
theorem dX1_asLands_131 : decode cX1_asLands 131 = .ok (.bipush 8, 2) := dk_16 8 (dk_at dksX1_asLands_5 15 rfl rfl)
theorem dX1_asLands_133 : decode cX1_asLands 133 = .ok (.invokestatic 156, 3) := dk_184 0 156 (dk_at dksX1_asLands_5 17 rfl rfl)
theorem dX1_asLands_136 : decode cX1_asLands 136 = .ok (.return_, 1) := dk_177 (dk_at dksX1_asLands_5 20 rfl rfl)
