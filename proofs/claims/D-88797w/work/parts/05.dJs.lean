set_option maxRecDepth 100000
abbrev cJ0_min : ByteArray := prog_23_method_69_code
def yJ0_min : MethodName := ⟨RJ0, "min", "(II)I"⟩
def dkwJ0_min_0 : List UInt8 := [26, 27, 163, 0, 7, 26, 167, 0, 4, 27, 172]
abbrev dktJ0_min_0 : List UInt8 := dkwJ0_min_0 ++ []
theorem dksJ0_min_0 : cJ0_min.data.toList.drop 0 = dktJ0_min_0 := by decide +kernel
theorem dJ0_min_0 : decode cJ0_min 0 = .ok (.iload_n 0, 1) := dk_26 (dk_at dksJ0_min_0 0 rfl rfl)
theorem dJ0_min_1 : decode cJ0_min 1 = .ok (.iload_n 1, 1) := dk_27 (dk_at dksJ0_min_0 1 rfl rfl)
theorem dJ0_min_2 : decode cJ0_min 2 = .ok (.if_icmp .gt 7, 3) := dk_163 0 7 (dk_at dksJ0_min_0 2 rfl rfl)
theorem dJ0_min_5 : decode cJ0_min 5 = .ok (.iload_n 0, 1) := dk_26 (dk_at dksJ0_min_0 5 rfl rfl)
theorem dJ0_min_6 : decode cJ0_min 6 = .ok (.goto 4, 3) := dk_167 0 4 (dk_at dksJ0_min_0 6 rfl rfl)
theorem dJ0_min_9 : decode cJ0_min 9 = .ok (.iload_n 1, 1) := dk_27 (dk_at dksJ0_min_0 9 rfl rfl)
theorem dJ0_min_10 : decode cJ0_min 10 = .ok (.ireturn, 1) := dk_172 (dk_at dksJ0_min_0 10 rfl rfl)
abbrev cJ0_max : ByteArray := prog_23_method_65_code
def yJ0_max : MethodName := ⟨RJ0, "max", "(II)I"⟩
def dkwJ0_max_0 : List UInt8 := [26, 27, 161, 0, 7, 26, 167, 0, 4, 27, 172]
abbrev dktJ0_max_0 : List UInt8 := dkwJ0_max_0 ++ []
theorem dksJ0_max_0 : cJ0_max.data.toList.drop 0 = dktJ0_max_0 := by decide +kernel
theorem dJ0_max_0 : decode cJ0_max 0 = .ok (.iload_n 0, 1) := dk_26 (dk_at dksJ0_max_0 0 rfl rfl)
theorem dJ0_max_1 : decode cJ0_max 1 = .ok (.iload_n 1, 1) := dk_27 (dk_at dksJ0_max_0 1 rfl rfl)
theorem dJ0_max_2 : decode cJ0_max 2 = .ok (.if_icmp .lt 7, 3) := dk_161 0 7 (dk_at dksJ0_max_0 2 rfl rfl)
theorem dJ0_max_5 : decode cJ0_max 5 = .ok (.iload_n 0, 1) := dk_26 (dk_at dksJ0_max_0 5 rfl rfl)
theorem dJ0_max_6 : decode cJ0_max 6 = .ok (.goto 4, 3) := dk_167 0 4 (dk_at dksJ0_max_0 6 rfl rfl)
theorem dJ0_max_9 : decode cJ0_max 9 = .ok (.iload_n 1, 1) := dk_27 (dk_at dksJ0_max_0 9 rfl rfl)
theorem dJ0_max_10 : decode cJ0_max 10 = .ok (.ireturn, 1) := dk_172 (dk_at dksJ0_max_0 10 rfl rfl)
abbrev cJ0_min_2 : ByteArray := prog_23_method_70_code
def yJ0_min_2 : MethodName := ⟨RJ0, "min", "(JJ)J"⟩
def dkwJ0_min_2_0 : List UInt8 := [30, 32, 148, 157, 0, 7, 30, 167, 0, 4, 32, 173]
abbrev dktJ0_min_2_0 : List UInt8 := dkwJ0_min_2_0 ++ []
theorem dksJ0_min_2_0 : cJ0_min_2.data.toList.drop 0 = dktJ0_min_2_0 := by decide +kernel
theorem dJ0_min_2_0 : decode cJ0_min_2 0 = .ok (.lload_n 0, 1) := dk_30 (dk_at dksJ0_min_2_0 0 rfl rfl)
theorem dJ0_min_2_1 : decode cJ0_min_2 1 = .ok (.lload_n 2, 1) := dk_32 (dk_at dksJ0_min_2_0 1 rfl rfl)
theorem dJ0_min_2_2 : decode cJ0_min_2 2 = .ok (.lcmp, 1) := dk_148 (dk_at dksJ0_min_2_0 2 rfl rfl)
theorem dJ0_min_2_3 : decode cJ0_min_2 3 = .ok (.ifCond .gt 7, 3) := dk_157 0 7 (dk_at dksJ0_min_2_0 3 rfl rfl)
theorem dJ0_min_2_6 : decode cJ0_min_2 6 = .ok (.lload_n 0, 1) := dk_30 (dk_at dksJ0_min_2_0 6 rfl rfl)
theorem dJ0_min_2_7 : decode cJ0_min_2 7 = .ok (.goto 4, 3) := dk_167 0 4 (dk_at dksJ0_min_2_0 7 rfl rfl)
theorem dJ0_min_2_10 : decode cJ0_min_2 10 = .ok (.lload_n 2, 1) := dk_32 (dk_at dksJ0_min_2_0 10 rfl rfl)
theorem dJ0_min_2_11 : decode cJ0_min_2 11 = .ok (.lreturn, 1) := dk_173 (dk_at dksJ0_min_2_0 11 rfl rfl)
abbrev cJ1_init : ByteArray := prog_29_method_1_code
def yJ1_init : MethodName := ⟨RJ1, "<init>", "()V"⟩
def dkwJ1_init_1 : List UInt8 := [182, 0, 27, 87, 177]
abbrev dktJ1_init_1 : List UInt8 := dkwJ1_init_1 ++ []
def dkwJ1_init_0 : List UInt8 := [42, 183, 0, 1, 42, 42, 181, 0, 7, 42, 178, 0, 13, 181, 0, 17, 42, 178, 0, 20, 181, 0, 24, 42]
abbrev dktJ1_init_0 : List UInt8 := dkwJ1_init_0 ++ dktJ1_init_1
theorem dksJ1_init_0 : cJ1_init.data.toList.drop 0 = dktJ1_init_0 := by decide +kernel
theorem dksJ1_init_1 : cJ1_init.data.toList.drop 24 = dktJ1_init_1 := dk_seg dksJ1_init_0 24 rfl rfl
theorem dJ1_init_0 : decode cJ1_init 0 = .ok (.aload_n 0, 1) := dk_42 (dk_at dksJ1_init_0 0 rfl rfl)
theorem dJ1_init_1 : decode cJ1_init 1 = .ok (.invokespecial 1, 3) := dk_183 0 1 (dk_at dksJ1_init_0 1 rfl rfl)
theorem dJ1_init_4 : decode cJ1_init 4 = .ok (.aload_n 0, 1) := dk_42 (dk_at dksJ1_init_0 4 rfl rfl)
theorem dJ1_init_5 : decode cJ1_init 5 = .ok (.aload_n 0, 1) := dk_42 (dk_at dksJ1_init_0 5 rfl rfl)
theorem dJ1_init_6 : decode cJ1_init 6 = .ok (.putfield 7, 3) := dk_181 0 7 (dk_at dksJ1_init_0 6 rfl rfl)
theorem dJ1_init_9 : decode cJ1_init 9 = .ok (.aload_n 0, 1) := dk_42 (dk_at dksJ1_init_0 9 rfl rfl)
theorem dJ1_init_10 : decode cJ1_init 10 = .ok (.getstatic 13, 3) := dk_178 0 13 (dk_at dksJ1_init_0 10 rfl rfl)
theorem dJ1_init_13 : decode cJ1_init 13 = .ok (.putfield 17, 3) := dk_181 0 17 (dk_at dksJ1_init_0 13 rfl rfl)
theorem dJ1_init_16 : decode cJ1_init 16 = .ok (.aload_n 0, 1) := dk_42 (dk_at dksJ1_init_0 16 rfl rfl)
theorem dJ1_init_17 : decode cJ1_init 17 = .ok (.getstatic 20, 3) := dk_178 0 20 (dk_at dksJ1_init_0 17 rfl rfl)
theorem dJ1_init_20 : decode cJ1_init 20 = .ok (.putfield 24, 3) := dk_181 0 24 (dk_at dksJ1_init_0 20 rfl rfl)
theorem dJ1_init_23 : decode cJ1_init 23 = .ok (.aload_n 0, 1) := dk_42 (dk_at dksJ1_init_0 23 rfl rfl)
theorem dJ1_init_24 : decode cJ1_init 24 = .ok (.invokevirtual 27, 3) := dk_182 0 27 (dk_at dksJ1_init_1 0 rfl rfl)
theorem dJ1_init_27 : decode cJ1_init 27 = .ok (.pop, 1) := dk_87 (dk_at dksJ1_init_1 3 rfl rfl)
theorem dJ1_init_28 : decode cJ1_init 28 = .ok (.return_, 1) := dk_177 (dk_at dksJ1_init_1 4 rfl rfl)
abbrev cJ1_init_2 : ByteArray := prog_29_method_5_code
def yJ1_init_2 : MethodName := ⟨RJ1, "<init>", "(Ljava/lang/String;Ljava/lang/Throwable;ZZ)V"⟩
def dkwJ1_init_2_2 : List UInt8 := [44, 181, 0, 7, 29, 154, 0, 8, 42, 1, 181, 0, 24, 177]
abbrev dktJ1_init_2_2 : List UInt8 := dkwJ1_init_2_2 ++ []
def dkwJ1_init_2_1 : List UInt8 := [21, 4, 153, 0, 11, 42, 182, 0, 27, 87, 167, 0, 8, 42, 1, 181, 0, 17, 42, 43, 181, 0, 31, 42]
abbrev dktJ1_init_2_1 : List UInt8 := dkwJ1_init_2_1 ++ dktJ1_init_2_2
def dkwJ1_init_2_0 : List UInt8 := [42, 183, 0, 1, 42, 42, 181, 0, 7, 42, 178, 0, 13, 181, 0, 17, 42, 178, 0, 20, 181, 0, 24]
abbrev dktJ1_init_2_0 : List UInt8 := dkwJ1_init_2_0 ++ dktJ1_init_2_1
theorem dksJ1_init_2_0 : cJ1_init_2.data.toList.drop 0 = dktJ1_init_2_0 := by decide +kernel
theorem dksJ1_init_2_1 : cJ1_init_2.data.toList.drop 23 = dktJ1_init_2_1 := dk_seg dksJ1_init_2_0 23 rfl rfl
theorem dksJ1_init_2_2 : cJ1_init_2.data.toList.drop 47 = dktJ1_init_2_2 := dk_seg dksJ1_init_2_1 24 rfl rfl
theorem dJ1_init_2_0 : decode cJ1_init_2 0 = .ok (.aload_n 0, 1) := dk_42 (dk_at dksJ1_init_2_0 0 rfl rfl)
theorem dJ1_init_2_1 : decode cJ1_init_2 1 = .ok (.invokespecial 1, 3) := dk_183 0 1 (dk_at dksJ1_init_2_0 1 rfl rfl)
theorem dJ1_init_2_4 : decode cJ1_init_2 4 = .ok (.aload_n 0, 1) := dk_42 (dk_at dksJ1_init_2_0 4 rfl rfl)
theorem dJ1_init_2_5 : decode cJ1_init_2 5 = .ok (.aload_n 0, 1) := dk_42 (dk_at dksJ1_init_2_0 5 rfl rfl)
theorem dJ1_init_2_6 : decode cJ1_init_2 6 = .ok (.putfield 7, 3) := dk_181 0 7 (dk_at dksJ1_init_2_0 6 rfl rfl)
theorem dJ1_init_2_9 : decode cJ1_init_2 9 = .ok (.aload_n 0, 1) := dk_42 (dk_at dksJ1_init_2_0 9 rfl rfl)
theorem dJ1_init_2_10 : decode cJ1_init_2 10 = .ok (.getstatic 13, 3) := dk_178 0 13 (dk_at dksJ1_init_2_0 10 rfl rfl)
theorem dJ1_init_2_13 : decode cJ1_init_2 13 = .ok (.putfield 17, 3) := dk_181 0 17 (dk_at dksJ1_init_2_0 13 rfl rfl)
theorem dJ1_init_2_16 : decode cJ1_init_2 16 = .ok (.aload_n 0, 1) := dk_42 (dk_at dksJ1_init_2_0 16 rfl rfl)
theorem dJ1_init_2_17 : decode cJ1_init_2 17 = .ok (.getstatic 20, 3) := dk_178 0 20 (dk_at dksJ1_init_2_0 17 rfl rfl)
theorem dJ1_init_2_20 : decode cJ1_init_2 20 = .ok (.putfield 24, 3) := dk_181 0 24 (dk_at dksJ1_init_2_0 20 rfl rfl)
theorem dJ1_init_2_23 : decode cJ1_init_2 23 = .ok (.iload 4, 2) := dk_21 4 (dk_at dksJ1_init_2_1 0 rfl rfl)
theorem dJ1_init_2_25 : decode cJ1_init_2 25 = .ok (.ifCond .eq 11, 3) := dk_153 0 11 (dk_at dksJ1_init_2_1 2 rfl rfl)
theorem dJ1_init_2_28 : decode cJ1_init_2 28 = .ok (.aload_n 0, 1) := dk_42 (dk_at dksJ1_init_2_1 5 rfl rfl)
theorem dJ1_init_2_29 : decode cJ1_init_2 29 = .ok (.invokevirtual 27, 3) := dk_182 0 27 (dk_at dksJ1_init_2_1 6 rfl rfl)
theorem dJ1_init_2_32 : decode cJ1_init_2 32 = .ok (.pop, 1) := dk_87 (dk_at dksJ1_init_2_1 9 rfl rfl)
theorem dJ1_init_2_33 : decode cJ1_init_2 33 = .ok (.goto 8, 3) := dk_167 0 8 (dk_at dksJ1_init_2_1 10 rfl rfl)
theorem dJ1_init_2_36 : decode cJ1_init_2 36 = .ok (.aload_n 0, 1) := dk_42 (dk_at dksJ1_init_2_1 13 rfl rfl)
theorem dJ1_init_2_37 : decode cJ1_init_2 37 = .ok (.aconst_null, 1) := dk_1 (dk_at dksJ1_init_2_1 14 rfl rfl)
theorem dJ1_init_2_38 : decode cJ1_init_2 38 = .ok (.putfield 17, 3) := dk_181 0 17 (dk_at dksJ1_init_2_1 15 rfl rfl)
theorem dJ1_init_2_41 : decode cJ1_init_2 41 = .ok (.aload_n 0, 1) := dk_42 (dk_at dksJ1_init_2_1 18 rfl rfl)
theorem dJ1_init_2_42 : decode cJ1_init_2 42 = .ok (.aload_n 1, 1) := dk_43 (dk_at dksJ1_init_2_1 19 rfl rfl)
theorem dJ1_init_2_43 : decode cJ1_init_2 43 = .ok (.putfield 31, 3) := dk_181 0 31 (dk_at dksJ1_init_2_1 20 rfl rfl)
theorem dJ1_init_2_46 : decode cJ1_init_2 46 = .ok (.aload_n 0, 1) := dk_42 (dk_at dksJ1_init_2_1 23 rfl rfl)
theorem dJ1_init_2_47 : decode cJ1_init_2 47 = .ok (.aload_n 2, 1) := dk_44 (dk_at dksJ1_init_2_2 0 rfl rfl)
theorem dJ1_init_2_48 : decode cJ1_init_2 48 = .ok (.putfield 7, 3) := dk_181 0 7 (dk_at dksJ1_init_2_2 1 rfl rfl)
theorem dJ1_init_2_51 : decode cJ1_init_2 51 = .ok (.iload_n 3, 1) := dk_29 (dk_at dksJ1_init_2_2 4 rfl rfl)
theorem dJ1_init_2_52 : decode cJ1_init_2 52 = .ok (.ifCond .ne 8, 3) := dk_154 0 8 (dk_at dksJ1_init_2_2 5 rfl rfl)
theorem dJ1_init_2_55 : decode cJ1_init_2 55 = .ok (.aload_n 0, 1) := dk_42 (dk_at dksJ1_init_2_2 8 rfl rfl)
theorem dJ1_init_2_56 : decode cJ1_init_2 56 = .ok (.aconst_null, 1) := dk_1 (dk_at dksJ1_init_2_2 9 rfl rfl)
theorem dJ1_init_2_57 : decode cJ1_init_2 57 = .ok (.putfield 24, 3) := dk_181 0 24 (dk_at dksJ1_init_2_2 10 rfl rfl)
theorem dJ1_init_2_60 : decode cJ1_init_2 60 = .ok (.return_, 1) := dk_177 (dk_at dksJ1_init_2_2 13 rfl rfl)
abbrev cJ1_init_3 : ByteArray := prog_29_method_2_code
def yJ1_init_3 : MethodName := ⟨RJ1, "<init>", "(Ljava/lang/String;)V"⟩
def dkwJ1_init_3_1 : List UInt8 := [182, 0, 27, 87, 42, 43, 181, 0, 31, 177]
abbrev dktJ1_init_3_1 : List UInt8 := dkwJ1_init_3_1 ++ []
def dkwJ1_init_3_0 : List UInt8 := [42, 183, 0, 1, 42, 42, 181, 0, 7, 42, 178, 0, 13, 181, 0, 17, 42, 178, 0, 20, 181, 0, 24, 42]
abbrev dktJ1_init_3_0 : List UInt8 := dkwJ1_init_3_0 ++ dktJ1_init_3_1
theorem dksJ1_init_3_0 : cJ1_init_3.data.toList.drop 0 = dktJ1_init_3_0 := by decide +kernel
theorem dksJ1_init_3_1 : cJ1_init_3.data.toList.drop 24 = dktJ1_init_3_1 := dk_seg dksJ1_init_3_0 24 rfl rfl
theorem dJ1_init_3_0 : decode cJ1_init_3 0 = .ok (.aload_n 0, 1) := dk_42 (dk_at dksJ1_init_3_0 0 rfl rfl)
theorem dJ1_init_3_1 : decode cJ1_init_3 1 = .ok (.invokespecial 1, 3) := dk_183 0 1 (dk_at dksJ1_init_3_0 1 rfl rfl)
theorem dJ1_init_3_4 : decode cJ1_init_3 4 = .ok (.aload_n 0, 1) := dk_42 (dk_at dksJ1_init_3_0 4 rfl rfl)
theorem dJ1_init_3_5 : decode cJ1_init_3 5 = .ok (.aload_n 0, 1) := dk_42 (dk_at dksJ1_init_3_0 5 rfl rfl)
theorem dJ1_init_3_6 : decode cJ1_init_3 6 = .ok (.putfield 7, 3) := dk_181 0 7 (dk_at dksJ1_init_3_0 6 rfl rfl)
theorem dJ1_init_3_9 : decode cJ1_init_3 9 = .ok (.aload_n 0, 1) := dk_42 (dk_at dksJ1_init_3_0 9 rfl rfl)
theorem dJ1_init_3_10 : decode cJ1_init_3 10 = .ok (.getstatic 13, 3) := dk_178 0 13 (dk_at dksJ1_init_3_0 10 rfl rfl)
theorem dJ1_init_3_13 : decode cJ1_init_3 13 = .ok (.putfield 17, 3) := dk_181 0 17 (dk_at dksJ1_init_3_0 13 rfl rfl)
theorem dJ1_init_3_16 : decode cJ1_init_3 16 = .ok (.aload_n 0, 1) := dk_42 (dk_at dksJ1_init_3_0 16 rfl rfl)
theorem dJ1_init_3_17 : decode cJ1_init_3 17 = .ok (.getstatic 20, 3) := dk_178 0 20 (dk_at dksJ1_init_3_0 17 rfl rfl)
theorem dJ1_init_3_20 : decode cJ1_init_3 20 = .ok (.putfield 24, 3) := dk_181 0 24 (dk_at dksJ1_init_3_0 20 rfl rfl)
theorem dJ1_init_3_23 : decode cJ1_init_3 23 = .ok (.aload_n 0, 1) := dk_42 (dk_at dksJ1_init_3_0 23 rfl rfl)
theorem dJ1_init_3_24 : decode cJ1_init_3 24 = .ok (.invokevirtual 27, 3) := dk_182 0 27 (dk_at dksJ1_init_3_1 0 rfl rfl)
theorem dJ1_init_3_27 : decode cJ1_init_3 27 = .ok (.pop, 1) := dk_87 (dk_at dksJ1_init_3_1 3 rfl rfl)
theorem dJ1_init_3_28 : decode cJ1_init_3 28 = .ok (.aload_n 0, 1) := dk_42 (dk_at dksJ1_init_3_1 4 rfl rfl)
theorem dJ1_init_3_29 : decode cJ1_init_3 29 = .ok (.aload_n 1, 1) := dk_43 (dk_at dksJ1_init_3_1 5 rfl rfl)
theorem dJ1_init_3_30 : decode cJ1_init_3 30 = .ok (.putfield 31, 3) := dk_181 0 31 (dk_at dksJ1_init_3_1 6 rfl rfl)
theorem dJ1_init_3_33 : decode cJ1_init_3 33 = .ok (.return_, 1) := dk_177 (dk_at dksJ1_init_3_1 9 rfl rfl)
abbrev cJ2_init : ByteArray := prog_21_method_5_code
def yJ2_init : MethodName := ⟨RJ2, "<init>", "(Ljava/lang/String;Ljava/lang/Throwable;ZZ)V"⟩
def dkwJ2_init_0 : List UInt8 := [42, 43, 44, 29, 21, 4, 183, 0, 16, 177]
abbrev dktJ2_init_0 : List UInt8 := dkwJ2_init_0 ++ []
theorem dksJ2_init_0 : cJ2_init.data.toList.drop 0 = dktJ2_init_0 := by decide +kernel
theorem dJ2_init_0 : decode cJ2_init 0 = .ok (.aload_n 0, 1) := dk_42 (dk_at dksJ2_init_0 0 rfl rfl)
theorem dJ2_init_1 : decode cJ2_init 1 = .ok (.aload_n 1, 1) := dk_43 (dk_at dksJ2_init_0 1 rfl rfl)
theorem dJ2_init_2 : decode cJ2_init 2 = .ok (.aload_n 2, 1) := dk_44 (dk_at dksJ2_init_0 2 rfl rfl)
theorem dJ2_init_3 : decode cJ2_init 3 = .ok (.iload_n 3, 1) := dk_29 (dk_at dksJ2_init_0 3 rfl rfl)
theorem dJ2_init_4 : decode cJ2_init 4 = .ok (.iload 4, 2) := dk_21 4 (dk_at dksJ2_init_0 4 rfl rfl)
theorem dJ2_init_6 : decode cJ2_init 6 = .ok (.invokespecial 16, 3) := dk_183 0 16 (dk_at dksJ2_init_0 6 rfl rfl)
theorem dJ2_init_9 : decode cJ2_init 9 = .ok (.return_, 1) := dk_177 (dk_at dksJ2_init_0 9 rfl rfl)
abbrev cJ2_init_2 : ByteArray := prog_21_method_2_code
def yJ2_init_2 : MethodName := ⟨RJ2, "<init>", "(Ljava/lang/String;)V"⟩
def dkwJ2_init_2_0 : List UInt8 := [42, 43, 183, 0, 7, 177]
abbrev dktJ2_init_2_0 : List UInt8 := dkwJ2_init_2_0 ++ []
theorem dksJ2_init_2_0 : cJ2_init_2.data.toList.drop 0 = dktJ2_init_2_0 := by decide +kernel
theorem dJ2_init_2_0 : decode cJ2_init_2 0 = .ok (.aload_n 0, 1) := dk_42 (dk_at dksJ2_init_2_0 0 rfl rfl)
theorem dJ2_init_2_1 : decode cJ2_init_2 1 = .ok (.aload_n 1, 1) := dk_43 (dk_at dksJ2_init_2_0 1 rfl rfl)
theorem dJ2_init_2_2 : decode cJ2_init_2 2 = .ok (.invokespecial 7, 3) := dk_183 0 7 (dk_at dksJ2_init_2_0 2 rfl rfl)
theorem dJ2_init_2_5 : decode cJ2_init_2 5 = .ok (.return_, 1) := dk_177 (dk_at dksJ2_init_2_0 5 rfl rfl)
abbrev cJ2_init_3 : ByteArray := prog_21_method_1_code
def yJ2_init_3 : MethodName := ⟨RJ2, "<init>", "()V"⟩
theorem dJ2_init_3_0 : decode cJ2_init_3 0 = .ok (.aload_n 0, 1) := by decide +kernel
theorem dJ2_init_3_1 : decode cJ2_init_3 1 = .ok (.invokespecial 1, 3) := by decide +kernel
theorem dJ2_init_3_4 : decode cJ2_init_3 4 = .ok (.return_, 1) := by decide +kernel
abbrev cJ3_init : ByteArray := prog_26_method_5_code
def yJ3_init : MethodName := ⟨RJ3, "<init>", "(Ljava/lang/String;Ljava/lang/Throwable;ZZ)V"⟩
def dkwJ3_init_0 : List UInt8 := [42, 43, 44, 29, 21, 4, 183, 0, 16, 177]
abbrev dktJ3_init_0 : List UInt8 := dkwJ3_init_0 ++ []
theorem dksJ3_init_0 : cJ3_init.data.toList.drop 0 = dktJ3_init_0 := by decide +kernel
theorem dJ3_init_0 : decode cJ3_init 0 = .ok (.aload_n 0, 1) := dk_42 (dk_at dksJ3_init_0 0 rfl rfl)
theorem dJ3_init_1 : decode cJ3_init 1 = .ok (.aload_n 1, 1) := dk_43 (dk_at dksJ3_init_0 1 rfl rfl)
theorem dJ3_init_2 : decode cJ3_init 2 = .ok (.aload_n 2, 1) := dk_44 (dk_at dksJ3_init_0 2 rfl rfl)
theorem dJ3_init_3 : decode cJ3_init 3 = .ok (.iload_n 3, 1) := dk_29 (dk_at dksJ3_init_0 3 rfl rfl)
theorem dJ3_init_4 : decode cJ3_init 4 = .ok (.iload 4, 2) := dk_21 4 (dk_at dksJ3_init_0 4 rfl rfl)
theorem dJ3_init_6 : decode cJ3_init 6 = .ok (.invokespecial 16, 3) := dk_183 0 16 (dk_at dksJ3_init_0 6 rfl rfl)
theorem dJ3_init_9 : decode cJ3_init 9 = .ok (.return_, 1) := dk_177 (dk_at dksJ3_init_0 9 rfl rfl)
abbrev cJ3_init_2 : ByteArray := prog_26_method_2_code
def yJ3_init_2 : MethodName := ⟨RJ3, "<init>", "(Ljava/lang/String;)V"⟩
def dkwJ3_init_2_0 : List UInt8 := [42, 43, 183, 0, 7, 177]
abbrev dktJ3_init_2_0 : List UInt8 := dkwJ3_init_2_0 ++ []
theorem dksJ3_init_2_0 : cJ3_init_2.data.toList.drop 0 = dktJ3_init_2_0 := by decide +kernel
theorem dJ3_init_2_0 : decode cJ3_init_2 0 = .ok (.aload_n 0, 1) := dk_42 (dk_at dksJ3_init_2_0 0 rfl rfl)
theorem dJ3_init_2_1 : decode cJ3_init_2 1 = .ok (.aload_n 1, 1) := dk_43 (dk_at dksJ3_init_2_0 1 rfl rfl)
theorem dJ3_init_2_2 : decode cJ3_init_2 2 = .ok (.invokespecial 7, 3) := dk_183 0 7 (dk_at dksJ3_init_2_0 2 rfl rfl)
theorem dJ3_init_2_5 : decode cJ3_init_2 5 = .ok (.return_, 1) := dk_177 (dk_at dksJ3_init_2_0 5 rfl rfl)
abbrev cJ3_init_3 : ByteArray := prog_26_method_1_code
def yJ3_init_3 : MethodName := ⟨RJ3, "<init>", "()V"⟩
theorem dJ3_init_3_0 : decode cJ3_init_3 0 = .ok (.aload_n 0, 1) := by decide +kernel
theorem dJ3_init_3_1 : decode cJ3_init_3 1 = .ok (.invokespecial 1, 3) := by decide +kernel
theorem dJ3_init_3_4 : decode cJ3_init_3 4 = .ok (.return_, 1) := by decide +kernel
abbrev cJ4_init : ByteArray := prog_20_method_2_code
def yJ4_init : MethodName := ⟨RJ4, "<init>", "(Ljava/lang/String;)V"⟩
def dkwJ4_init_0 : List UInt8 := [42, 43, 183, 0, 7, 177]
abbrev dktJ4_init_0 : List UInt8 := dkwJ4_init_0 ++ []
theorem dksJ4_init_0 : cJ4_init.data.toList.drop 0 = dktJ4_init_0 := by decide +kernel
theorem dJ4_init_0 : decode cJ4_init 0 = .ok (.aload_n 0, 1) := dk_42 (dk_at dksJ4_init_0 0 rfl rfl)
theorem dJ4_init_1 : decode cJ4_init 1 = .ok (.aload_n 1, 1) := dk_43 (dk_at dksJ4_init_0 1 rfl rfl)
theorem dJ4_init_2 : decode cJ4_init 2 = .ok (.invokespecial 7, 3) := dk_183 0 7 (dk_at dksJ4_init_0 2 rfl rfl)
theorem dJ4_init_5 : decode cJ4_init 5 = .ok (.return_, 1) := dk_177 (dk_at dksJ4_init_0 5 rfl rfl)
abbrev cJ6_init : ByteArray := prog_25_method_1_code
def yJ6_init : MethodName := ⟨RJ6, "<init>", "()V"⟩
theorem dJ6_init_0 : decode cJ6_init 0 = .ok (.aload_n 0, 1) := by decide +kernel
theorem dJ6_init_1 : decode cJ6_init 1 = .ok (.invokespecial 1, 3) := by decide +kernel
theorem dJ6_init_4 : decode cJ6_init 4 = .ok (.return_, 1) := by decide +kernel
abbrev cJ7_bitCount : ByteArray := prog_22_method_49_code
def yJ7_bitCount : MethodName := ⟨RJ7, "bitCount", "(I)I"⟩
def dkwJ7_bitCount_2 : List UInt8 := [26, 16, 63, 126, 172]
abbrev dktJ7_bitCount_2 : List UInt8 := dkwJ7_bitCount_2 ++ []
def dkwJ7_bitCount_1 : List UInt8 := [26, 26, 7, 124, 96, 19, 1, 11, 126, 59, 26, 26, 16, 8, 124, 96, 59, 26, 26, 16, 16, 124, 96, 59]
abbrev dktJ7_bitCount_1 : List UInt8 := dkwJ7_bitCount_1 ++ dktJ7_bitCount_2
def dkwJ7_bitCount_0 : List UInt8 := [26, 26, 4, 124, 19, 1, 9, 126, 100, 59, 26, 19, 1, 10, 126, 26, 5, 124, 19, 1, 10, 126, 96, 59]
abbrev dktJ7_bitCount_0 : List UInt8 := dkwJ7_bitCount_0 ++ dktJ7_bitCount_1
theorem dksJ7_bitCount_0 : cJ7_bitCount.data.toList.drop 0 = dktJ7_bitCount_0 := by decide +kernel
theorem dksJ7_bitCount_1 : cJ7_bitCount.data.toList.drop 24 = dktJ7_bitCount_1 := dk_seg dksJ7_bitCount_0 24 rfl rfl
theorem dksJ7_bitCount_2 : cJ7_bitCount.data.toList.drop 48 = dktJ7_bitCount_2 := dk_seg dksJ7_bitCount_1 24 rfl rfl
theorem dJ7_bitCount_0 : decode cJ7_bitCount 0 = .ok (.iload_n 0, 1) := dk_26 (dk_at dksJ7_bitCount_0 0 rfl rfl)
theorem dJ7_bitCount_1 : decode cJ7_bitCount 1 = .ok (.iload_n 0, 1) := dk_26 (dk_at dksJ7_bitCount_0 1 rfl rfl)
theorem dJ7_bitCount_2 : decode cJ7_bitCount 2 = .ok (.iconst 1, 1) := dk_4 (dk_at dksJ7_bitCount_0 2 rfl rfl)
theorem dJ7_bitCount_3 : decode cJ7_bitCount 3 = .ok (.iushr, 1) := dk_124 (dk_at dksJ7_bitCount_0 3 rfl rfl)
theorem dJ7_bitCount_4 : decode cJ7_bitCount 4 = .ok (.ldc_w 265, 3) := dk_19 1 9 (dk_at dksJ7_bitCount_0 4 rfl rfl)
theorem dJ7_bitCount_7 : decode cJ7_bitCount 7 = .ok (.iand, 1) := dk_126 (dk_at dksJ7_bitCount_0 7 rfl rfl)
theorem dJ7_bitCount_8 : decode cJ7_bitCount 8 = .ok (.isub, 1) := dk_100 (dk_at dksJ7_bitCount_0 8 rfl rfl)
theorem dJ7_bitCount_9 : decode cJ7_bitCount 9 = .ok (.istore_n 0, 1) := dk_59 (dk_at dksJ7_bitCount_0 9 rfl rfl)
theorem dJ7_bitCount_10 : decode cJ7_bitCount 10 = .ok (.iload_n 0, 1) := dk_26 (dk_at dksJ7_bitCount_0 10 rfl rfl)
theorem dJ7_bitCount_11 : decode cJ7_bitCount 11 = .ok (.ldc_w 266, 3) := dk_19 1 10 (dk_at dksJ7_bitCount_0 11 rfl rfl)
theorem dJ7_bitCount_14 : decode cJ7_bitCount 14 = .ok (.iand, 1) := dk_126 (dk_at dksJ7_bitCount_0 14 rfl rfl)
theorem dJ7_bitCount_15 : decode cJ7_bitCount 15 = .ok (.iload_n 0, 1) := dk_26 (dk_at dksJ7_bitCount_0 15 rfl rfl)
theorem dJ7_bitCount_16 : decode cJ7_bitCount 16 = .ok (.iconst 2, 1) := dk_5 (dk_at dksJ7_bitCount_0 16 rfl rfl)
theorem dJ7_bitCount_17 : decode cJ7_bitCount 17 = .ok (.iushr, 1) := dk_124 (dk_at dksJ7_bitCount_0 17 rfl rfl)
theorem dJ7_bitCount_18 : decode cJ7_bitCount 18 = .ok (.ldc_w 266, 3) := dk_19 1 10 (dk_at dksJ7_bitCount_0 18 rfl rfl)
theorem dJ7_bitCount_21 : decode cJ7_bitCount 21 = .ok (.iand, 1) := dk_126 (dk_at dksJ7_bitCount_0 21 rfl rfl)
theorem dJ7_bitCount_22 : decode cJ7_bitCount 22 = .ok (.iadd, 1) := dk_96 (dk_at dksJ7_bitCount_0 22 rfl rfl)
theorem dJ7_bitCount_23 : decode cJ7_bitCount 23 = .ok (.istore_n 0, 1) := dk_59 (dk_at dksJ7_bitCount_0 23 rfl rfl)
theorem dJ7_bitCount_24 : decode cJ7_bitCount 24 = .ok (.iload_n 0, 1) := dk_26 (dk_at dksJ7_bitCount_1 0 rfl rfl)
theorem dJ7_bitCount_25 : decode cJ7_bitCount 25 = .ok (.iload_n 0, 1) := dk_26 (dk_at dksJ7_bitCount_1 1 rfl rfl)
theorem dJ7_bitCount_26 : decode cJ7_bitCount 26 = .ok (.iconst 4, 1) := dk_7 (dk_at dksJ7_bitCount_1 2 rfl rfl)
theorem dJ7_bitCount_27 : decode cJ7_bitCount 27 = .ok (.iushr, 1) := dk_124 (dk_at dksJ7_bitCount_1 3 rfl rfl)
theorem dJ7_bitCount_28 : decode cJ7_bitCount 28 = .ok (.iadd, 1) := dk_96 (dk_at dksJ7_bitCount_1 4 rfl rfl)
theorem dJ7_bitCount_29 : decode cJ7_bitCount 29 = .ok (.ldc_w 267, 3) := dk_19 1 11 (dk_at dksJ7_bitCount_1 5 rfl rfl)
theorem dJ7_bitCount_32 : decode cJ7_bitCount 32 = .ok (.iand, 1) := dk_126 (dk_at dksJ7_bitCount_1 8 rfl rfl)
theorem dJ7_bitCount_33 : decode cJ7_bitCount 33 = .ok (.istore_n 0, 1) := dk_59 (dk_at dksJ7_bitCount_1 9 rfl rfl)
theorem dJ7_bitCount_34 : decode cJ7_bitCount 34 = .ok (.iload_n 0, 1) := dk_26 (dk_at dksJ7_bitCount_1 10 rfl rfl)
theorem dJ7_bitCount_35 : decode cJ7_bitCount 35 = .ok (.iload_n 0, 1) := dk_26 (dk_at dksJ7_bitCount_1 11 rfl rfl)
theorem dJ7_bitCount_36 : decode cJ7_bitCount 36 = .ok (.bipush 8, 2) := dk_16 8 (dk_at dksJ7_bitCount_1 12 rfl rfl)
theorem dJ7_bitCount_38 : decode cJ7_bitCount 38 = .ok (.iushr, 1) := dk_124 (dk_at dksJ7_bitCount_1 14 rfl rfl)
theorem dJ7_bitCount_39 : decode cJ7_bitCount 39 = .ok (.iadd, 1) := dk_96 (dk_at dksJ7_bitCount_1 15 rfl rfl)
theorem dJ7_bitCount_40 : decode cJ7_bitCount 40 = .ok (.istore_n 0, 1) := dk_59 (dk_at dksJ7_bitCount_1 16 rfl rfl)
theorem dJ7_bitCount_41 : decode cJ7_bitCount 41 = .ok (.iload_n 0, 1) := dk_26 (dk_at dksJ7_bitCount_1 17 rfl rfl)
theorem dJ7_bitCount_42 : decode cJ7_bitCount 42 = .ok (.iload_n 0, 1) := dk_26 (dk_at dksJ7_bitCount_1 18 rfl rfl)
theorem dJ7_bitCount_43 : decode cJ7_bitCount 43 = .ok (.bipush 16, 2) := dk_16 16 (dk_at dksJ7_bitCount_1 19 rfl rfl)
theorem dJ7_bitCount_45 : decode cJ7_bitCount 45 = .ok (.iushr, 1) := dk_124 (dk_at dksJ7_bitCount_1 21 rfl rfl)
theorem dJ7_bitCount_46 : decode cJ7_bitCount 46 = .ok (.iadd, 1) := dk_96 (dk_at dksJ7_bitCount_1 22 rfl rfl)
theorem dJ7_bitCount_47 : decode cJ7_bitCount 47 = .ok (.istore_n 0, 1) := dk_59 (dk_at dksJ7_bitCount_1 23 rfl rfl)
theorem dJ7_bitCount_48 : decode cJ7_bitCount 48 = .ok (.iload_n 0, 1) := dk_26 (dk_at dksJ7_bitCount_2 0 rfl rfl)
theorem dJ7_bitCount_49 : decode cJ7_bitCount 49 = .ok (.bipush 63, 2) := dk_16 63 (dk_at dksJ7_bitCount_2 1 rfl rfl)
theorem dJ7_bitCount_51 : decode cJ7_bitCount 51 = .ok (.iand, 1) := dk_126 (dk_at dksJ7_bitCount_2 3 rfl rfl)
theorem dJ7_bitCount_52 : decode cJ7_bitCount 52 = .ok (.ireturn, 1) := dk_172 (dk_at dksJ7_bitCount_2 4 rfl rfl)
abbrev cJ8_init : ByteArray := prog_24_method_2_code
def yJ8_init : MethodName := ⟨RJ8, "<init>", "(Ljava/lang/String;)V"⟩
def dkwJ8_init_0 : List UInt8 := [42, 43, 183, 0, 7, 177]
abbrev dktJ8_init_0 : List UInt8 := dkwJ8_init_0 ++ []
theorem dksJ8_init_0 : cJ8_init.data.toList.drop 0 = dktJ8_init_0 := by decide +kernel
theorem dJ8_init_0 : decode cJ8_init 0 = .ok (.aload_n 0, 1) := dk_42 (dk_at dksJ8_init_0 0 rfl rfl)
theorem dJ8_init_1 : decode cJ8_init 1 = .ok (.aload_n 1, 1) := dk_43 (dk_at dksJ8_init_0 1 rfl rfl)
theorem dJ8_init_2 : decode cJ8_init 2 = .ok (.invokespecial 7, 3) := dk_183 0 7 (dk_at dksJ8_init_0 2 rfl rfl)
theorem dJ8_init_5 : decode cJ8_init 5 = .ok (.return_, 1) := dk_177 (dk_at dksJ8_init_0 5 rfl rfl)
abbrev cJ9_init : ByteArray := object_method_1_code
def yJ9_init : MethodName := ⟨RJ9, "<init>", "()V"⟩
theorem dJ9_init_0 : decode cJ9_init 0 = .ok (.return_, 1) := by decide +kernel
