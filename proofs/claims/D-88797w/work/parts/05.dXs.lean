set_option maxRecDepth 100000
abbrev cX2_init : ByteArray := prog_17_method_1_code
def yX2_init : MethodName := ⟨RX2, "<init>", "()V"⟩
theorem dX2_init_0 : decode cX2_init 0 = .ok (.aload_n 0, 1) := by decide +kernel
theorem dX2_init_1 : decode cX2_init 1 = .ok (.invokespecial 1, 3) := by decide +kernel
theorem dX2_init_4 : decode cX2_init 4 = .ok (.return_, 1) := by decide +kernel
abbrev cX2_as : ByteArray := prog_17_method_2_code
def yX2_as : MethodName := ⟨RX2, "as", "(LWoodState$Slot;)V"⟩
def dkwX2_as_3 : List UInt8 := [182, 0, 23, 177]
abbrev dktX2_as_3 : List UInt8 := dkwX2_as_3 ++ []
def dkwX2_as_2 : List UInt8 := [182, 0, 15, 44, 182, 0, 15, 159, 0, 13, 44, 182, 0, 19, 78, 42, 45, 181, 0, 7, 45, 44]
abbrev dktX2_as_2 : List UInt8 := dkwX2_as_2 ++ dktX2_as_3
def dkwX2_as_1 : List UInt8 := [180, 0, 7, 199, 0, 7, 1, 167, 0, 10, 42, 180, 0, 7, 192, 0, 13, 78, 45, 198, 0, 14, 45]
abbrev dktX2_as_1 : List UInt8 := dkwX2_as_1 ++ dktX2_as_2
def dkwX2_as_0 : List UInt8 := [43, 180, 0, 7, 199, 0, 9, 42, 1, 181, 0, 7, 177, 43, 180, 0, 7, 192, 0, 13, 77, 42]
abbrev dktX2_as_0 : List UInt8 := dkwX2_as_0 ++ dktX2_as_1
theorem dksX2_as_0 : cX2_as.data.toList.drop 0 = dktX2_as_0 := by decide +kernel
theorem dksX2_as_1 : cX2_as.data.toList.drop 22 = dktX2_as_1 := dk_seg dksX2_as_0 22 rfl rfl
theorem dksX2_as_2 : cX2_as.data.toList.drop 45 = dktX2_as_2 := dk_seg dksX2_as_1 23 rfl rfl
theorem dksX2_as_3 : cX2_as.data.toList.drop 67 = dktX2_as_3 := dk_seg dksX2_as_2 22 rfl rfl
theorem dX2_as_0 : decode cX2_as 0 = .ok (.aload_n 1, 1) := dk_43 (dk_at dksX2_as_0 0 rfl rfl)
theorem dX2_as_1 : decode cX2_as 1 = .ok (.getfield 7, 3) := dk_180 0 7 (dk_at dksX2_as_0 1 rfl rfl)
theorem dX2_as_4 : decode cX2_as 4 = .ok (.ifnonnull 9, 3) := dk_199 0 9 (dk_at dksX2_as_0 4 rfl rfl)
theorem dX2_as_7 : decode cX2_as 7 = .ok (.aload_n 0, 1) := dk_42 (dk_at dksX2_as_0 7 rfl rfl)
theorem dX2_as_8 : decode cX2_as 8 = .ok (.aconst_null, 1) := dk_1 (dk_at dksX2_as_0 8 rfl rfl)
theorem dX2_as_9 : decode cX2_as 9 = .ok (.putfield 7, 3) := dk_181 0 7 (dk_at dksX2_as_0 9 rfl rfl)
theorem dX2_as_12 : decode cX2_as 12 = .ok (.return_, 1) := dk_177 (dk_at dksX2_as_0 12 rfl rfl)
theorem dX2_as_13 : decode cX2_as 13 = .ok (.aload_n 1, 1) := dk_43 (dk_at dksX2_as_0 13 rfl rfl)
theorem dX2_as_14 : decode cX2_as 14 = .ok (.getfield 7, 3) := dk_180 0 7 (dk_at dksX2_as_0 14 rfl rfl)
theorem dX2_as_17 : decode cX2_as 17 = .ok (.checkcast 13, 3) := dk_192 0 13 (dk_at dksX2_as_0 17 rfl rfl)
theorem dX2_as_20 : decode cX2_as 20 = .ok (.astore_n 2, 1) := dk_77 (dk_at dksX2_as_0 20 rfl rfl)
theorem dX2_as_21 : decode cX2_as 21 = .ok (.aload_n 0, 1) := dk_42 (dk_at dksX2_as_0 21 rfl rfl)
theorem dX2_as_22 : decode cX2_as 22 = .ok (.getfield 7, 3) := dk_180 0 7 (dk_at dksX2_as_1 0 rfl rfl)
theorem dX2_as_25 : decode cX2_as 25 = .ok (.ifnonnull 7, 3) := dk_199 0 7 (dk_at dksX2_as_1 3 rfl rfl)
theorem dX2_as_28 : decode cX2_as 28 = .ok (.aconst_null, 1) := dk_1 (dk_at dksX2_as_1 6 rfl rfl)
theorem dX2_as_29 : decode cX2_as 29 = .ok (.goto 10, 3) := dk_167 0 10 (dk_at dksX2_as_1 7 rfl rfl)
theorem dX2_as_32 : decode cX2_as 32 = .ok (.aload_n 0, 1) := dk_42 (dk_at dksX2_as_1 10 rfl rfl)
theorem dX2_as_33 : decode cX2_as 33 = .ok (.getfield 7, 3) := dk_180 0 7 (dk_at dksX2_as_1 11 rfl rfl)
theorem dX2_as_36 : decode cX2_as 36 = .ok (.checkcast 13, 3) := dk_192 0 13 (dk_at dksX2_as_1 14 rfl rfl)
theorem dX2_as_39 : decode cX2_as 39 = .ok (.astore_n 3, 1) := dk_78 (dk_at dksX2_as_1 17 rfl rfl)
theorem dX2_as_40 : decode cX2_as 40 = .ok (.aload_n 3, 1) := dk_45 (dk_at dksX2_as_1 18 rfl rfl)
theorem dX2_as_41 : decode cX2_as 41 = .ok (.ifnull 14, 3) := dk_198 0 14 (dk_at dksX2_as_1 19 rfl rfl)
theorem dX2_as_44 : decode cX2_as 44 = .ok (.aload_n 3, 1) := dk_45 (dk_at dksX2_as_1 22 rfl rfl)
theorem dX2_as_45 : decode cX2_as 45 = .ok (.invokevirtual 15, 3) := dk_182 0 15 (dk_at dksX2_as_2 0 rfl rfl)
theorem dX2_as_48 : decode cX2_as 48 = .ok (.aload_n 2, 1) := dk_44 (dk_at dksX2_as_2 3 rfl rfl)
theorem dX2_as_49 : decode cX2_as 49 = .ok (.invokevirtual 15, 3) := dk_182 0 15 (dk_at dksX2_as_2 4 rfl rfl)
theorem dX2_as_52 : decode cX2_as 52 = .ok (.if_icmp .eq 13, 3) := dk_159 0 13 (dk_at dksX2_as_2 7 rfl rfl)
theorem dX2_as_55 : decode cX2_as 55 = .ok (.aload_n 2, 1) := dk_44 (dk_at dksX2_as_2 10 rfl rfl)
theorem dX2_as_56 : decode cX2_as 56 = .ok (.invokevirtual 19, 3) := dk_182 0 19 (dk_at dksX2_as_2 11 rfl rfl)
theorem dX2_as_59 : decode cX2_as 59 = .ok (.astore_n 3, 1) := dk_78 (dk_at dksX2_as_2 14 rfl rfl)
theorem dX2_as_60 : decode cX2_as 60 = .ok (.aload_n 0, 1) := dk_42 (dk_at dksX2_as_2 15 rfl rfl)
theorem dX2_as_61 : decode cX2_as 61 = .ok (.aload_n 3, 1) := dk_45 (dk_at dksX2_as_2 16 rfl rfl)
theorem dX2_as_62 : decode cX2_as 62 = .ok (.putfield 7, 3) := dk_181 0 7 (dk_at dksX2_as_2 17 rfl rfl)
theorem dX2_as_65 : decode cX2_as 65 = .ok (.aload_n 3, 1) := dk_45 (dk_at dksX2_as_2 20 rfl rfl)
theorem dX2_as_66 : decode cX2_as 66 = .ok (.aload_n 2, 1) := dk_44 (dk_at dksX2_as_2 21 rfl rfl)
theorem dX2_as_67 : decode cX2_as 67 = .ok (.invokevirtual 23, 3) := dk_182 0 23 (dk_at dksX2_as_3 0 rfl rfl)
theorem dX2_as_70 : decode cX2_as 70 = .ok (.return_, 1) := dk_177 (dk_at dksX2_as_3 3 rfl rfl)
abbrev cX4_init : ByteArray := prog_3_method_1_code
def yX4_init : MethodName := ⟨RX4, "<init>", "()V"⟩
def dkwX4_init_0 : List UInt8 := [42, 1, 1, 3, 3, 183, 0, 1, 177]
abbrev dktX4_init_0 : List UInt8 := dkwX4_init_0 ++ []
theorem dksX4_init_0 : cX4_init.data.toList.drop 0 = dktX4_init_0 := by decide +kernel
theorem dX4_init_0 : decode cX4_init 0 = .ok (.aload_n 0, 1) := dk_42 (dk_at dksX4_init_0 0 rfl rfl)
theorem dX4_init_1 : decode cX4_init 1 = .ok (.aconst_null, 1) := dk_1 (dk_at dksX4_init_0 1 rfl rfl)
theorem dX4_init_2 : decode cX4_init 2 = .ok (.aconst_null, 1) := dk_1 (dk_at dksX4_init_0 2 rfl rfl)
theorem dX4_init_3 : decode cX4_init 3 = .ok (.iconst 0, 1) := dk_3 (dk_at dksX4_init_0 3 rfl rfl)
theorem dX4_init_4 : decode cX4_init 4 = .ok (.iconst 0, 1) := dk_3 (dk_at dksX4_init_0 4 rfl rfl)
theorem dX4_init_5 : decode cX4_init 5 = .ok (.invokespecial 1, 3) := dk_183 0 1 (dk_at dksX4_init_0 5 rfl rfl)
theorem dX4_init_8 : decode cX4_init 8 = .ok (.return_, 1) := dk_177 (dk_at dksX4_init_0 8 rfl rfl)
abbrev cX5_init : ByteArray := prog_6_method_1_code
def yX5_init : MethodName := ⟨RX5, "<init>", "()V"⟩
def dkwX5_init_0 : List UInt8 := [42, 183, 0, 3, 42, 2, 181, 0, 9, 177]
abbrev dktX5_init_0 : List UInt8 := dkwX5_init_0 ++ []
theorem dksX5_init_0 : cX5_init.data.toList.drop 0 = dktX5_init_0 := by decide +kernel
theorem dX5_init_0 : decode cX5_init 0 = .ok (.aload_n 0, 1) := dk_42 (dk_at dksX5_init_0 0 rfl rfl)
theorem dX5_init_1 : decode cX5_init 1 = .ok (.invokespecial 3, 3) := dk_183 0 3 (dk_at dksX5_init_0 1 rfl rfl)
theorem dX5_init_4 : decode cX5_init 4 = .ok (.aload_n 0, 1) := dk_42 (dk_at dksX5_init_0 4 rfl rfl)
theorem dX5_init_5 : decode cX5_init 5 = .ok (.iconst (-1), 1) := dk_2 (dk_at dksX5_init_0 5 rfl rfl)
theorem dX5_init_6 : decode cX5_init 6 = .ok (.putfield 9, 3) := dk_181 0 9 (dk_at dksX5_init_0 6 rfl rfl)
theorem dX5_init_9 : decode cX5_init 9 = .ok (.return_, 1) := dk_177 (dk_at dksX5_init_0 9 rfl rfl)
abbrev cX6_init : ByteArray := prog_16_method_1_code
def yX6_init : MethodName := ⟨RX6, "<init>", "(I)V"⟩
def dkwX6_init_0 : List UInt8 := [42, 1, 1, 3, 3, 183, 0, 1, 42, 27, 181, 0, 7, 177]
abbrev dktX6_init_0 : List UInt8 := dkwX6_init_0 ++ []
theorem dksX6_init_0 : cX6_init.data.toList.drop 0 = dktX6_init_0 := by decide +kernel
theorem dX6_init_0 : decode cX6_init 0 = .ok (.aload_n 0, 1) := dk_42 (dk_at dksX6_init_0 0 rfl rfl)
theorem dX6_init_1 : decode cX6_init 1 = .ok (.aconst_null, 1) := dk_1 (dk_at dksX6_init_0 1 rfl rfl)
theorem dX6_init_2 : decode cX6_init 2 = .ok (.aconst_null, 1) := dk_1 (dk_at dksX6_init_0 2 rfl rfl)
theorem dX6_init_3 : decode cX6_init 3 = .ok (.iconst 0, 1) := dk_3 (dk_at dksX6_init_0 3 rfl rfl)
theorem dX6_init_4 : decode cX6_init 4 = .ok (.iconst 0, 1) := dk_3 (dk_at dksX6_init_0 4 rfl rfl)
theorem dX6_init_5 : decode cX6_init 5 = .ok (.invokespecial 1, 3) := dk_183 0 1 (dk_at dksX6_init_0 5 rfl rfl)
theorem dX6_init_8 : decode cX6_init 8 = .ok (.aload_n 0, 1) := dk_42 (dk_at dksX6_init_0 8 rfl rfl)
theorem dX6_init_9 : decode cX6_init 9 = .ok (.iload_n 1, 1) := dk_27 (dk_at dksX6_init_0 9 rfl rfl)
theorem dX6_init_10 : decode cX6_init 10 = .ok (.putfield 7, 3) := dk_181 0 7 (dk_at dksX6_init_0 10 rfl rfl)
theorem dX6_init_13 : decode cX6_init 13 = .ok (.return_, 1) := dk_177 (dk_at dksX6_init_0 13 rfl rfl)
abbrev cX8_kind : ByteArray := prog_8_method_2_code
def yX8_kind : MethodName := ⟨RX8, "kind", "()I"⟩
theorem dX8_kind_0 : decode cX8_kind 0 = .ok (.iconst 0, 1) := by decide +kernel
theorem dX8_kind_1 : decode cX8_kind 1 = .ok (.ireturn, 1) := by decide +kernel
abbrev cX8_whose : ByteArray := prog_8_method_3_code
def yX8_whose : MethodName := ⟨RX8, "whose", "()I"⟩
theorem dX8_whose_0 : decode cX8_whose 0 = .ok (.iconst (-1), 1) := by decide +kernel
theorem dX8_whose_1 : decode cX8_whose 1 = .ok (.ireturn, 1) := by decide +kernel
abbrev cX8_ends : ByteArray := prog_8_method_4_code
def yX8_ends : MethodName := ⟨RX8, "ends", "()I"⟩
theorem dX8_ends_0 : decode cX8_ends 0 = .ok (.iconst 1, 1) := by decide +kernel
theorem dX8_ends_1 : decode cX8_ends 1 = .ok (.ireturn, 1) := by decide +kernel
abbrev cX8_init : ByteArray := prog_8_method_1_code
def yX8_init : MethodName := ⟨RX8, "<init>", "()V"⟩
theorem dX8_init_0 : decode cX8_init 0 = .ok (.aload_n 0, 1) := by decide +kernel
theorem dX8_init_1 : decode cX8_init 1 = .ok (.invokespecial 3, 3) := by decide +kernel
theorem dX8_init_4 : decode cX8_init 4 = .ok (.return_, 1) := by decide +kernel
abbrev cX8_another : ByteArray := prog_8_method_6_code
def yX8_another : MethodName := ⟨RX8, "another", "()LWoodState$Lot;"⟩
def dkwX8_another_0 : List UInt8 := [187, 0, 10, 89, 183, 0, 21, 176]
abbrev dktX8_another_0 : List UInt8 := dkwX8_another_0 ++ []
theorem dksX8_another_0 : cX8_another.data.toList.drop 0 = dktX8_another_0 := by decide +kernel
theorem dX8_another_0 : decode cX8_another 0 = .ok (.new 10, 3) := dk_187 0 10 (dk_at dksX8_another_0 0 rfl rfl)
theorem dX8_another_3 : decode cX8_another 3 = .ok (.dup, 1) := dk_89 (dk_at dksX8_another_0 3 rfl rfl)
theorem dX8_another_4 : decode cX8_another 4 = .ok (.invokespecial 21, 3) := dk_183 0 21 (dk_at dksX8_another_0 4 rfl rfl)
theorem dX8_another_7 : decode cX8_another 7 = .ok (.areturn, 1) := dk_176 (dk_at dksX8_another_0 7 rfl rfl)
abbrev cX8_as : ByteArray := prog_8_method_5_code
def yX8_as : MethodName := ⟨RX8, "as", "(LWoodState$Lot;)V"⟩
def dkwX8_as_1 : List UInt8 := [177]
abbrev dktX8_as_1 : List UInt8 := dkwX8_as_1 ++ []
def dkwX8_as_0 : List UInt8 := [42, 43, 180, 0, 9, 181, 0, 9, 42, 43, 180, 0, 15, 181, 0, 15, 42, 43, 180, 0, 18, 181, 0, 18]
abbrev dktX8_as_0 : List UInt8 := dkwX8_as_0 ++ dktX8_as_1
theorem dksX8_as_0 : cX8_as.data.toList.drop 0 = dktX8_as_0 := by decide +kernel
theorem dksX8_as_1 : cX8_as.data.toList.drop 24 = dktX8_as_1 := dk_seg dksX8_as_0 24 rfl rfl
theorem dX8_as_0 : decode cX8_as 0 = .ok (.aload_n 0, 1) := dk_42 (dk_at dksX8_as_0 0 rfl rfl)
theorem dX8_as_1 : decode cX8_as 1 = .ok (.aload_n 1, 1) := dk_43 (dk_at dksX8_as_0 1 rfl rfl)
theorem dX8_as_2 : decode cX8_as 2 = .ok (.getfield 9, 3) := dk_180 0 9 (dk_at dksX8_as_0 2 rfl rfl)
theorem dX8_as_5 : decode cX8_as 5 = .ok (.putfield 9, 3) := dk_181 0 9 (dk_at dksX8_as_0 5 rfl rfl)
theorem dX8_as_8 : decode cX8_as 8 = .ok (.aload_n 0, 1) := dk_42 (dk_at dksX8_as_0 8 rfl rfl)
theorem dX8_as_9 : decode cX8_as 9 = .ok (.aload_n 1, 1) := dk_43 (dk_at dksX8_as_0 9 rfl rfl)
theorem dX8_as_10 : decode cX8_as 10 = .ok (.getfield 15, 3) := dk_180 0 15 (dk_at dksX8_as_0 10 rfl rfl)
theorem dX8_as_13 : decode cX8_as 13 = .ok (.putfield 15, 3) := dk_181 0 15 (dk_at dksX8_as_0 13 rfl rfl)
theorem dX8_as_16 : decode cX8_as 16 = .ok (.aload_n 0, 1) := dk_42 (dk_at dksX8_as_0 16 rfl rfl)
theorem dX8_as_17 : decode cX8_as 17 = .ok (.aload_n 1, 1) := dk_43 (dk_at dksX8_as_0 17 rfl rfl)
theorem dX8_as_18 : decode cX8_as 18 = .ok (.getfield 18, 3) := dk_180 0 18 (dk_at dksX8_as_0 18 rfl rfl)
theorem dX8_as_21 : decode cX8_as 21 = .ok (.putfield 18, 3) := dk_181 0 18 (dk_at dksX8_as_0 21 rfl rfl)
theorem dX8_as_24 : decode cX8_as 24 = .ok (.return_, 1) := dk_177 (dk_at dksX8_as_1 0 rfl rfl)
abbrev cX9_kind : ByteArray := prog_7_method_2_code
def yX9_kind : MethodName := ⟨RX9, "kind", "()I"⟩
def dkwX9_kind_0 : List UInt8 := [42, 183, 0, 9, 5, 96, 172]
abbrev dktX9_kind_0 : List UInt8 := dkwX9_kind_0 ++ []
theorem dksX9_kind_0 : cX9_kind.data.toList.drop 0 = dktX9_kind_0 := by decide +kernel
theorem dX9_kind_0 : decode cX9_kind 0 = .ok (.aload_n 0, 1) := dk_42 (dk_at dksX9_kind_0 0 rfl rfl)
theorem dX9_kind_1 : decode cX9_kind 1 = .ok (.invokespecial 9, 3) := dk_183 0 9 (dk_at dksX9_kind_0 1 rfl rfl)
theorem dX9_kind_4 : decode cX9_kind 4 = .ok (.iconst 2, 1) := dk_5 (dk_at dksX9_kind_0 4 rfl rfl)
theorem dX9_kind_5 : decode cX9_kind 5 = .ok (.iadd, 1) := dk_96 (dk_at dksX9_kind_0 5 rfl rfl)
theorem dX9_kind_6 : decode cX9_kind 6 = .ok (.ireturn, 1) := dk_172 (dk_at dksX9_kind_0 6 rfl rfl)
abbrev cX9_ends : ByteArray := prog_7_method_3_code
def yX9_ends : MethodName := ⟨RX9, "ends", "()I"⟩
theorem dX9_ends_0 : decode cX9_ends 0 = .ok (.iconst (-1), 1) := by decide +kernel
theorem dX9_ends_1 : decode cX9_ends 1 = .ok (.ireturn, 1) := by decide +kernel
abbrev cX9_init : ByteArray := prog_7_method_1_code
def yX9_init : MethodName := ⟨RX9, "<init>", "()V"⟩
theorem dX9_init_0 : decode cX9_init 0 = .ok (.aload_n 0, 1) := by decide +kernel
theorem dX9_init_1 : decode cX9_init 1 = .ok (.invokespecial 3, 3) := by decide +kernel
theorem dX9_init_4 : decode cX9_init 4 = .ok (.return_, 1) := by decide +kernel
abbrev cX9_another : ByteArray := prog_7_method_4_code
def yX9_another : MethodName := ⟨RX9, "another", "()LWoodState$Lot;"⟩
def dkwX9_another_0 : List UInt8 := [187, 0, 13, 89, 183, 0, 15, 176]
abbrev dktX9_another_0 : List UInt8 := dkwX9_another_0 ++ []
theorem dksX9_another_0 : cX9_another.data.toList.drop 0 = dktX9_another_0 := by decide +kernel
theorem dX9_another_0 : decode cX9_another 0 = .ok (.new 13, 3) := dk_187 0 13 (dk_at dksX9_another_0 0 rfl rfl)
theorem dX9_another_3 : decode cX9_another 3 = .ok (.dup, 1) := dk_89 (dk_at dksX9_another_0 3 rfl rfl)
theorem dX9_another_4 : decode cX9_another 4 = .ok (.invokespecial 15, 3) := dk_183 0 15 (dk_at dksX9_another_0 4 rfl rfl)
theorem dX9_another_7 : decode cX9_another 7 = .ok (.areturn, 1) := dk_176 (dk_at dksX9_another_0 7 rfl rfl)
abbrev cX10_init : ByteArray := prog_14_method_1_code
def yX10_init : MethodName := ⟨RX10, "<init>", "()V"⟩
theorem dX10_init_0 : decode cX10_init 0 = .ok (.aload_n 0, 1) := by decide +kernel
theorem dX10_init_1 : decode cX10_init 1 = .ok (.invokespecial 1, 3) := by decide +kernel
theorem dX10_init_4 : decode cX10_init 4 = .ok (.return_, 1) := by decide +kernel
abbrev cX11_worth : ByteArray := prog_11_method_2_code
def yX11_worth : MethodName := ⟨RX11, "worth", "(LWoodState$Forest;II)I"⟩
def dkwX11_worth_0 : List UInt8 := [42, 180, 0, 7, 43, 28, 29, 182, 0, 13, 154, 0, 7, 4, 167, 0, 4, 3, 172]
abbrev dktX11_worth_0 : List UInt8 := dkwX11_worth_0 ++ []
theorem dksX11_worth_0 : cX11_worth.data.toList.drop 0 = dktX11_worth_0 := by decide +kernel
theorem dX11_worth_0 : decode cX11_worth 0 = .ok (.aload_n 0, 1) := dk_42 (dk_at dksX11_worth_0 0 rfl rfl)
theorem dX11_worth_1 : decode cX11_worth 1 = .ok (.getfield 7, 3) := dk_180 0 7 (dk_at dksX11_worth_0 1 rfl rfl)
theorem dX11_worth_4 : decode cX11_worth 4 = .ok (.aload_n 1, 1) := dk_43 (dk_at dksX11_worth_0 4 rfl rfl)
theorem dX11_worth_5 : decode cX11_worth 5 = .ok (.iload_n 2, 1) := dk_28 (dk_at dksX11_worth_0 5 rfl rfl)
theorem dX11_worth_6 : decode cX11_worth 6 = .ok (.iload_n 3, 1) := dk_29 (dk_at dksX11_worth_0 6 rfl rfl)
theorem dX11_worth_7 : decode cX11_worth 7 = .ok (.invokevirtual 13, 3) := dk_182 0 13 (dk_at dksX11_worth_0 7 rfl rfl)
theorem dX11_worth_10 : decode cX11_worth 10 = .ok (.ifCond .ne 7, 3) := dk_154 0 7 (dk_at dksX11_worth_0 10 rfl rfl)
theorem dX11_worth_13 : decode cX11_worth 13 = .ok (.iconst 1, 1) := dk_4 (dk_at dksX11_worth_0 13 rfl rfl)
theorem dX11_worth_14 : decode cX11_worth 14 = .ok (.goto 4, 3) := dk_167 0 4 (dk_at dksX11_worth_0 14 rfl rfl)
theorem dX11_worth_17 : decode cX11_worth 17 = .ok (.iconst 0, 1) := dk_3 (dk_at dksX11_worth_0 17 rfl rfl)
theorem dX11_worth_18 : decode cX11_worth 18 = .ok (.ireturn, 1) := dk_172 (dk_at dksX11_worth_0 18 rfl rfl)
abbrev cX11_init : ByteArray := prog_11_method_1_code
def yX11_init : MethodName := ⟨RX11, "<init>", "(LWoodState$Part;)V"⟩
def dkwX11_init_0 : List UInt8 := [42, 183, 0, 1, 42, 43, 181, 0, 7, 177]
abbrev dktX11_init_0 : List UInt8 := dkwX11_init_0 ++ []
theorem dksX11_init_0 : cX11_init.data.toList.drop 0 = dktX11_init_0 := by decide +kernel
theorem dX11_init_0 : decode cX11_init 0 = .ok (.aload_n 0, 1) := dk_42 (dk_at dksX11_init_0 0 rfl rfl)
theorem dX11_init_1 : decode cX11_init 1 = .ok (.invokespecial 1, 3) := dk_183 0 1 (dk_at dksX11_init_0 1 rfl rfl)
theorem dX11_init_4 : decode cX11_init 4 = .ok (.aload_n 0, 1) := dk_42 (dk_at dksX11_init_0 4 rfl rfl)
theorem dX11_init_5 : decode cX11_init 5 = .ok (.aload_n 1, 1) := dk_43 (dk_at dksX11_init_0 5 rfl rfl)
theorem dX11_init_6 : decode cX11_init 6 = .ok (.putfield 7, 3) := dk_181 0 7 (dk_at dksX11_init_0 6 rfl rfl)
theorem dX11_init_9 : decode cX11_init 9 = .ok (.return_, 1) := dk_177 (dk_at dksX11_init_0 9 rfl rfl)
abbrev cX12_worth : ByteArray := prog_12_method_2_code
def yX12_worth : MethodName := ⟨RX12, "worth", "(LWoodState$Forest;II)I"⟩
theorem dX12_worth_0 : decode cX12_worth 0 = .ok (.aload_n 0, 1) := by decide +kernel
theorem dX12_worth_1 : decode cX12_worth 1 = .ok (.getfield 7, 3) := by decide +kernel
theorem dX12_worth_4 : decode cX12_worth 4 = .ok (.ireturn, 1) := by decide +kernel
abbrev cX12_init : ByteArray := prog_12_method_1_code
def yX12_init : MethodName := ⟨RX12, "<init>", "(I)V"⟩
def dkwX12_init_0 : List UInt8 := [42, 183, 0, 1, 42, 27, 181, 0, 7, 177]
abbrev dktX12_init_0 : List UInt8 := dkwX12_init_0 ++ []
theorem dksX12_init_0 : cX12_init.data.toList.drop 0 = dktX12_init_0 := by decide +kernel
theorem dX12_init_0 : decode cX12_init 0 = .ok (.aload_n 0, 1) := dk_42 (dk_at dksX12_init_0 0 rfl rfl)
theorem dX12_init_1 : decode cX12_init 1 = .ok (.invokespecial 1, 3) := dk_183 0 1 (dk_at dksX12_init_0 1 rfl rfl)
theorem dX12_init_4 : decode cX12_init 4 = .ok (.aload_n 0, 1) := dk_42 (dk_at dksX12_init_0 4 rfl rfl)
theorem dX12_init_5 : decode cX12_init 5 = .ok (.iload_n 1, 1) := dk_27 (dk_at dksX12_init_0 5 rfl rfl)
theorem dX12_init_6 : decode cX12_init 6 = .ok (.putfield 7, 3) := dk_181 0 7 (dk_at dksX12_init_0 6 rfl rfl)
theorem dX12_init_9 : decode cX12_init 9 = .ok (.return_, 1) := dk_177 (dk_at dksX12_init_0 9 rfl rfl)
abbrev cX13_worth : ByteArray := prog_10_method_2_code
def yX13_worth : MethodName := ⟨RX13, "worth", "(LWoodState$Forest;II)I"⟩
def dkwX13_worth_0 : List UInt8 := [42, 180, 0, 7, 16, 7, 160, 0, 7, 29, 167, 0, 12, 43, 42, 180, 0, 7, 28, 182, 0, 13, 172]
abbrev dktX13_worth_0 : List UInt8 := dkwX13_worth_0 ++ []
theorem dksX13_worth_0 : cX13_worth.data.toList.drop 0 = dktX13_worth_0 := by decide +kernel
theorem dX13_worth_0 : decode cX13_worth 0 = .ok (.aload_n 0, 1) := dk_42 (dk_at dksX13_worth_0 0 rfl rfl)
theorem dX13_worth_1 : decode cX13_worth 1 = .ok (.getfield 7, 3) := dk_180 0 7 (dk_at dksX13_worth_0 1 rfl rfl)
theorem dX13_worth_4 : decode cX13_worth 4 = .ok (.bipush 7, 2) := dk_16 7 (dk_at dksX13_worth_0 4 rfl rfl)
theorem dX13_worth_6 : decode cX13_worth 6 = .ok (.if_icmp .ne 7, 3) := dk_160 0 7 (dk_at dksX13_worth_0 6 rfl rfl)
theorem dX13_worth_9 : decode cX13_worth 9 = .ok (.iload_n 3, 1) := dk_29 (dk_at dksX13_worth_0 9 rfl rfl)
theorem dX13_worth_10 : decode cX13_worth 10 = .ok (.goto 12, 3) := dk_167 0 12 (dk_at dksX13_worth_0 10 rfl rfl)
theorem dX13_worth_13 : decode cX13_worth 13 = .ok (.aload_n 1, 1) := dk_43 (dk_at dksX13_worth_0 13 rfl rfl)
theorem dX13_worth_14 : decode cX13_worth 14 = .ok (.aload_n 0, 1) := dk_42 (dk_at dksX13_worth_0 14 rfl rfl)
theorem dX13_worth_15 : decode cX13_worth 15 = .ok (.getfield 7, 3) := dk_180 0 7 (dk_at dksX13_worth_0 15 rfl rfl)
theorem dX13_worth_18 : decode cX13_worth 18 = .ok (.iload_n 2, 1) := dk_28 (dk_at dksX13_worth_0 18 rfl rfl)
theorem dX13_worth_19 : decode cX13_worth 19 = .ok (.invokevirtual 13, 3) := dk_182 0 13 (dk_at dksX13_worth_0 19 rfl rfl)
theorem dX13_worth_22 : decode cX13_worth 22 = .ok (.ireturn, 1) := dk_172 (dk_at dksX13_worth_0 22 rfl rfl)
abbrev cX13_init : ByteArray := prog_10_method_1_code
def yX13_init : MethodName := ⟨RX13, "<init>", "(I)V"⟩
def dkwX13_init_0 : List UInt8 := [42, 183, 0, 1, 42, 27, 181, 0, 7, 177]
abbrev dktX13_init_0 : List UInt8 := dkwX13_init_0 ++ []
theorem dksX13_init_0 : cX13_init.data.toList.drop 0 = dktX13_init_0 := by decide +kernel
theorem dX13_init_0 : decode cX13_init 0 = .ok (.aload_n 0, 1) := dk_42 (dk_at dksX13_init_0 0 rfl rfl)
theorem dX13_init_1 : decode cX13_init 1 = .ok (.invokespecial 1, 3) := dk_183 0 1 (dk_at dksX13_init_0 1 rfl rfl)
theorem dX13_init_4 : decode cX13_init 4 = .ok (.aload_n 0, 1) := dk_42 (dk_at dksX13_init_0 4 rfl rfl)
theorem dX13_init_5 : decode cX13_init 5 = .ok (.iload_n 1, 1) := dk_27 (dk_at dksX13_init_0 5 rfl rfl)
theorem dX13_init_6 : decode cX13_init 6 = .ok (.putfield 7, 3) := dk_181 0 7 (dk_at dksX13_init_0 6 rfl rfl)
theorem dX13_init_9 : decode cX13_init 9 = .ok (.return_, 1) := dk_177 (dk_at dksX13_init_0 9 rfl rfl)
abbrev cX14_worth : ByteArray := prog_9_method_2_code
def yX14_worth : MethodName := ⟨RX14, "worth", "(LWoodState$Forest;II)I"⟩
def dkwX14_worth_0 : List UInt8 := [42, 180, 0, 7, 43, 28, 29, 182, 0, 13, 116, 172]
abbrev dktX14_worth_0 : List UInt8 := dkwX14_worth_0 ++ []
theorem dksX14_worth_0 : cX14_worth.data.toList.drop 0 = dktX14_worth_0 := by decide +kernel
theorem dX14_worth_0 : decode cX14_worth 0 = .ok (.aload_n 0, 1) := dk_42 (dk_at dksX14_worth_0 0 rfl rfl)
theorem dX14_worth_1 : decode cX14_worth 1 = .ok (.getfield 7, 3) := dk_180 0 7 (dk_at dksX14_worth_0 1 rfl rfl)
theorem dX14_worth_4 : decode cX14_worth 4 = .ok (.aload_n 1, 1) := dk_43 (dk_at dksX14_worth_0 4 rfl rfl)
theorem dX14_worth_5 : decode cX14_worth 5 = .ok (.iload_n 2, 1) := dk_28 (dk_at dksX14_worth_0 5 rfl rfl)
theorem dX14_worth_6 : decode cX14_worth 6 = .ok (.iload_n 3, 1) := dk_29 (dk_at dksX14_worth_0 6 rfl rfl)
theorem dX14_worth_7 : decode cX14_worth 7 = .ok (.invokevirtual 13, 3) := dk_182 0 13 (dk_at dksX14_worth_0 7 rfl rfl)
theorem dX14_worth_10 : decode cX14_worth 10 = .ok (.ineg, 1) := dk_116 (dk_at dksX14_worth_0 10 rfl rfl)
theorem dX14_worth_11 : decode cX14_worth 11 = .ok (.ireturn, 1) := dk_172 (dk_at dksX14_worth_0 11 rfl rfl)
abbrev cX14_init : ByteArray := prog_9_method_1_code
def yX14_init : MethodName := ⟨RX14, "<init>", "(LWoodState$Part;)V"⟩
def dkwX14_init_0 : List UInt8 := [42, 43, 183, 0, 1, 177]
abbrev dktX14_init_0 : List UInt8 := dkwX14_init_0 ++ []
theorem dksX14_init_0 : cX14_init.data.toList.drop 0 = dktX14_init_0 := by decide +kernel
theorem dX14_init_0 : decode cX14_init 0 = .ok (.aload_n 0, 1) := dk_42 (dk_at dksX14_init_0 0 rfl rfl)
theorem dX14_init_1 : decode cX14_init 1 = .ok (.aload_n 1, 1) := dk_43 (dk_at dksX14_init_0 1 rfl rfl)
theorem dX14_init_2 : decode cX14_init 2 = .ok (.invokespecial 1, 3) := dk_183 0 1 (dk_at dksX14_init_0 2 rfl rfl)
theorem dX14_init_5 : decode cX14_init 5 = .ok (.return_, 1) := dk_177 (dk_at dksX14_init_0 5 rfl rfl)
abbrev cX15_worth : ByteArray := prog_13_method_2_code
def yX15_worth : MethodName := ⟨RX15, "worth", "(LWoodState$Forest;II)I"⟩
def dkwX15_worth_8 : List UInt8 := [172]
abbrev dktX15_worth_8 : List UInt8 := dkwX15_worth_8 ++ []
def dkwX15_worth_7 : List UInt8 := [153, 0, 7, 4, 167, 0, 4, 3, 172, 21, 4, 153, 0, 12, 21, 5, 153, 0, 7, 4, 167, 0, 4, 3]
abbrev dktX15_worth_7 : List UInt8 := dkwX15_worth_7 ++ dktX15_worth_8
def dkwX15_worth_6 : List UInt8 := [3, 172, 21, 4, 21, 5, 164, 0, 7, 4, 167, 0, 4, 3, 172, 21, 4, 154, 0, 8, 21, 5]
abbrev dktX15_worth_6 : List UInt8 := dkwX15_worth_6 ++ dktX15_worth_7
def dkwX15_worth_5 : List UInt8 := [21, 4, 21, 5, 160, 0, 7, 4, 167, 0, 4, 3, 172, 21, 4, 21, 5, 162, 0, 7, 4, 167, 0, 4]
abbrev dktX15_worth_5 : List UInt8 := dkwX15_worth_5 ++ dktX15_worth_6
def dkwX15_worth_4 : List UInt8 := [167, 0, 8, 21, 4, 21, 5, 108, 172, 21, 5, 154, 0, 7, 3, 167, 0, 8, 21, 4, 21, 5, 112, 172]
abbrev dktX15_worth_4 : List UInt8 := dkwX15_worth_4 ++ dktX15_worth_5
def dkwX15_worth_3 : List UInt8 := [21, 4, 21, 5, 96, 172, 21, 4, 21, 5, 100, 172, 21, 4, 21, 5, 104, 172, 21, 5, 154, 0, 7, 3]
abbrev dktX15_worth_3 : List UInt8 := dkwX15_worth_3 ++ dktX15_worth_4
def dkwX15_worth_2 : List UInt8 := [171, 0, 0, 0, 0, 0, 0, 187, 0, 0, 0, 9, 0, 0, 0, 37, 0, 0, 0, 117, 0, 0, 0, 42, 0, 0, 0, 96, 0, 0, 0, 43, 0, 0, 0, 84, 0, 0, 0, 45, 0, 0, 0, 90, 0, 0, 0, 47, 0, 0, 0, 102, 0, 0, 0, 60, 0, 0, 0, 145, 0, 0, 0, 61, 0, 0, 0, 132, 0, 0, 0, 62, 0, 0, 0, 158, 0, 0, 0, 124, 0, 0, 0, 171]
abbrev dktX15_worth_2 : List UInt8 := dkwX15_worth_2 ++ dktX15_worth_3
def dkwX15_worth_1 : List UInt8 := [42, 180, 0, 7]
abbrev dktX15_worth_1 : List UInt8 := dkwX15_worth_1 ++ dktX15_worth_2
def dkwX15_worth_0 : List UInt8 := [42, 180, 0, 13, 43, 28, 29, 182, 0, 20, 54, 4, 42, 180, 0, 17, 43, 28, 29, 182, 0, 20, 54, 5]
abbrev dktX15_worth_0 : List UInt8 := dkwX15_worth_0 ++ dktX15_worth_1
theorem dksX15_worth_0 : cX15_worth.data.toList.drop 0 = dktX15_worth_0 := by decide +kernel
theorem dksX15_worth_1 : cX15_worth.data.toList.drop 24 = dktX15_worth_1 := dk_seg dksX15_worth_0 24 rfl rfl
theorem dksX15_worth_2 : cX15_worth.data.toList.drop 28 = dktX15_worth_2 := dk_seg dksX15_worth_1 4 rfl rfl
theorem dksX15_worth_3 : cX15_worth.data.toList.drop 112 = dktX15_worth_3 := dk_seg dksX15_worth_2 84 rfl rfl
theorem dksX15_worth_4 : cX15_worth.data.toList.drop 136 = dktX15_worth_4 := dk_seg dksX15_worth_3 24 rfl rfl
theorem dksX15_worth_5 : cX15_worth.data.toList.drop 160 = dktX15_worth_5 := dk_seg dksX15_worth_4 24 rfl rfl
theorem dksX15_worth_6 : cX15_worth.data.toList.drop 184 = dktX15_worth_6 := dk_seg dksX15_worth_5 24 rfl rfl
theorem dksX15_worth_7 : cX15_worth.data.toList.drop 206 = dktX15_worth_7 := dk_seg dksX15_worth_6 22 rfl rfl
theorem dksX15_worth_8 : cX15_worth.data.toList.drop 230 = dktX15_worth_8 := dk_seg dksX15_worth_7 24 rfl rfl
theorem dX15_worth_0 : decode cX15_worth 0 = .ok (.aload_n 0, 1) := dk_42 (dk_at dksX15_worth_0 0 rfl rfl)
theorem dX15_worth_1 : decode cX15_worth 1 = .ok (.getfield 13, 3) := dk_180 0 13 (dk_at dksX15_worth_0 1 rfl rfl)
theorem dX15_worth_4 : decode cX15_worth 4 = .ok (.aload_n 1, 1) := dk_43 (dk_at dksX15_worth_0 4 rfl rfl)
theorem dX15_worth_5 : decode cX15_worth 5 = .ok (.iload_n 2, 1) := dk_28 (dk_at dksX15_worth_0 5 rfl rfl)
theorem dX15_worth_6 : decode cX15_worth 6 = .ok (.iload_n 3, 1) := dk_29 (dk_at dksX15_worth_0 6 rfl rfl)
theorem dX15_worth_7 : decode cX15_worth 7 = .ok (.invokevirtual 20, 3) := dk_182 0 20 (dk_at dksX15_worth_0 7 rfl rfl)
theorem dX15_worth_10 : decode cX15_worth 10 = .ok (.istore 4, 2) := dk_54 4 (dk_at dksX15_worth_0 10 rfl rfl)
theorem dX15_worth_12 : decode cX15_worth 12 = .ok (.aload_n 0, 1) := dk_42 (dk_at dksX15_worth_0 12 rfl rfl)
theorem dX15_worth_13 : decode cX15_worth 13 = .ok (.getfield 17, 3) := dk_180 0 17 (dk_at dksX15_worth_0 13 rfl rfl)
theorem dX15_worth_16 : decode cX15_worth 16 = .ok (.aload_n 1, 1) := dk_43 (dk_at dksX15_worth_0 16 rfl rfl)
theorem dX15_worth_17 : decode cX15_worth 17 = .ok (.iload_n 2, 1) := dk_28 (dk_at dksX15_worth_0 17 rfl rfl)
theorem dX15_worth_18 : decode cX15_worth 18 = .ok (.iload_n 3, 1) := dk_29 (dk_at dksX15_worth_0 18 rfl rfl)
theorem dX15_worth_19 : decode cX15_worth 19 = .ok (.invokevirtual 20, 3) := dk_182 0 20 (dk_at dksX15_worth_0 19 rfl rfl)
theorem dX15_worth_22 : decode cX15_worth 22 = .ok (.istore 5, 2) := dk_54 5 (dk_at dksX15_worth_0 22 rfl rfl)
theorem dX15_worth_24 : decode cX15_worth 24 = .ok (.aload_n 0, 1) := dk_42 (dk_at dksX15_worth_1 0 rfl rfl)
theorem dX15_worth_25 : decode cX15_worth 25 = .ok (.getfield 7, 3) := dk_180 0 7 (dk_at dksX15_worth_1 1 rfl rfl)
theorem dX15_worth_28 : decode cX15_worth 28 = .ok (.lookupswitch 187 #[(37, 117), (42, 96), (43, 84), (45, 90), (47, 102), (60, 145), (61, 132), (62, 158), (124, 171)], 84) := by decide +kernel
theorem dX15_worth_112 : decode cX15_worth 112 = .ok (.iload 4, 2) := dk_21 4 (dk_at dksX15_worth_3 0 rfl rfl)
theorem dX15_worth_114 : decode cX15_worth 114 = .ok (.iload 5, 2) := dk_21 5 (dk_at dksX15_worth_3 2 rfl rfl)
theorem dX15_worth_116 : decode cX15_worth 116 = .ok (.iadd, 1) := dk_96 (dk_at dksX15_worth_3 4 rfl rfl)
theorem dX15_worth_117 : decode cX15_worth 117 = .ok (.ireturn, 1) := dk_172 (dk_at dksX15_worth_3 5 rfl rfl)
theorem dX15_worth_118 : decode cX15_worth 118 = .ok (.iload 4, 2) := dk_21 4 (dk_at dksX15_worth_3 6 rfl rfl)
theorem dX15_worth_120 : decode cX15_worth 120 = .ok (.iload 5, 2) := dk_21 5 (dk_at dksX15_worth_3 8 rfl rfl)
theorem dX15_worth_122 : decode cX15_worth 122 = .ok (.isub, 1) := dk_100 (dk_at dksX15_worth_3 10 rfl rfl)
theorem dX15_worth_123 : decode cX15_worth 123 = .ok (.ireturn, 1) := dk_172 (dk_at dksX15_worth_3 11 rfl rfl)
theorem dX15_worth_124 : decode cX15_worth 124 = .ok (.iload 4, 2) := dk_21 4 (dk_at dksX15_worth_3 12 rfl rfl)
theorem dX15_worth_126 : decode cX15_worth 126 = .ok (.iload 5, 2) := dk_21 5 (dk_at dksX15_worth_3 14 rfl rfl)
theorem dX15_worth_128 : decode cX15_worth 128 = .ok (.imul, 1) := dk_104 (dk_at dksX15_worth_3 16 rfl rfl)
theorem dX15_worth_129 : decode cX15_worth 129 = .ok (.ireturn, 1) := dk_172 (dk_at dksX15_worth_3 17 rfl rfl)
theorem dX15_worth_130 : decode cX15_worth 130 = .ok (.iload 5, 2) := dk_21 5 (dk_at dksX15_worth_3 18 rfl rfl)
theorem dX15_worth_132 : decode cX15_worth 132 = .ok (.ifCond .ne 7, 3) := dk_154 0 7 (dk_at dksX15_worth_3 20 rfl rfl)
theorem dX15_worth_135 : decode cX15_worth 135 = .ok (.iconst 0, 1) := dk_3 (dk_at dksX15_worth_3 23 rfl rfl)
theorem dX15_worth_136 : decode cX15_worth 136 = .ok (.goto 8, 3) := dk_167 0 8 (dk_at dksX15_worth_4 0 rfl rfl)
theorem dX15_worth_139 : decode cX15_worth 139 = .ok (.iload 4, 2) := dk_21 4 (dk_at dksX15_worth_4 3 rfl rfl)
theorem dX15_worth_141 : decode cX15_worth 141 = .ok (.iload 5, 2) := dk_21 5 (dk_at dksX15_worth_4 5 rfl rfl)
theorem dX15_worth_143 : decode cX15_worth 143 = .ok (.idiv, 1) := dk_108 (dk_at dksX15_worth_4 7 rfl rfl)
theorem dX15_worth_144 : decode cX15_worth 144 = .ok (.ireturn, 1) := dk_172 (dk_at dksX15_worth_4 8 rfl rfl)
theorem dX15_worth_145 : decode cX15_worth 145 = .ok (.iload 5, 2) := dk_21 5 (dk_at dksX15_worth_4 9 rfl rfl)
theorem dX15_worth_147 : decode cX15_worth 147 = .ok (.ifCond .ne 7, 3) := dk_154 0 7 (dk_at dksX15_worth_4 11 rfl rfl)
theorem dX15_worth_150 : decode cX15_worth 150 = .ok (.iconst 0, 1) := dk_3 (dk_at dksX15_worth_4 14 rfl rfl)
theorem dX15_worth_151 : decode cX15_worth 151 = .ok (.goto 8, 3) := dk_167 0 8 (dk_at dksX15_worth_4 15 rfl rfl)
theorem dX15_worth_154 : decode cX15_worth 154 = .ok (.iload 4, 2) := dk_21 4 (dk_at dksX15_worth_4 18 rfl rfl)
theorem dX15_worth_156 : decode cX15_worth 156 = .ok (.iload 5, 2) := dk_21 5 (dk_at dksX15_worth_4 20 rfl rfl)
theorem dX15_worth_158 : decode cX15_worth 158 = .ok (.irem, 1) := dk_112 (dk_at dksX15_worth_4 22 rfl rfl)
theorem dX15_worth_159 : decode cX15_worth 159 = .ok (.ireturn, 1) := dk_172 (dk_at dksX15_worth_4 23 rfl rfl)
theorem dX15_worth_160 : decode cX15_worth 160 = .ok (.iload 4, 2) := dk_21 4 (dk_at dksX15_worth_5 0 rfl rfl)
theorem dX15_worth_162 : decode cX15_worth 162 = .ok (.iload 5, 2) := dk_21 5 (dk_at dksX15_worth_5 2 rfl rfl)
theorem dX15_worth_164 : decode cX15_worth 164 = .ok (.if_icmp .ne 7, 3) := dk_160 0 7 (dk_at dksX15_worth_5 4 rfl rfl)
theorem dX15_worth_167 : decode cX15_worth 167 = .ok (.iconst 1, 1) := dk_4 (dk_at dksX15_worth_5 7 rfl rfl)
theorem dX15_worth_168 : decode cX15_worth 168 = .ok (.goto 4, 3) := dk_167 0 4 (dk_at dksX15_worth_5 8 rfl rfl)
theorem dX15_worth_171 : decode cX15_worth 171 = .ok (.iconst 0, 1) := dk_3 (dk_at dksX15_worth_5 11 rfl rfl)
theorem dX15_worth_172 : decode cX15_worth 172 = .ok (.ireturn, 1) := dk_172 (dk_at dksX15_worth_5 12 rfl rfl)
theorem dX15_worth_173 : decode cX15_worth 173 = .ok (.iload 4, 2) := dk_21 4 (dk_at dksX15_worth_5 13 rfl rfl)
theorem dX15_worth_175 : decode cX15_worth 175 = .ok (.iload 5, 2) := dk_21 5 (dk_at dksX15_worth_5 15 rfl rfl)
theorem dX15_worth_177 : decode cX15_worth 177 = .ok (.if_icmp .ge 7, 3) := dk_162 0 7 (dk_at dksX15_worth_5 17 rfl rfl)
theorem dX15_worth_180 : decode cX15_worth 180 = .ok (.iconst 1, 1) := dk_4 (dk_at dksX15_worth_5 20 rfl rfl)
theorem dX15_worth_181 : decode cX15_worth 181 = .ok (.goto 4, 3) := dk_167 0 4 (dk_at dksX15_worth_5 21 rfl rfl)
theorem dX15_worth_184 : decode cX15_worth 184 = .ok (.iconst 0, 1) := dk_3 (dk_at dksX15_worth_6 0 rfl rfl)
theorem dX15_worth_185 : decode cX15_worth 185 = .ok (.ireturn, 1) := dk_172 (dk_at dksX15_worth_6 1 rfl rfl)
theorem dX15_worth_186 : decode cX15_worth 186 = .ok (.iload 4, 2) := dk_21 4 (dk_at dksX15_worth_6 2 rfl rfl)
theorem dX15_worth_188 : decode cX15_worth 188 = .ok (.iload 5, 2) := dk_21 5 (dk_at dksX15_worth_6 4 rfl rfl)
theorem dX15_worth_190 : decode cX15_worth 190 = .ok (.if_icmp .le 7, 3) := dk_164 0 7 (dk_at dksX15_worth_6 6 rfl rfl)
theorem dX15_worth_193 : decode cX15_worth 193 = .ok (.iconst 1, 1) := dk_4 (dk_at dksX15_worth_6 9 rfl rfl)
theorem dX15_worth_194 : decode cX15_worth 194 = .ok (.goto 4, 3) := dk_167 0 4 (dk_at dksX15_worth_6 10 rfl rfl)
theorem dX15_worth_197 : decode cX15_worth 197 = .ok (.iconst 0, 1) := dk_3 (dk_at dksX15_worth_6 13 rfl rfl)
theorem dX15_worth_198 : decode cX15_worth 198 = .ok (.ireturn, 1) := dk_172 (dk_at dksX15_worth_6 14 rfl rfl)
theorem dX15_worth_199 : decode cX15_worth 199 = .ok (.iload 4, 2) := dk_21 4 (dk_at dksX15_worth_6 15 rfl rfl)
theorem dX15_worth_201 : decode cX15_worth 201 = .ok (.ifCond .ne 8, 3) := dk_154 0 8 (dk_at dksX15_worth_6 17 rfl rfl)
theorem dX15_worth_204 : decode cX15_worth 204 = .ok (.iload 5, 2) := dk_21 5 (dk_at dksX15_worth_6 20 rfl rfl)
theorem dX15_worth_206 : decode cX15_worth 206 = .ok (.ifCond .eq 7, 3) := dk_153 0 7 (dk_at dksX15_worth_7 0 rfl rfl)
theorem dX15_worth_209 : decode cX15_worth 209 = .ok (.iconst 1, 1) := dk_4 (dk_at dksX15_worth_7 3 rfl rfl)
theorem dX15_worth_210 : decode cX15_worth 210 = .ok (.goto 4, 3) := dk_167 0 4 (dk_at dksX15_worth_7 4 rfl rfl)
theorem dX15_worth_213 : decode cX15_worth 213 = .ok (.iconst 0, 1) := dk_3 (dk_at dksX15_worth_7 7 rfl rfl)
theorem dX15_worth_214 : decode cX15_worth 214 = .ok (.ireturn, 1) := dk_172 (dk_at dksX15_worth_7 8 rfl rfl)
theorem dX15_worth_215 : decode cX15_worth 215 = .ok (.iload 4, 2) := dk_21 4 (dk_at dksX15_worth_7 9 rfl rfl)
theorem dX15_worth_217 : decode cX15_worth 217 = .ok (.ifCond .eq 12, 3) := dk_153 0 12 (dk_at dksX15_worth_7 11 rfl rfl)
theorem dX15_worth_220 : decode cX15_worth 220 = .ok (.iload 5, 2) := dk_21 5 (dk_at dksX15_worth_7 14 rfl rfl)
theorem dX15_worth_222 : decode cX15_worth 222 = .ok (.ifCond .eq 7, 3) := dk_153 0 7 (dk_at dksX15_worth_7 16 rfl rfl)
theorem dX15_worth_225 : decode cX15_worth 225 = .ok (.iconst 1, 1) := dk_4 (dk_at dksX15_worth_7 19 rfl rfl)
theorem dX15_worth_226 : decode cX15_worth 226 = .ok (.goto 4, 3) := dk_167 0 4 (dk_at dksX15_worth_7 20 rfl rfl)
theorem dX15_worth_229 : decode cX15_worth 229 = .ok (.iconst 0, 1) := dk_3 (dk_at dksX15_worth_7 23 rfl rfl)
theorem dX15_worth_230 : decode cX15_worth 230 = .ok (.ireturn, 1) := dk_172 (dk_at dksX15_worth_8 0 rfl rfl)
abbrev cX15_init : ByteArray := prog_13_method_1_code
def yX15_init : MethodName := ⟨RX15, "<init>", "(CLWoodState$Part;LWoodState$Part;)V"⟩
def dkwX15_init_0 : List UInt8 := [42, 183, 0, 1, 42, 27, 181, 0, 7, 42, 44, 181, 0, 13, 42, 45, 181, 0, 17, 177]
abbrev dktX15_init_0 : List UInt8 := dkwX15_init_0 ++ []
theorem dksX15_init_0 : cX15_init.data.toList.drop 0 = dktX15_init_0 := by decide +kernel
theorem dX15_init_0 : decode cX15_init 0 = .ok (.aload_n 0, 1) := dk_42 (dk_at dksX15_init_0 0 rfl rfl)
theorem dX15_init_1 : decode cX15_init 1 = .ok (.invokespecial 1, 3) := dk_183 0 1 (dk_at dksX15_init_0 1 rfl rfl)
theorem dX15_init_4 : decode cX15_init 4 = .ok (.aload_n 0, 1) := dk_42 (dk_at dksX15_init_0 4 rfl rfl)
theorem dX15_init_5 : decode cX15_init 5 = .ok (.iload_n 1, 1) := dk_27 (dk_at dksX15_init_0 5 rfl rfl)
theorem dX15_init_6 : decode cX15_init 6 = .ok (.putfield 7, 3) := dk_181 0 7 (dk_at dksX15_init_0 6 rfl rfl)
theorem dX15_init_9 : decode cX15_init 9 = .ok (.aload_n 0, 1) := dk_42 (dk_at dksX15_init_0 9 rfl rfl)
theorem dX15_init_10 : decode cX15_init 10 = .ok (.aload_n 2, 1) := dk_44 (dk_at dksX15_init_0 10 rfl rfl)
theorem dX15_init_11 : decode cX15_init 11 = .ok (.putfield 13, 3) := dk_181 0 13 (dk_at dksX15_init_0 11 rfl rfl)
theorem dX15_init_14 : decode cX15_init 14 = .ok (.aload_n 0, 1) := dk_42 (dk_at dksX15_init_0 14 rfl rfl)
theorem dX15_init_15 : decode cX15_init 15 = .ok (.aload_n 3, 1) := dk_45 (dk_at dksX15_init_0 15 rfl rfl)
theorem dX15_init_16 : decode cX15_init 16 = .ok (.putfield 17, 3) := dk_181 0 17 (dk_at dksX15_init_0 16 rfl rfl)
theorem dX15_init_19 : decode cX15_init 19 = .ok (.return_, 1) := dk_177 (dk_at dksX15_init_0 19 rfl rfl)
abbrev cX16_kind : ByteArray := prog_2_method_2_code
def yX16_kind : MethodName := ⟨RX16, "kind", "()I"⟩
def dkwX16_kind_0 : List UInt8 := [42, 183, 0, 7, 4, 96, 172]
abbrev dktX16_kind_0 : List UInt8 := dkwX16_kind_0 ++ []
theorem dksX16_kind_0 : cX16_kind.data.toList.drop 0 = dktX16_kind_0 := by decide +kernel
theorem dX16_kind_0 : decode cX16_kind 0 = .ok (.aload_n 0, 1) := dk_42 (dk_at dksX16_kind_0 0 rfl rfl)
theorem dX16_kind_1 : decode cX16_kind 1 = .ok (.invokespecial 7, 3) := dk_183 0 7 (dk_at dksX16_kind_0 1 rfl rfl)
theorem dX16_kind_4 : decode cX16_kind 4 = .ok (.iconst 1, 1) := dk_4 (dk_at dksX16_kind_0 4 rfl rfl)
theorem dX16_kind_5 : decode cX16_kind 5 = .ok (.iadd, 1) := dk_96 (dk_at dksX16_kind_0 5 rfl rfl)
theorem dX16_kind_6 : decode cX16_kind 6 = .ok (.ireturn, 1) := dk_172 (dk_at dksX16_kind_0 6 rfl rfl)
abbrev cX16_whose : ByteArray := prog_2_method_3_code
def yX16_whose : MethodName := ⟨RX16, "whose", "()I"⟩
theorem dX16_whose_0 : decode cX16_whose 0 = .ok (.aload_n 0, 1) := by decide +kernel
theorem dX16_whose_1 : decode cX16_whose 1 = .ok (.getfield 11, 3) := by decide +kernel
theorem dX16_whose_4 : decode cX16_whose 4 = .ok (.ireturn, 1) := by decide +kernel
abbrev cX16_ends : ByteArray := prog_2_method_4_code
def yX16_ends : MethodName := ⟨RX16, "ends", "()I"⟩
def dkwX16_ends_0 : List UInt8 := [42, 183, 0, 17, 4, 96, 172]
abbrev dktX16_ends_0 : List UInt8 := dkwX16_ends_0 ++ []
theorem dksX16_ends_0 : cX16_ends.data.toList.drop 0 = dktX16_ends_0 := by decide +kernel
theorem dX16_ends_0 : decode cX16_ends 0 = .ok (.aload_n 0, 1) := dk_42 (dk_at dksX16_ends_0 0 rfl rfl)
theorem dX16_ends_1 : decode cX16_ends 1 = .ok (.invokespecial 17, 3) := dk_183 0 17 (dk_at dksX16_ends_0 1 rfl rfl)
theorem dX16_ends_4 : decode cX16_ends 4 = .ok (.iconst 1, 1) := dk_4 (dk_at dksX16_ends_0 4 rfl rfl)
theorem dX16_ends_5 : decode cX16_ends 5 = .ok (.iadd, 1) := dk_96 (dk_at dksX16_ends_0 5 rfl rfl)
theorem dX16_ends_6 : decode cX16_ends 6 = .ok (.ireturn, 1) := dk_172 (dk_at dksX16_ends_0 6 rfl rfl)
abbrev cX16_init : ByteArray := prog_2_method_1_code
def yX16_init : MethodName := ⟨RX16, "<init>", "()V"⟩
theorem dX16_init_0 : decode cX16_init 0 = .ok (.aload_n 0, 1) := by decide +kernel
theorem dX16_init_1 : decode cX16_init 1 = .ok (.invokespecial 1, 3) := by decide +kernel
theorem dX16_init_4 : decode cX16_init 4 = .ok (.return_, 1) := by decide +kernel
abbrev cX16_another : ByteArray := prog_2_method_6_code
def yX16_another : MethodName := ⟨RX16, "another", "()LWoodState$Lot;"⟩
def dkwX16_another_0 : List UInt8 := [187, 0, 12, 89, 183, 0, 24, 176]
abbrev dktX16_another_0 : List UInt8 := dkwX16_another_0 ++ []
theorem dksX16_another_0 : cX16_another.data.toList.drop 0 = dktX16_another_0 := by decide +kernel
theorem dX16_another_0 : decode cX16_another 0 = .ok (.new 12, 3) := dk_187 0 12 (dk_at dksX16_another_0 0 rfl rfl)
theorem dX16_another_3 : decode cX16_another 3 = .ok (.dup, 1) := dk_89 (dk_at dksX16_another_0 3 rfl rfl)
theorem dX16_another_4 : decode cX16_another 4 = .ok (.invokespecial 24, 3) := dk_183 0 24 (dk_at dksX16_another_0 4 rfl rfl)
theorem dX16_another_7 : decode cX16_another 7 = .ok (.areturn, 1) := dk_176 (dk_at dksX16_another_0 7 rfl rfl)
abbrev cX16_as : ByteArray := prog_2_method_5_code
def yX16_as : MethodName := ⟨RX16, "as", "(LWoodState$Lot;)V"⟩
def dkwX16_as_0 : List UInt8 := [42, 43, 183, 0, 20, 42, 43, 192, 0, 12, 180, 0, 11, 181, 0, 11, 177]
abbrev dktX16_as_0 : List UInt8 := dkwX16_as_0 ++ []
theorem dksX16_as_0 : cX16_as.data.toList.drop 0 = dktX16_as_0 := by decide +kernel
theorem dX16_as_0 : decode cX16_as 0 = .ok (.aload_n 0, 1) := dk_42 (dk_at dksX16_as_0 0 rfl rfl)
theorem dX16_as_1 : decode cX16_as 1 = .ok (.aload_n 1, 1) := dk_43 (dk_at dksX16_as_0 1 rfl rfl)
theorem dX16_as_2 : decode cX16_as 2 = .ok (.invokespecial 20, 3) := dk_183 0 20 (dk_at dksX16_as_0 2 rfl rfl)
theorem dX16_as_5 : decode cX16_as 5 = .ok (.aload_n 0, 1) := dk_42 (dk_at dksX16_as_0 5 rfl rfl)
theorem dX16_as_6 : decode cX16_as 6 = .ok (.aload_n 1, 1) := dk_43 (dk_at dksX16_as_0 6 rfl rfl)
theorem dX16_as_7 : decode cX16_as 7 = .ok (.checkcast 12, 3) := dk_192 0 12 (dk_at dksX16_as_0 7 rfl rfl)
theorem dX16_as_10 : decode cX16_as 10 = .ok (.getfield 11, 3) := dk_180 0 11 (dk_at dksX16_as_0 10 rfl rfl)
theorem dX16_as_13 : decode cX16_as 13 = .ok (.putfield 11, 3) := dk_181 0 11 (dk_at dksX16_as_0 13 rfl rfl)
theorem dX16_as_16 : decode cX16_as 16 = .ok (.return_, 1) := dk_177 (dk_at dksX16_as_0 16 rfl rfl)
