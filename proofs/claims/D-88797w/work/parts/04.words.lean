set_option maxRecDepth 100000
theorem q169 : (Jvm.Cond.initialized "java/lang/Math") ∈ lw_all := lw_g (lw_at lw_m1 4 rfl) rfl
theorem q233 : (Jvm.Cond.static ({ cls := "java/lang/Math", name := "min", desc := "(II)I" } : Jvm.MethodName)) ∈ lw_all := lw_g (lw_at lw_m1 68 rfl) rfl
theorem q234 : (Jvm.Cond.code ({ cls := "java/lang/Math", name := "min", desc := "(II)I" } : Jvm.MethodName) prog_23_method_69_code (2 : Nat) (Option.some Jvm.ClassFile.FieldType.int)) ∈ lw_all := lw_g (lw_at lw_m1 69 rfl) rfl
theorem q828 : (Jvm.Cond.static ({ cls := "java/lang/Math", name := "max", desc := "(II)I" } : Jvm.MethodName)) ∈ lw_all := lw_g (lw_at lw_m3 183 rfl) rfl
theorem q829 : (Jvm.Cond.code ({ cls := "java/lang/Math", name := "max", desc := "(II)I" } : Jvm.MethodName) prog_23_method_65_code (2 : Nat) (Option.some Jvm.ClassFile.FieldType.int)) ∈ lw_all := lw_g (lw_at lw_m3 184 rfl) rfl
theorem q831 : (Jvm.Cond.static ({ cls := "java/lang/Math", name := "min", desc := "(JJ)J" } : Jvm.MethodName)) ∈ lw_all := lw_g (lw_at lw_m3 186 rfl) rfl
theorem q832 : (Jvm.Cond.code ({ cls := "java/lang/Math", name := "min", desc := "(JJ)J" } : Jvm.MethodName) prog_23_method_70_code (4 : Nat) (Option.some Jvm.ClassFile.FieldType.long)) ∈ lw_all := lw_g (lw_at lw_m3 187 rfl) rfl

theorem q171 : (Jvm.Cond.initialized "java/lang/Throwable") ∈ lw_all := lw_g (lw_at lw_m1 6 rfl) rfl
theorem q429 : (Jvm.Cond.declares ({ cls := "java/lang/Throwable", name := "<init>", desc := "()V" } : Jvm.MethodName)) ∈ lw_tbl := lw_at lw_m2 24 rfl
theorem q430 : (Jvm.Cond.declares ({ cls := "java/lang/Throwable", name := "<init>", desc := "(Ljava/lang/String;)V" } : Jvm.MethodName)) ∈ lw_tbl := lw_at lw_m2 25 rfl
theorem q434 : (Jvm.Cond.lays "java/lang/Throwable" "java/lang/Throwable" "cause" "Ljava/lang/Throwable;") ∈ lw_all := lw_g (lw_at lw_m2 29 rfl) rfl
theorem q436 : (Jvm.Cond.lays "java/lang/Throwable" "java/lang/Throwable" "stackTrace" "[Ljava/lang/StackTraceElement;") ∈ lw_all := lw_g (lw_at lw_m2 31 rfl) rfl
theorem q438 : (Jvm.Cond.lays "java/lang/Throwable" "java/lang/Throwable" "suppressedExceptions" "Ljava/util/List;") ∈ lw_all := lw_g (lw_at lw_m2 33 rfl) rfl
theorem q440 : (Jvm.Cond.lays "java/lang/Throwable" "java/lang/Throwable" "detailMessage" "Ljava/lang/String;") ∈ lw_all := lw_g (lw_at lw_m2 35 rfl) rfl
theorem q442 : (Jvm.Cond.lays "java/lang/Throwable" "java/lang/Throwable" "backtrace" "Ljava/lang/Object;") ∈ lw_all := lw_g (lw_at lw_m2 37 rfl) rfl
theorem q443 : (Jvm.Cond.fieldLink "java/lang/Throwable" (198 : Nat) "java/lang/Throwable" "backtrace" "Ljava/lang/Object;") ∈ lw_all := lw_g (lw_at lw_m2 38 rfl) rfl
theorem q444 : (Jvm.Cond.superclass "java/lang/Throwable" "java/lang/Object") ∈ lw_all := lw_g (lw_at lw_m2 39 rfl) rfl
theorem q445 : (Jvm.Cond.instanceMethod ({ cls := "java/lang/Throwable", name := "<init>", desc := "()V" } : Jvm.MethodName)) ∈ lw_all := lw_g (lw_at lw_m2 40 rfl) rfl
theorem q446 : (Jvm.Cond.code ({ cls := "java/lang/Throwable", name := "<init>", desc := "()V" } : Jvm.MethodName) prog_29_method_1_code (1 : Nat) (Option.none : Option Jvm.ClassFile.FieldType)) ∈ lw_all := lw_g (lw_at lw_m2 41 rfl) rfl
theorem q447 : (Jvm.Cond.methodLink "java/lang/Throwable" (1 : Nat) ({ cls := "java/lang/Object", name := "<init>", desc := "()V" } : Jvm.MethodName)) ∈ lw_all := lw_g (lw_at lw_m2 42 rfl) rfl
theorem q448 : (Jvm.Cond.fieldLink "java/lang/Throwable" (13 : Nat) "java/lang/Throwable" "UNASSIGNED_STACK" "[Ljava/lang/StackTraceElement;") ∈ lw_all := lw_g (lw_at lw_m2 43 rfl) rfl
theorem q449 : (Jvm.Cond.laysStatic "java/lang/Throwable" "UNASSIGNED_STACK" "[Ljava/lang/StackTraceElement;") ∈ lw_tbl := lw_at lw_m2 44 rfl
theorem q450 : (Jvm.Cond.fieldLink "java/lang/Throwable" (20 : Nat) "java/lang/Throwable" "SUPPRESSED_SENTINEL" "Ljava/util/List;") ∈ lw_all := lw_g (lw_at lw_m2 45 rfl) rfl
theorem q451 : (Jvm.Cond.laysStatic "java/lang/Throwable" "SUPPRESSED_SENTINEL" "Ljava/util/List;") ∈ lw_tbl := lw_at lw_m2 46 rfl
theorem q452 : (Jvm.Cond.methodLink "java/lang/Throwable" (27 : Nat) ({ cls := "java/lang/Throwable", name := "fillInStackTrace", desc := "()Ljava/lang/Throwable;" } : Jvm.MethodName)) ∈ lw_all := lw_g (lw_at lw_m2 47 rfl) rfl
theorem q453 : (Jvm.Cond.instanceMethod ({ cls := "java/lang/Throwable", name := "fillInStackTrace", desc := "()Ljava/lang/Throwable;" } : Jvm.MethodName)) ∈ lw_all := lw_g (lw_at lw_m2 48 rfl) rfl
theorem q454 : (Jvm.Cond.sameMethod "java/lang/Throwable" "java/lang/Throwable" "fillInStackTrace" "()Ljava/lang/Throwable;") ∈ lw_all := lw_g (lw_at lw_m2 49 rfl) rfl
theorem q468 : (Jvm.Cond.declares ({ cls := "java/lang/Throwable", name := "fillInStackTrace", desc := "()Ljava/lang/Throwable;" } : Jvm.MethodName)) ∈ lw_tbl := lw_at lw_m2 63 rfl
theorem q472 : (Jvm.Cond.codeSync ({ cls := "java/lang/Throwable", name := "fillInStackTrace", desc := "()Ljava/lang/Throwable;" } : Jvm.MethodName) prog_29_method_18_code (1 : Nat) (Option.some (Jvm.ClassFile.FieldType.object "java/lang/Throwable"))) ∈ lw_all := lw_g (lw_at lw_m2 67 rfl) rfl
theorem q473 : (Jvm.Cond.methodLink "java/lang/Throwable" (202 : Nat) ({ cls := "java/lang/Throwable", name := "fillInStackTrace", desc := "(I)Ljava/lang/Throwable;" } : Jvm.MethodName)) ∈ lw_all := lw_g (lw_at lw_m2 68 rfl) rfl
theorem q474 : (Jvm.Cond.privateMethod ({ cls := "java/lang/Throwable", name := "fillInStackTrace", desc := "(I)Ljava/lang/Throwable;" } : Jvm.MethodName)) ∈ lw_tbl := lw_at lw_m2 69 rfl
theorem q475 : (Jvm.Cond.instanceMethod ({ cls := "java/lang/Throwable", name := "fillInStackTrace", desc := "(I)Ljava/lang/Throwable;" } : Jvm.MethodName)) ∈ lw_all := lw_g (lw_at lw_m2 70 rfl) rfl
theorem q476 : (Jvm.Cond.instantiable "java/lang/Throwable" (6 : Nat)) ∈ lw_all := lw_g (lw_at lw_m2 71 rfl) rfl
theorem q477 : (Jvm.Cond.native ({ cls := "java/lang/Throwable", name := "fillInStackTrace", desc := "(I)Ljava/lang/Throwable;" } : Jvm.MethodName)) ∈ lw_all := lw_g (lw_at lw_m2 72 rfl) rfl
theorem q488 : (Jvm.Cond.instanceMethod ({ cls := "java/lang/Throwable", name := "<init>", desc := "(Ljava/lang/String;Ljava/lang/Throwable;ZZ)V" } : Jvm.MethodName)) ∈ lw_all := lw_g (lw_at lw_m2 83 rfl) rfl
theorem q489 : (Jvm.Cond.code ({ cls := "java/lang/Throwable", name := "<init>", desc := "(Ljava/lang/String;Ljava/lang/Throwable;ZZ)V" } : Jvm.MethodName) prog_29_method_5_code (5 : Nat) (Option.none : Option Jvm.ClassFile.FieldType)) ∈ lw_all := lw_g (lw_at lw_m2 84 rfl) rfl
theorem q492 : (Jvm.Cond.fieldLink "java/lang/Throwable" (198 : Nat) "java/lang/Throwable" "backtrace" "Ljava/lang/Object;") ∈ lw_all := lw_g (lw_at lw_m2 87 rfl) rfl
theorem q493 : (Jvm.Cond.fieldLink "java/lang/Throwable" (31 : Nat) "java/lang/Throwable" "detailMessage" "Ljava/lang/String;") ∈ lw_all := lw_g (lw_at lw_m2 88 rfl) rfl
theorem q494 : (Jvm.Cond.fieldLink "java/lang/Throwable" (7 : Nat) "java/lang/Throwable" "cause" "Ljava/lang/Throwable;") ∈ lw_all := lw_g (lw_at lw_m2 89 rfl) rfl
theorem q495 : (Jvm.Cond.fieldLink "java/lang/Throwable" (17 : Nat) "java/lang/Throwable" "stackTrace" "[Ljava/lang/StackTraceElement;") ∈ lw_all := lw_g (lw_at lw_m2 90 rfl) rfl
theorem q496 : (Jvm.Cond.fieldLink "java/lang/Throwable" (24 : Nat) "java/lang/Throwable" "suppressedExceptions" "Ljava/util/List;") ∈ lw_all := lw_g (lw_at lw_m2 91 rfl) rfl
theorem q499 : (Jvm.Cond.soleField "java/lang/Throwable" "backtrace") ∈ lw_all := lw_g (lw_at lw_m2 94 rfl) rfl
theorem q500 : (Jvm.Cond.soleField "java/lang/Throwable" "detailMessage") ∈ lw_all := lw_g (lw_at lw_m2 95 rfl) rfl
theorem q501 : (Jvm.Cond.soleField "java/lang/Throwable" "cause") ∈ lw_all := lw_g (lw_at lw_m2 96 rfl) rfl
theorem q502 : (Jvm.Cond.soleField "java/lang/Throwable" "stackTrace") ∈ lw_all := lw_g (lw_at lw_m2 97 rfl) rfl
theorem q504 : (Jvm.Cond.soleField "java/lang/Throwable" "depth") ∈ lw_all := lw_g (lw_at lw_m2 99 rfl) rfl
theorem q505 : (Jvm.Cond.soleField "java/lang/Throwable" "suppressedExceptions") ∈ lw_all := lw_g (lw_at lw_m2 100 rfl) rfl
theorem q915 : (Jvm.Cond.instanceMethod ({ cls := "java/lang/Throwable", name := "<init>", desc := "(Ljava/lang/String;)V" } : Jvm.MethodName)) ∈ lw_all := lw_g (lw_at lw_m4 30 rfl) rfl
theorem q916 : (Jvm.Cond.code ({ cls := "java/lang/Throwable", name := "<init>", desc := "(Ljava/lang/String;)V" } : Jvm.MethodName) prog_29_method_2_code (2 : Nat) (Option.none : Option Jvm.ClassFile.FieldType)) ∈ lw_all := lw_g (lw_at lw_m4 31 rfl) rfl
theorem q2265 : (Jvm.Cond.sameMethod "java/lang/Throwable" "java/lang/Throwable" "fillInStackTrace" "(I)Ljava/lang/Throwable;") ∈ lw_all := lw_g (lw_at lw_m9 180 rfl) rfl
theorem in_J1 : ∀ w ∈ wsJ10, w ∈ lw_all := lw_in wsJ10 [434, 436, 438, 440, 442] (by decide +kernel) (by decide +kernel)

theorem q172 : (Jvm.Cond.initialized "java/lang/Exception") ∈ lw_all := lw_g (lw_at lw_m1 7 rfl) rfl
theorem q427 : (Jvm.Cond.declares ({ cls := "java/lang/Exception", name := "<init>", desc := "()V" } : Jvm.MethodName)) ∈ lw_tbl := lw_at lw_m2 22 rfl
theorem q428 : (Jvm.Cond.declares ({ cls := "java/lang/Exception", name := "<init>", desc := "(Ljava/lang/String;)V" } : Jvm.MethodName)) ∈ lw_tbl := lw_at lw_m2 23 rfl
theorem q471 : (Jvm.Cond.superclass "java/lang/Exception" "java/lang/Throwable") ∈ lw_all := lw_g (lw_at lw_m2 66 rfl) rfl
theorem q485 : (Jvm.Cond.instanceMethod ({ cls := "java/lang/Exception", name := "<init>", desc := "(Ljava/lang/String;Ljava/lang/Throwable;ZZ)V" } : Jvm.MethodName)) ∈ lw_all := lw_g (lw_at lw_m2 80 rfl) rfl
theorem q486 : (Jvm.Cond.code ({ cls := "java/lang/Exception", name := "<init>", desc := "(Ljava/lang/String;Ljava/lang/Throwable;ZZ)V" } : Jvm.MethodName) prog_21_method_5_code (5 : Nat) (Option.none : Option Jvm.ClassFile.FieldType)) ∈ lw_all := lw_g (lw_at lw_m2 81 rfl) rfl
theorem q487 : (Jvm.Cond.methodLink "java/lang/Exception" (16 : Nat) ({ cls := "java/lang/Throwable", name := "<init>", desc := "(Ljava/lang/String;Ljava/lang/Throwable;ZZ)V" } : Jvm.MethodName)) ∈ lw_all := lw_g (lw_at lw_m2 82 rfl) rfl
theorem q912 : (Jvm.Cond.instanceMethod ({ cls := "java/lang/Exception", name := "<init>", desc := "(Ljava/lang/String;)V" } : Jvm.MethodName)) ∈ lw_all := lw_g (lw_at lw_m4 27 rfl) rfl
theorem q913 : (Jvm.Cond.code ({ cls := "java/lang/Exception", name := "<init>", desc := "(Ljava/lang/String;)V" } : Jvm.MethodName) prog_21_method_2_code (2 : Nat) (Option.none : Option Jvm.ClassFile.FieldType)) ∈ lw_all := lw_g (lw_at lw_m4 28 rfl) rfl
theorem q914 : (Jvm.Cond.methodLink "java/lang/Exception" (7 : Nat) ({ cls := "java/lang/Throwable", name := "<init>", desc := "(Ljava/lang/String;)V" } : Jvm.MethodName)) ∈ lw_all := lw_g (lw_at lw_m4 29 rfl) rfl
theorem q1270 : (Jvm.Cond.instanceMethod ({ cls := "java/lang/Exception", name := "<init>", desc := "()V" } : Jvm.MethodName)) ∈ lw_all := lw_g (lw_at lw_m5 145 rfl) rfl
theorem q1271 : (Jvm.Cond.code ({ cls := "java/lang/Exception", name := "<init>", desc := "()V" } : Jvm.MethodName) prog_21_method_1_code (1 : Nat) (Option.none : Option Jvm.ClassFile.FieldType)) ∈ lw_all := lw_g (lw_at lw_m5 146 rfl) rfl
theorem q1272 : (Jvm.Cond.methodLink "java/lang/Exception" (1 : Nat) ({ cls := "java/lang/Throwable", name := "<init>", desc := "()V" } : Jvm.MethodName)) ∈ lw_all := lw_g (lw_at lw_m5 147 rfl) rfl

theorem q173 : (Jvm.Cond.initialized "java/lang/RuntimeException") ∈ lw_all := lw_g (lw_at lw_m1 8 rfl) rfl
theorem q425 : (Jvm.Cond.declares ({ cls := "java/lang/RuntimeException", name := "<init>", desc := "()V" } : Jvm.MethodName)) ∈ lw_tbl := lw_at lw_m2 20 rfl
theorem q426 : (Jvm.Cond.declares ({ cls := "java/lang/RuntimeException", name := "<init>", desc := "(Ljava/lang/String;)V" } : Jvm.MethodName)) ∈ lw_tbl := lw_at lw_m2 21 rfl
theorem q467 : (Jvm.Cond.sameMethod "java/lang/RuntimeException" "java/lang/Throwable" "fillInStackTrace" "()Ljava/lang/Throwable;") ∈ lw_all := lw_g (lw_at lw_m2 62 rfl) rfl
theorem q470 : (Jvm.Cond.superclass "java/lang/RuntimeException" "java/lang/Exception") ∈ lw_all := lw_g (lw_at lw_m2 65 rfl) rfl
theorem q482 : (Jvm.Cond.instanceMethod ({ cls := "java/lang/RuntimeException", name := "<init>", desc := "(Ljava/lang/String;Ljava/lang/Throwable;ZZ)V" } : Jvm.MethodName)) ∈ lw_all := lw_g (lw_at lw_m2 77 rfl) rfl
theorem q483 : (Jvm.Cond.code ({ cls := "java/lang/RuntimeException", name := "<init>", desc := "(Ljava/lang/String;Ljava/lang/Throwable;ZZ)V" } : Jvm.MethodName) prog_26_method_5_code (5 : Nat) (Option.none : Option Jvm.ClassFile.FieldType)) ∈ lw_all := lw_g (lw_at lw_m2 78 rfl) rfl
theorem q484 : (Jvm.Cond.methodLink "java/lang/RuntimeException" (16 : Nat) ({ cls := "java/lang/Exception", name := "<init>", desc := "(Ljava/lang/String;Ljava/lang/Throwable;ZZ)V" } : Jvm.MethodName)) ∈ lw_all := lw_g (lw_at lw_m2 79 rfl) rfl
theorem q909 : (Jvm.Cond.instanceMethod ({ cls := "java/lang/RuntimeException", name := "<init>", desc := "(Ljava/lang/String;)V" } : Jvm.MethodName)) ∈ lw_all := lw_g (lw_at lw_m4 24 rfl) rfl
theorem q910 : (Jvm.Cond.code ({ cls := "java/lang/RuntimeException", name := "<init>", desc := "(Ljava/lang/String;)V" } : Jvm.MethodName) prog_26_method_2_code (2 : Nat) (Option.none : Option Jvm.ClassFile.FieldType)) ∈ lw_all := lw_g (lw_at lw_m4 25 rfl) rfl
theorem q911 : (Jvm.Cond.methodLink "java/lang/RuntimeException" (7 : Nat) ({ cls := "java/lang/Exception", name := "<init>", desc := "(Ljava/lang/String;)V" } : Jvm.MethodName)) ∈ lw_all := lw_g (lw_at lw_m4 26 rfl) rfl
theorem q1267 : (Jvm.Cond.instanceMethod ({ cls := "java/lang/RuntimeException", name := "<init>", desc := "()V" } : Jvm.MethodName)) ∈ lw_all := lw_g (lw_at lw_m5 142 rfl) rfl
theorem q1268 : (Jvm.Cond.code ({ cls := "java/lang/RuntimeException", name := "<init>", desc := "()V" } : Jvm.MethodName) prog_26_method_1_code (1 : Nat) (Option.none : Option Jvm.ClassFile.FieldType)) ∈ lw_all := lw_g (lw_at lw_m5 143 rfl) rfl
theorem q1269 : (Jvm.Cond.methodLink "java/lang/RuntimeException" (1 : Nat) ({ cls := "java/lang/Exception", name := "<init>", desc := "()V" } : Jvm.MethodName)) ∈ lw_all := lw_g (lw_at lw_m5 144 rfl) rfl
theorem q1287 : (Jvm.Cond.castable "java/lang/RuntimeException" "java/lang/Throwable") ∈ lw_tbl := lw_at lw_m5 162 rfl

theorem q178 : (Jvm.Cond.initialized "java/lang/ClassCastException") ∈ lw_all := lw_g (lw_at lw_m1 13 rfl) rfl
theorem q456 : (Jvm.Cond.selects "java/lang/ClassCastException" ({ cls := "java/lang/Throwable", name := "fillInStackTrace", desc := "()Ljava/lang/Throwable;" } : Jvm.MethodName) ({ cls := "java/lang/Throwable", name := "fillInStackTrace", desc := "()Ljava/lang/Throwable;" } : Jvm.MethodName)) ∈ lw_all := lw_g (lw_at lw_m2 51 rfl) rfl
theorem q905 : (Jvm.Cond.instantiable "java/lang/ClassCastException" (6 : Nat)) ∈ lw_all := lw_g (lw_at lw_m4 20 rfl) rfl
theorem q906 : (Jvm.Cond.instanceMethod ({ cls := "java/lang/ClassCastException", name := "<init>", desc := "(Ljava/lang/String;)V" } : Jvm.MethodName)) ∈ lw_all := lw_g (lw_at lw_m4 21 rfl) rfl
theorem q907 : (Jvm.Cond.code ({ cls := "java/lang/ClassCastException", name := "<init>", desc := "(Ljava/lang/String;)V" } : Jvm.MethodName) prog_20_method_2_code (2 : Nat) (Option.none : Option Jvm.ClassFile.FieldType)) ∈ lw_all := lw_g (lw_at lw_m4 22 rfl) rfl
theorem q908 : (Jvm.Cond.methodLink "java/lang/ClassCastException" (7 : Nat) ({ cls := "java/lang/RuntimeException", name := "<init>", desc := "(Ljava/lang/String;)V" } : Jvm.MethodName)) ∈ lw_all := lw_g (lw_at lw_m4 23 rfl) rfl
theorem q917 : (Jvm.Cond.lays "java/lang/ClassCastException" "java/lang/Throwable" "backtrace" "Ljava/lang/Object;") ∈ lw_all := lw_g (lw_at lw_m4 32 rfl) rfl
theorem q918 : (Jvm.Cond.lays "java/lang/ClassCastException" "java/lang/Throwable" "detailMessage" "Ljava/lang/String;") ∈ lw_all := lw_g (lw_at lw_m4 33 rfl) rfl
theorem q919 : (Jvm.Cond.lays "java/lang/ClassCastException" "java/lang/Throwable" "cause" "Ljava/lang/Throwable;") ∈ lw_all := lw_g (lw_at lw_m4 34 rfl) rfl
theorem q920 : (Jvm.Cond.lays "java/lang/ClassCastException" "java/lang/Throwable" "stackTrace" "[Ljava/lang/StackTraceElement;") ∈ lw_all := lw_g (lw_at lw_m4 35 rfl) rfl
theorem q921 : (Jvm.Cond.lays "java/lang/ClassCastException" "java/lang/Throwable" "depth" "I") ∈ lw_all := lw_g (lw_at lw_m4 36 rfl) rfl
theorem q922 : (Jvm.Cond.lays "java/lang/ClassCastException" "java/lang/Throwable" "suppressedExceptions" "Ljava/util/List;") ∈ lw_all := lw_g (lw_at lw_m4 37 rfl) rfl
theorem q923 : (Jvm.Cond.superclass "java/lang/ClassCastException" "java/lang/RuntimeException") ∈ lw_all := lw_g (lw_at lw_m4 38 rfl) rfl
theorem q924 : (Jvm.Cond.castable "java/lang/ClassCastException" "java/lang/ClassCastException") ∈ lw_tbl := lw_at lw_m4 39 rfl
theorem q925 : (Jvm.Cond.selects "java/lang/ClassCastException" ({ cls := "java/lang/Throwable", name := "fillInStackTrace", desc := "(I)Ljava/lang/Throwable;" } : Jvm.MethodName) ({ cls := "java/lang/Throwable", name := "fillInStackTrace", desc := "(I)Ljava/lang/Throwable;" } : Jvm.MethodName)) ∈ lw_all := lw_g (lw_at lw_m4 40 rfl) rfl
theorem in_J4 : ∀ w ∈ wsJ40, w ∈ lw_all := lw_in wsJ40 [917, 918, 919, 920, 921, 922] (by decide +kernel) (by decide +kernel)

theorem q179 : (Jvm.Cond.initialized "java/lang/String") ∈ lw_all := lw_g (lw_at lw_m1 14 rfl) rfl
theorem q926 : (Jvm.Cond.instantiable "java/lang/String" (4 : Nat)) ∈ lw_all := lw_g (lw_at lw_m4 41 rfl) rfl
theorem q927 : (Jvm.Cond.laysFinal "java/lang/String" "java/lang/String" "value" "[B") ∈ lw_all := lw_g (lw_at lw_m4 42 rfl) rfl
theorem q928 : (Jvm.Cond.soleField "java/lang/String" "value") ∈ lw_all := lw_g (lw_at lw_m4 43 rfl) rfl
theorem q929 : (Jvm.Cond.laysFinal "java/lang/String" "java/lang/String" "coder" "B") ∈ lw_all := lw_g (lw_at lw_m4 44 rfl) rfl
theorem q930 : (Jvm.Cond.soleField "java/lang/String" "coder") ∈ lw_all := lw_g (lw_at lw_m4 45 rfl) rfl
theorem in_J5 : ∀ w ∈ wsJ50, w ∈ lw_all := lw_in wsJ50 [927, 929] (by decide +kernel) (by decide +kernel)

theorem q188 : (Jvm.Cond.initialized "java/lang/NullPointerException") ∈ lw_all := lw_g (lw_at lw_m1 23 rfl) rfl
theorem q458 : (Jvm.Cond.selects "java/lang/NullPointerException" ({ cls := "java/lang/Throwable", name := "fillInStackTrace", desc := "()Ljava/lang/Throwable;" } : Jvm.MethodName) ({ cls := "java/lang/NullPointerException", name := "fillInStackTrace", desc := "()Ljava/lang/Throwable;" } : Jvm.MethodName)) ∈ lw_all := lw_g (lw_at lw_m2 53 rfl) rfl
theorem q459 : (Jvm.Cond.instanceMethod ({ cls := "java/lang/NullPointerException", name := "fillInStackTrace", desc := "()Ljava/lang/Throwable;" } : Jvm.MethodName)) ∈ lw_all := lw_g (lw_at lw_m2 54 rfl) rfl
theorem q460 : (Jvm.Cond.codeSync ({ cls := "java/lang/NullPointerException", name := "fillInStackTrace", desc := "()Ljava/lang/Throwable;" } : Jvm.MethodName) prog_25_method_3_code (1 : Nat) (Option.some (Jvm.ClassFile.FieldType.object "java/lang/Throwable"))) ∈ lw_all := lw_g (lw_at lw_m2 55 rfl) rfl
theorem q461 : (Jvm.Cond.methodLink "java/lang/NullPointerException" (16 : Nat) ({ cls := "java/lang/NullPointerException", name := "getExtendedNPEMessage", desc := "()Ljava/lang/String;" } : Jvm.MethodName)) ∈ lw_all := lw_g (lw_at lw_m2 56 rfl) rfl
theorem q462 : (Jvm.Cond.privateMethod ({ cls := "java/lang/NullPointerException", name := "getExtendedNPEMessage", desc := "()Ljava/lang/String;" } : Jvm.MethodName)) ∈ lw_tbl := lw_at lw_m2 57 rfl
theorem q463 : (Jvm.Cond.instanceMethod ({ cls := "java/lang/NullPointerException", name := "getExtendedNPEMessage", desc := "()Ljava/lang/String;" } : Jvm.MethodName)) ∈ lw_all := lw_g (lw_at lw_m2 58 rfl) rfl
theorem q464 : (Jvm.Cond.instantiable "java/lang/NullPointerException" (8 : Nat)) ∈ lw_all := lw_g (lw_at lw_m2 59 rfl) rfl
theorem q465 : (Jvm.Cond.native ({ cls := "java/lang/NullPointerException", name := "getExtendedNPEMessage", desc := "()Ljava/lang/String;" } : Jvm.MethodName)) ∈ lw_all := lw_g (lw_at lw_m2 60 rfl) rfl
theorem q466 : (Jvm.Cond.methodLink "java/lang/NullPointerException" (24 : Nat) ({ cls := "java/lang/RuntimeException", name := "fillInStackTrace", desc := "()Ljava/lang/Throwable;" } : Jvm.MethodName)) ∈ lw_all := lw_g (lw_at lw_m2 61 rfl) rfl
theorem q469 : (Jvm.Cond.superclass "java/lang/NullPointerException" "java/lang/RuntimeException") ∈ lw_all := lw_g (lw_at lw_m2 64 rfl) rfl
theorem q1264 : (Jvm.Cond.instanceMethod ({ cls := "java/lang/NullPointerException", name := "<init>", desc := "()V" } : Jvm.MethodName)) ∈ lw_all := lw_g (lw_at lw_m5 139 rfl) rfl
theorem q1265 : (Jvm.Cond.code ({ cls := "java/lang/NullPointerException", name := "<init>", desc := "()V" } : Jvm.MethodName) prog_25_method_1_code (1 : Nat) (Option.none : Option Jvm.ClassFile.FieldType)) ∈ lw_all := lw_g (lw_at lw_m5 140 rfl) rfl
theorem q1266 : (Jvm.Cond.methodLink "java/lang/NullPointerException" (1 : Nat) ({ cls := "java/lang/RuntimeException", name := "<init>", desc := "()V" } : Jvm.MethodName)) ∈ lw_all := lw_g (lw_at lw_m5 141 rfl) rfl
theorem q1273 : (Jvm.Cond.fieldLink "java/lang/NullPointerException" (10 : Nat) "java/lang/NullPointerException" "extendedMessageState" "I") ∈ lw_all := lw_g (lw_at lw_m5 148 rfl) rfl
theorem q1274 : (Jvm.Cond.fieldLink "java/lang/NullPointerException" (20 : Nat) "java/lang/NullPointerException" "extendedMessage" "Ljava/lang/String;") ∈ lw_all := lw_g (lw_at lw_m5 149 rfl) rfl
theorem q1275 : (Jvm.Cond.lays "java/lang/NullPointerException" "java/lang/NullPointerException" "extendedMessageState" "I") ∈ lw_all := lw_g (lw_at lw_m5 150 rfl) rfl
theorem q1276 : (Jvm.Cond.soleField "java/lang/NullPointerException" "extendedMessageState") ∈ lw_all := lw_g (lw_at lw_m5 151 rfl) rfl
theorem q1277 : (Jvm.Cond.lays "java/lang/NullPointerException" "java/lang/NullPointerException" "extendedMessage" "Ljava/lang/String;") ∈ lw_all := lw_g (lw_at lw_m5 152 rfl) rfl
theorem q1278 : (Jvm.Cond.soleField "java/lang/NullPointerException" "extendedMessage") ∈ lw_all := lw_g (lw_at lw_m5 153 rfl) rfl
theorem q1279 : (Jvm.Cond.lays "java/lang/NullPointerException" "java/lang/Throwable" "backtrace" "Ljava/lang/Object;") ∈ lw_all := lw_g (lw_at lw_m5 154 rfl) rfl
theorem q1280 : (Jvm.Cond.lays "java/lang/NullPointerException" "java/lang/Throwable" "detailMessage" "Ljava/lang/String;") ∈ lw_all := lw_g (lw_at lw_m5 155 rfl) rfl
theorem q1281 : (Jvm.Cond.lays "java/lang/NullPointerException" "java/lang/Throwable" "cause" "Ljava/lang/Throwable;") ∈ lw_all := lw_g (lw_at lw_m5 156 rfl) rfl
theorem q1282 : (Jvm.Cond.lays "java/lang/NullPointerException" "java/lang/Throwable" "stackTrace" "[Ljava/lang/StackTraceElement;") ∈ lw_all := lw_g (lw_at lw_m5 157 rfl) rfl
theorem q1283 : (Jvm.Cond.lays "java/lang/NullPointerException" "java/lang/Throwable" "depth" "I") ∈ lw_all := lw_g (lw_at lw_m5 158 rfl) rfl
theorem q1284 : (Jvm.Cond.lays "java/lang/NullPointerException" "java/lang/Throwable" "suppressedExceptions" "Ljava/util/List;") ∈ lw_all := lw_g (lw_at lw_m5 159 rfl) rfl
theorem q1285 : (Jvm.Cond.castable "java/lang/NullPointerException" "java/lang/NullPointerException") ∈ lw_tbl := lw_at lw_m5 160 rfl
theorem q1286 : (Jvm.Cond.selects "java/lang/NullPointerException" ({ cls := "java/lang/Throwable", name := "fillInStackTrace", desc := "(I)Ljava/lang/Throwable;" } : Jvm.MethodName) ({ cls := "java/lang/Throwable", name := "fillInStackTrace", desc := "(I)Ljava/lang/Throwable;" } : Jvm.MethodName)) ∈ lw_all := lw_g (lw_at lw_m5 161 rfl) rfl
theorem in_J6 : ∀ w ∈ wsJ60, w ∈ lw_all := lw_in wsJ60 [1279, 1280, 1281, 1282, 1283, 1284, 1275, 1277] (by decide +kernel) (by decide +kernel)

theorem q191 : (Jvm.Cond.initialized "java/lang/Integer") ∈ lw_all := lw_g (lw_at lw_m1 26 rfl) rfl
theorem q1403 : (Jvm.Cond.static ({ cls := "java/lang/Integer", name := "bitCount", desc := "(I)I" } : Jvm.MethodName)) ∈ lw_all := lw_g (lw_at lw_m6 38 rfl) rfl
theorem q1404 : (Jvm.Cond.code ({ cls := "java/lang/Integer", name := "bitCount", desc := "(I)I" } : Jvm.MethodName) prog_22_method_49_code (1 : Nat) (Option.some Jvm.ClassFile.FieldType.int)) ∈ lw_all := lw_g (lw_at lw_m6 39 rfl) rfl
theorem q1405 : (Jvm.Cond.constant "java/lang/Integer" (265 : Nat) (1431655765 : Int32)) ∈ lw_all := lw_g (lw_at lw_m6 40 rfl) rfl
theorem q1406 : (Jvm.Cond.constant "java/lang/Integer" (266 : Nat) (858993459 : Int32)) ∈ lw_all := lw_g (lw_at lw_m6 41 rfl) rfl
theorem q1407 : (Jvm.Cond.constant "java/lang/Integer" (267 : Nat) (252645135 : Int32)) ∈ lw_all := lw_g (lw_at lw_m6 42 rfl) rfl

theorem q192 : (Jvm.Cond.initialized "java/lang/NegativeArraySizeException") ∈ lw_all := lw_g (lw_at lw_m1 27 rfl) rfl
theorem q457 : (Jvm.Cond.selects "java/lang/NegativeArraySizeException" ({ cls := "java/lang/Throwable", name := "fillInStackTrace", desc := "()Ljava/lang/Throwable;" } : Jvm.MethodName) ({ cls := "java/lang/Throwable", name := "fillInStackTrace", desc := "()Ljava/lang/Throwable;" } : Jvm.MethodName)) ∈ lw_all := lw_g (lw_at lw_m2 52 rfl) rfl
theorem q1600 : (Jvm.Cond.instantiable "java/lang/NegativeArraySizeException" (6 : Nat)) ∈ lw_all := lw_g (lw_at lw_m6 235 rfl) rfl
theorem q1601 : (Jvm.Cond.instanceMethod ({ cls := "java/lang/NegativeArraySizeException", name := "<init>", desc := "(Ljava/lang/String;)V" } : Jvm.MethodName)) ∈ lw_all := lw_g (lw_at lw_m6 236 rfl) rfl
theorem q1602 : (Jvm.Cond.code ({ cls := "java/lang/NegativeArraySizeException", name := "<init>", desc := "(Ljava/lang/String;)V" } : Jvm.MethodName) prog_24_method_2_code (2 : Nat) (Option.none : Option Jvm.ClassFile.FieldType)) ∈ lw_all := lw_g (lw_at lw_m6 237 rfl) rfl
theorem q1603 : (Jvm.Cond.methodLink "java/lang/NegativeArraySizeException" (7 : Nat) ({ cls := "java/lang/RuntimeException", name := "<init>", desc := "(Ljava/lang/String;)V" } : Jvm.MethodName)) ∈ lw_all := lw_g (lw_at lw_m6 238 rfl) rfl
theorem q1604 : (Jvm.Cond.lays "java/lang/NegativeArraySizeException" "java/lang/Throwable" "backtrace" "Ljava/lang/Object;") ∈ lw_all := lw_g (lw_at lw_m6 239 rfl) rfl
theorem q1605 : (Jvm.Cond.lays "java/lang/NegativeArraySizeException" "java/lang/Throwable" "detailMessage" "Ljava/lang/String;") ∈ lw_all := lw_g (lw_at lw_m7 0 rfl) rfl
theorem q1606 : (Jvm.Cond.lays "java/lang/NegativeArraySizeException" "java/lang/Throwable" "cause" "Ljava/lang/Throwable;") ∈ lw_all := lw_g (lw_at lw_m7 1 rfl) rfl
theorem q1607 : (Jvm.Cond.lays "java/lang/NegativeArraySizeException" "java/lang/Throwable" "stackTrace" "[Ljava/lang/StackTraceElement;") ∈ lw_all := lw_g (lw_at lw_m7 2 rfl) rfl
theorem q1608 : (Jvm.Cond.lays "java/lang/NegativeArraySizeException" "java/lang/Throwable" "depth" "I") ∈ lw_all := lw_g (lw_at lw_m7 3 rfl) rfl
theorem q1609 : (Jvm.Cond.lays "java/lang/NegativeArraySizeException" "java/lang/Throwable" "suppressedExceptions" "Ljava/util/List;") ∈ lw_all := lw_g (lw_at lw_m7 4 rfl) rfl
theorem q1610 : (Jvm.Cond.superclass "java/lang/NegativeArraySizeException" "java/lang/RuntimeException") ∈ lw_all := lw_g (lw_at lw_m7 5 rfl) rfl
theorem q1611 : (Jvm.Cond.castable "java/lang/NegativeArraySizeException" "java/lang/NegativeArraySizeException") ∈ lw_tbl := lw_at lw_m7 6 rfl
theorem q1612 : (Jvm.Cond.selects "java/lang/NegativeArraySizeException" ({ cls := "java/lang/Throwable", name := "fillInStackTrace", desc := "(I)Ljava/lang/Throwable;" } : Jvm.MethodName) ({ cls := "java/lang/Throwable", name := "fillInStackTrace", desc := "(I)Ljava/lang/Throwable;" } : Jvm.MethodName)) ∈ lw_all := lw_g (lw_at lw_m7 7 rfl) rfl
theorem in_J8 : ∀ w ∈ wsJ80, w ∈ lw_all := lw_in wsJ80 [1604, 1605, 1606, 1607, 1608, 1609] (by decide +kernel) (by decide +kernel)

theorem q199 : (Jvm.Cond.instanceMethod ({ cls := "java/lang/Object", name := "<init>", desc := "()V" } : Jvm.MethodName)) ∈ lw_all := lw_g (lw_at lw_m1 34 rfl) rfl
theorem q200 : (Jvm.Cond.code ({ cls := "java/lang/Object", name := "<init>", desc := "()V" } : Jvm.MethodName) object_method_1_code (1 : Nat) (Option.none : Option Jvm.ClassFile.FieldType)) ∈ lw_all := lw_g (lw_at lw_m1 35 rfl) rfl

theorem q166 : (Jvm.Cond.initialized "WoodState") ∈ lw_all := lw_g (lw_at lw_m1 1 rfl) rfl
theorem q194 : (Jvm.Cond.instantiable "WoodState" (27 : Nat)) ∈ lw_all := lw_g (lw_at lw_m1 29 rfl) rfl
theorem q196 : (Jvm.Cond.instanceMethod ({ cls := "WoodState", name := "<init>", desc := "()V" } : Jvm.MethodName)) ∈ lw_all := lw_g (lw_at lw_m1 31 rfl) rfl
theorem q197 : (Jvm.Cond.code ({ cls := "WoodState", name := "<init>", desc := "()V" } : Jvm.MethodName) prog_1_method_12_code (2 : Nat) (Option.none : Option Jvm.ClassFile.FieldType)) ∈ lw_all := lw_g (lw_at lw_m1 32 rfl) rfl
theorem q198 : (Jvm.Cond.methodLink "WoodState" (50 : Nat) ({ cls := "java/lang/Object", name := "<init>", desc := "()V" } : Jvm.MethodName)) ∈ lw_all := lw_g (lw_at lw_m1 33 rfl) rfl
theorem q201 : (Jvm.Cond.classLink "WoodState" (56 : Nat) "WoodState$Refusal") ∈ lw_all := lw_g (lw_at lw_m1 36 rfl) rfl
theorem q203 : (Jvm.Cond.classLink "WoodState" (24 : Nat) "WoodState$Forest") ∈ lw_all := lw_g (lw_at lw_m1 38 rfl) rfl
theorem q205 : (Jvm.Cond.methodLink "WoodState" (58 : Nat) ({ cls := "WoodState$Forest", name := "<init>", desc := "()V" } : Jvm.MethodName)) ∈ lw_all := lw_g (lw_at lw_m1 40 rfl) rfl
theorem q219 : (Jvm.Cond.fieldLinkNest "WoodState" (44 : Nat) "WoodState$Slot" "held" "Ljava/lang/Object;" "WoodState") ∈ lw_tbl := lw_at lw_m1 54 rfl
theorem q236 : (Jvm.Cond.fieldLinkNest "WoodState" (344 : Nat) "WoodState$Forest" "year" "I" "WoodState") ∈ lw_tbl := lw_at lw_m1 71 rfl
theorem q238 : (Jvm.Cond.fieldLinkNest "WoodState" (23 : Nat) "WoodState$Forest" "stands" "I" "WoodState") ∈ lw_tbl := lw_at lw_m1 73 rfl
theorem q240 : (Jvm.Cond.fieldLinkNest "WoodState" (124 : Nat) "WoodState$Forest" "blocks" "[I" "WoodState") ∈ lw_tbl := lw_at lw_m1 75 rfl
theorem q242 : (Jvm.Cond.fieldLinkNest "WoodState" (127 : Nat) "WoodState$Forest" "sites" "[I" "WoodState") ∈ lw_tbl := lw_at lw_m1 77 rfl
theorem q244 : (Jvm.Cond.fieldLinkNest "WoodState" (130 : Nat) "WoodState$Forest" "kinds" "[I" "WoodState") ∈ lw_tbl := lw_at lw_m1 79 rfl
theorem q246 : (Jvm.Cond.fieldLinkNest "WoodState" (121 : Nat) "WoodState$Forest" "steeps" "[I" "WoodState") ∈ lw_tbl := lw_at lw_m1 81 rfl
theorem q248 : (Jvm.Cond.fieldLinkNest "WoodState" (133 : Nat) "WoodState$Forest" "acres" "[I" "WoodState") ∈ lw_tbl := lw_at lw_m1 83 rfl
theorem q250 : (Jvm.Cond.fieldLinkNest "WoodState" (136 : Nat) "WoodState$Forest" "ages" "[I" "WoodState") ∈ lw_tbl := lw_at lw_m1 85 rfl
theorem q252 : (Jvm.Cond.fieldLinkNest "WoodState" (139 : Nat) "WoodState$Forest" "fulls" "[I" "WoodState") ∈ lw_tbl := lw_at lw_m1 87 rfl
theorem q254 : (Jvm.Cond.fieldLinkNest "WoodState" (167 : Nat) "WoodState$Forest" "lying" "[I" "WoodState") ∈ lw_tbl := lw_at lw_m1 89 rfl
theorem q256 : (Jvm.Cond.fieldLinkNest "WoodState" (170 : Nat) "WoodState$Forest" "bugs" "[I" "WoodState") ∈ lw_tbl := lw_at lw_m1 91 rfl
theorem q258 : (Jvm.Cond.fieldLinkNest "WoodState" (142 : Nat) "WoodState$Forest" "cutIn" "[I" "WoodState") ∈ lw_tbl := lw_at lw_m1 93 rfl
theorem q260 : (Jvm.Cond.fieldLinkNest "WoodState" (145 : Nat) "WoodState$Forest" "plantedIn" "[I" "WoodState") ∈ lw_tbl := lw_at lw_m1 95 rfl
theorem q262 : (Jvm.Cond.fieldLinkNest "WoodState" (155 : Nat) "WoodState$Forest" "pairs" "I" "WoodState") ∈ lw_tbl := lw_at lw_m1 97 rfl
theorem q264 : (Jvm.Cond.fieldLinkNest "WoodState" (158 : Nat) "WoodState$Forest" "pairA" "[I" "WoodState") ∈ lw_tbl := lw_at lw_m1 99 rfl
theorem q266 : (Jvm.Cond.fieldLinkNest "WoodState" (161 : Nat) "WoodState$Forest" "pairB" "[I" "WoodState") ∈ lw_tbl := lw_at lw_m1 101 rfl
theorem q269 : (Jvm.Cond.fieldLinkNest "WoodState" (195 : Nat) "WoodState$Forest" "roads" "I" "WoodState") ∈ lw_tbl := lw_at lw_m1 104 rfl
theorem q271 : (Jvm.Cond.fieldLinkNest "WoodState" (198 : Nat) "WoodState$Forest" "roadA" "[I" "WoodState") ∈ lw_tbl := lw_at lw_m1 106 rfl
theorem q273 : (Jvm.Cond.fieldLinkNest "WoodState" (201 : Nat) "WoodState$Forest" "roadB" "[I" "WoodState") ∈ lw_tbl := lw_at lw_m1 108 rfl
theorem q275 : (Jvm.Cond.fieldLinkNest "WoodState" (204 : Nat) "WoodState$Forest" "lengths" "[I" "WoodState") ∈ lw_tbl := lw_at lw_m1 110 rfl
theorem q277 : (Jvm.Cond.fieldLinkNest "WoodState" (210 : Nat) "WoodState$Forest" "hauls" "[I" "WoodState") ∈ lw_tbl := lw_at lw_m1 112 rfl
theorem q279 : (Jvm.Cond.fieldLinkNest "WoodState" (35 : Nat) "WoodState$Forest" "villages" "I" "WoodState") ∈ lw_tbl := lw_at lw_m1 114 rfl
theorem q281 : (Jvm.Cond.fieldLinkNest "WoodState" (214 : Nat) "WoodState$Forest" "homes" "[I" "WoodState") ∈ lw_tbl := lw_at lw_m1 116 rfl
theorem q283 : (Jvm.Cond.fieldLinkNest "WoodState" (217 : Nat) "WoodState$Forest" "hearths" "[I" "WoodState") ∈ lw_tbl := lw_at lw_m1 118 rfl
theorem q285 : (Jvm.Cond.fieldLinkNest "WoodState" (220 : Nat) "WoodState$Forest" "heads" "[I" "WoodState") ∈ lw_tbl := lw_at lw_m1 120 rfl
theorem q287 : (Jvm.Cond.fieldLinkNest "WoodState" (238 : Nat) "WoodState$Forest" "owed" "[I" "WoodState") ∈ lw_tbl := lw_at lw_m1 122 rfl
theorem q289 : (Jvm.Cond.fieldLinkNest "WoodState" (40 : Nat) "WoodState$Forest" "slots" "[LWoodState$Slot;" "WoodState") ∈ lw_tbl := lw_at lw_m1 124 rfl
theorem q291 : (Jvm.Cond.fieldLinkNest "WoodState" (272 : Nat) "WoodState$Forest" "books" "[J" "WoodState") ∈ lw_tbl := lw_at lw_m1 126 rfl
theorem q293 : (Jvm.Cond.fieldLinkNest "WoodState" (322 : Nat) "WoodState$Forest" "lines" "I" "WoodState") ∈ lw_tbl := lw_at lw_m1 128 rfl
theorem q295 : (Jvm.Cond.fieldLinkNest "WoodState" (328 : Nat) "WoodState$Forest" "line" "[LWoodState$Line;" "WoodState") ∈ lw_tbl := lw_at lw_m1 130 rfl
theorem q297 : (Jvm.Cond.fieldLinkNest "WoodState" (345 : Nat) "WoodState$Forest" "cameIn" "[I" "WoodState") ∈ lw_tbl := lw_at lw_m1 132 rfl
theorem q299 : (Jvm.Cond.fieldLinkNest "WoodState" (325 : Nat) "WoodState$Forest" "struckIn" "[I" "WoodState") ∈ lw_tbl := lw_at lw_m1 134 rfl
theorem q301 : (Jvm.Cond.fieldLinkNest "WoodState" (385 : Nat) "WoodState$Forest" "orders" "I" "WoodState") ∈ lw_tbl := lw_at lw_m1 136 rfl
theorem q303 : (Jvm.Cond.fieldLinkNest "WoodState" (388 : Nat) "WoodState$Forest" "orderStand" "[I" "WoodState") ∈ lw_tbl := lw_at lw_m1 138 rfl
theorem q305 : (Jvm.Cond.fieldLinkNest "WoodState" (391 : Nat) "WoodState$Forest" "orderSort" "[I" "WoodState") ∈ lw_tbl := lw_at lw_m1 140 rfl
theorem q307 : (Jvm.Cond.fieldLinkNest "WoodState" (394 : Nat) "WoodState$Forest" "orderTold" "[I" "WoodState") ∈ lw_tbl := lw_at lw_m1 142 rfl
theorem q309 : (Jvm.Cond.fieldLinkNest "WoodState" (402 : Nat) "WoodState$Forest" "sown" "[I" "WoodState") ∈ lw_tbl := lw_at lw_m1 144 rfl
theorem q311 : (Jvm.Cond.fieldLinkNest "WoodState" (410 : Nat) "WoodState$Forest" "winds" "[I" "WoodState") ∈ lw_tbl := lw_at lw_m1 146 rfl
theorem q313 : (Jvm.Cond.fieldLinkNest "WoodState" (418 : Nat) "WoodState$Forest" "thieves" "[I" "WoodState") ∈ lw_tbl := lw_at lw_m1 148 rfl
theorem q315 : (Jvm.Cond.fieldLinkNest "WoodState" (421 : Nat) "WoodState$Forest" "guards" "[I" "WoodState") ∈ lw_tbl := lw_at lw_m1 150 rfl
theorem q317 : (Jvm.Cond.fieldLinkNest "WoodState" (173 : Nat) "WoodState$Forest" "countMany" "[I" "WoodState") ∈ lw_tbl := lw_at lw_m1 152 rfl
theorem q320 : (Jvm.Cond.fieldLinkNest "WoodState" (461 : Nat) "WoodState$Forest" "oldAs" "I" "WoodState") ∈ lw_tbl := lw_at lw_m1 155 rfl
theorem q416 : (Jvm.Cond.classLink "WoodState" (65 : Nat) "WoodState$Reader") ∈ lw_all := lw_g (lw_at lw_m2 11 rfl) rfl
theorem q418 : (Jvm.Cond.methodLinkNest "WoodState" (67 : Nat) ({ cls := "WoodState$Reader", name := "<init>", desc := "()V" } : Jvm.MethodName) "WoodState") ∈ lw_tbl := lw_at lw_m2 13 rfl
theorem q491 : (Jvm.Cond.fieldLinkNest "WoodState" (353 : Nat) "WoodState$Fault" "place" "I" "WoodState") ∈ lw_tbl := lw_at lw_m2 86 rfl
theorem q518 : (Jvm.Cond.fieldLinkNest "WoodState" (356 : Nat) "WoodState$Line" "key" "I" "WoodState") ∈ lw_tbl := lw_at lw_m2 113 rfl
theorem q525 : (Jvm.Cond.fieldLinkNest "WoodState" (332 : Nat) "WoodState$Line" "strikes" "I" "WoodState") ∈ lw_tbl := lw_at lw_m2 120 rfl
theorem q537 : (Jvm.Cond.fieldLinkNest "WoodState" (318 : Nat) "WoodState$Reader" "tape" "[B" "WoodState") ∈ lw_tbl := lw_at lw_m2 132 rfl
theorem q539 : (Jvm.Cond.fieldLinkNest "WoodState" (315 : Nat) "WoodState$Reader" "taped" "I" "WoodState") ∈ lw_tbl := lw_at lw_m2 134 rfl
theorem q575 : (Jvm.Cond.classLink "WoodState" (100 : Nat) "[I") ∈ lw_all := lw_g (lw_at lw_m2 170 rfl) rfl
theorem q585 : (Jvm.Cond.methodLink "WoodState" (105 : Nat) ({ cls := "WoodState$Refusal", name := "<init>", desc := "(I)V" } : Jvm.MethodName)) ∈ lw_all := lw_g (lw_at lw_m2 180 rfl) rfl
theorem q590 : (Jvm.Cond.fieldLinkNest "WoodState" (288 : Nat) "WoodState$Refusal" "code" "I" "WoodState") ∈ lw_tbl := lw_at lw_m2 185 rfl
theorem q595 : (Jvm.Cond.fieldLink "WoodState" (7 : Nat) "WoodState" "refusals" "[LWoodState$Refusal;") ∈ lw_all := lw_g (lw_at lw_m2 190 rfl) rfl
theorem q596 : (Jvm.Cond.fieldLink "WoodState" (1 : Nat) "WoodState" "refused" "[I") ∈ lw_all := lw_g (lw_at lw_m2 191 rfl) rfl
theorem q597 : (Jvm.Cond.fieldLink "WoodState" (19 : Nat) "WoodState" "now" "LWoodState$Forest;") ∈ lw_all := lw_g (lw_at lw_m2 192 rfl) rfl
theorem q598 : (Jvm.Cond.fieldLink "WoodState" (59 : Nat) "WoodState" "trial" "LWoodState$Forest;") ∈ lw_all := lw_g (lw_at lw_m2 193 rfl) rfl
theorem q599 : (Jvm.Cond.fieldLink "WoodState" (62 : Nat) "WoodState" "image" "LWoodState$Forest;") ∈ lw_all := lw_g (lw_at lw_m2 194 rfl) rfl
theorem q600 : (Jvm.Cond.fieldLink "WoodState" (582 : Nat) "WoodState" "hasImage" "Z") ∈ lw_all := lw_g (lw_at lw_m2 195 rfl) rfl
theorem q601 : (Jvm.Cond.fieldLink "WoodState" (68 : Nat) "WoodState" "reader" "LWoodState$Reader;") ∈ lw_all := lw_g (lw_at lw_m2 196 rfl) rfl
theorem q602 : (Jvm.Cond.fieldLink "WoodState" (72 : Nat) "WoodState" "members" "[I") ∈ lw_all := lw_g (lw_at lw_m2 197 rfl) rfl
theorem q603 : (Jvm.Cond.fieldLink "WoodState" (453 : Nat) "WoodState" "memberMany" "I") ∈ lw_all := lw_g (lw_at lw_m2 198 rfl) rfl
theorem q604 : (Jvm.Cond.fieldLink "WoodState" (450 : Nat) "WoodState" "tens" "I") ∈ lw_all := lw_g (lw_at lw_m2 199 rfl) rfl
theorem q605 : (Jvm.Cond.fieldLink "WoodState" (75 : Nat) "WoodState" "isRipe" "[Z") ∈ lw_all := lw_g (lw_at lw_m2 200 rfl) rfl
theorem q606 : (Jvm.Cond.fieldLink "WoodState" (79 : Nat) "WoodState" "woodThen" "[I") ∈ lw_all := lw_g (lw_at lw_m2 201 rfl) rfl
theorem q607 : (Jvm.Cond.fieldLink "WoodState" (82 : Nat) "WoodState" "areas" "[I") ∈ lw_all := lw_g (lw_at lw_m2 202 rfl) rfl
theorem q608 : (Jvm.Cond.fieldLink "WoodState" (85 : Nat) "WoodState" "isNear" "[Z") ∈ lw_all := lw_g (lw_at lw_m2 203 rfl) rfl
theorem q609 : (Jvm.Cond.fieldLink "WoodState" (88 : Nat) "WoodState" "choice" "[I") ∈ lw_all := lw_g (lw_at lw_m2 204 rfl) rfl
theorem q610 : (Jvm.Cond.fieldLink "WoodState" (91 : Nat) "WoodState" "best" "[I") ∈ lw_all := lw_g (lw_at lw_m2 205 rfl) rfl
theorem q611 : (Jvm.Cond.fieldLink "WoodState" (513 : Nat) "WoodState" "hasBest" "Z") ∈ lw_all := lw_g (lw_at lw_m2 206 rfl) rfl
theorem q612 : (Jvm.Cond.fieldLink "WoodState" (504 : Nat) "WoodState" "bestLeast" "J") ∈ lw_all := lw_g (lw_at lw_m2 207 rfl) rfl
theorem q613 : (Jvm.Cond.fieldLink "WoodState" (507 : Nat) "WoodState" "bestAll" "J") ∈ lw_all := lw_g (lw_at lw_m2 208 rfl) rfl
theorem q614 : (Jvm.Cond.fieldLink "WoodState" (510 : Nat) "WoodState" "bestMoved" "I") ∈ lw_all := lw_g (lw_at lw_m2 209 rfl) rfl
theorem q615 : (Jvm.Cond.fieldLink "WoodState" (497 : Nat) "WoodState" "floor" "J") ∈ lw_all := lw_g (lw_at lw_m2 210 rfl) rfl
theorem q616 : (Jvm.Cond.fieldLink "WoodState" (483 : Nat) "WoodState" "keptSet" "I") ∈ lw_all := lw_g (lw_at lw_m2 211 rfl) rfl
theorem q617 : (Jvm.Cond.fieldLink "WoodState" (94 : Nat) "WoodState" "keptTen" "[I") ∈ lw_all := lw_g (lw_at lw_m2 212 rfl) rfl
theorem q618 : (Jvm.Cond.fieldLink "WoodState" (585 : Nat) "WoodState" "imageSet" "I") ∈ lw_all := lw_g (lw_at lw_m2 213 rfl) rfl
theorem q619 : (Jvm.Cond.fieldLink "WoodState" (97 : Nat) "WoodState" "imageTen" "[I") ∈ lw_all := lw_g (lw_at lw_m2 214 rfl) rfl
theorem q620 : (Jvm.Cond.fieldLink "WoodState" (413 : Nat) "WoodState" "row" "[I") ∈ lw_all := lw_g (lw_at lw_m2 215 rfl) rfl
theorem q621 : (Jvm.Cond.fieldLink "WoodState" (101 : Nat) "WoodState" "rowsOf" "[[I") ∈ lw_all := lw_g (lw_at lw_m2 216 rfl) rfl
theorem q622 : (Jvm.Cond.laysFinal "WoodState" "WoodState" "refusals" "[LWoodState$Refusal;") ∈ lw_all := lw_g (lw_at lw_m2 217 rfl) rfl
theorem q623 : (Jvm.Cond.soleField "WoodState" "refusals") ∈ lw_all := lw_g (lw_at lw_m2 218 rfl) rfl
theorem q624 : (Jvm.Cond.laysFinal "WoodState" "WoodState" "refused" "[I") ∈ lw_all := lw_g (lw_at lw_m2 219 rfl) rfl
theorem q625 : (Jvm.Cond.soleField "WoodState" "refused") ∈ lw_all := lw_g (lw_at lw_m2 220 rfl) rfl
theorem q626 : (Jvm.Cond.laysFinal "WoodState" "WoodState" "now" "LWoodState$Forest;") ∈ lw_all := lw_g (lw_at lw_m2 221 rfl) rfl
theorem q627 : (Jvm.Cond.soleField "WoodState" "now") ∈ lw_all := lw_g (lw_at lw_m2 222 rfl) rfl
theorem q628 : (Jvm.Cond.laysFinal "WoodState" "WoodState" "trial" "LWoodState$Forest;") ∈ lw_all := lw_g (lw_at lw_m2 223 rfl) rfl
theorem q629 : (Jvm.Cond.soleField "WoodState" "trial") ∈ lw_all := lw_g (lw_at lw_m2 224 rfl) rfl
theorem q630 : (Jvm.Cond.laysFinal "WoodState" "WoodState" "image" "LWoodState$Forest;") ∈ lw_all := lw_g (lw_at lw_m2 225 rfl) rfl
theorem q631 : (Jvm.Cond.soleField "WoodState" "image") ∈ lw_all := lw_g (lw_at lw_m2 226 rfl) rfl
theorem q632 : (Jvm.Cond.lays "WoodState" "WoodState" "hasImage" "Z") ∈ lw_all := lw_g (lw_at lw_m2 227 rfl) rfl
theorem q633 : (Jvm.Cond.soleField "WoodState" "hasImage") ∈ lw_all := lw_g (lw_at lw_m2 228 rfl) rfl
theorem q634 : (Jvm.Cond.laysFinal "WoodState" "WoodState" "reader" "LWoodState$Reader;") ∈ lw_all := lw_g (lw_at lw_m2 229 rfl) rfl
theorem q635 : (Jvm.Cond.soleField "WoodState" "reader") ∈ lw_all := lw_g (lw_at lw_m2 230 rfl) rfl
theorem q636 : (Jvm.Cond.laysFinal "WoodState" "WoodState" "members" "[I") ∈ lw_all := lw_g (lw_at lw_m2 231 rfl) rfl
theorem q637 : (Jvm.Cond.soleField "WoodState" "members") ∈ lw_all := lw_g (lw_at lw_m2 232 rfl) rfl
theorem q638 : (Jvm.Cond.lays "WoodState" "WoodState" "memberMany" "I") ∈ lw_all := lw_g (lw_at lw_m2 233 rfl) rfl
theorem q639 : (Jvm.Cond.soleField "WoodState" "memberMany") ∈ lw_all := lw_g (lw_at lw_m2 234 rfl) rfl
theorem q640 : (Jvm.Cond.lays "WoodState" "WoodState" "tens" "I") ∈ lw_all := lw_g (lw_at lw_m2 235 rfl) rfl
theorem q641 : (Jvm.Cond.soleField "WoodState" "tens") ∈ lw_all := lw_g (lw_at lw_m2 236 rfl) rfl
theorem q642 : (Jvm.Cond.laysFinal "WoodState" "WoodState" "isRipe" "[Z") ∈ lw_all := lw_g (lw_at lw_m2 237 rfl) rfl
theorem q643 : (Jvm.Cond.soleField "WoodState" "isRipe") ∈ lw_all := lw_g (lw_at lw_m2 238 rfl) rfl
theorem q644 : (Jvm.Cond.laysFinal "WoodState" "WoodState" "woodThen" "[I") ∈ lw_all := lw_g (lw_at lw_m2 239 rfl) rfl
theorem q645 : (Jvm.Cond.soleField "WoodState" "woodThen") ∈ lw_all := lw_g (lw_at lw_m3 0 rfl) rfl
theorem q646 : (Jvm.Cond.laysFinal "WoodState" "WoodState" "areas" "[I") ∈ lw_all := lw_g (lw_at lw_m3 1 rfl) rfl
theorem q647 : (Jvm.Cond.soleField "WoodState" "areas") ∈ lw_all := lw_g (lw_at lw_m3 2 rfl) rfl
theorem q648 : (Jvm.Cond.laysFinal "WoodState" "WoodState" "isNear" "[Z") ∈ lw_all := lw_g (lw_at lw_m3 3 rfl) rfl
theorem q649 : (Jvm.Cond.soleField "WoodState" "isNear") ∈ lw_all := lw_g (lw_at lw_m3 4 rfl) rfl
theorem q650 : (Jvm.Cond.laysFinal "WoodState" "WoodState" "choice" "[I") ∈ lw_all := lw_g (lw_at lw_m3 5 rfl) rfl
theorem q651 : (Jvm.Cond.soleField "WoodState" "choice") ∈ lw_all := lw_g (lw_at lw_m3 6 rfl) rfl
theorem q652 : (Jvm.Cond.laysFinal "WoodState" "WoodState" "best" "[I") ∈ lw_all := lw_g (lw_at lw_m3 7 rfl) rfl
theorem q653 : (Jvm.Cond.soleField "WoodState" "best") ∈ lw_all := lw_g (lw_at lw_m3 8 rfl) rfl
theorem q654 : (Jvm.Cond.lays "WoodState" "WoodState" "hasBest" "Z") ∈ lw_all := lw_g (lw_at lw_m3 9 rfl) rfl
theorem q655 : (Jvm.Cond.soleField "WoodState" "hasBest") ∈ lw_all := lw_g (lw_at lw_m3 10 rfl) rfl
theorem q656 : (Jvm.Cond.lays "WoodState" "WoodState" "bestLeast" "J") ∈ lw_all := lw_g (lw_at lw_m3 11 rfl) rfl
theorem q657 : (Jvm.Cond.soleField "WoodState" "bestLeast") ∈ lw_all := lw_g (lw_at lw_m3 12 rfl) rfl
theorem q658 : (Jvm.Cond.lays "WoodState" "WoodState" "bestAll" "J") ∈ lw_all := lw_g (lw_at lw_m3 13 rfl) rfl
theorem q659 : (Jvm.Cond.soleField "WoodState" "bestAll") ∈ lw_all := lw_g (lw_at lw_m3 14 rfl) rfl
theorem q660 : (Jvm.Cond.lays "WoodState" "WoodState" "bestMoved" "I") ∈ lw_all := lw_g (lw_at lw_m3 15 rfl) rfl
theorem q661 : (Jvm.Cond.soleField "WoodState" "bestMoved") ∈ lw_all := lw_g (lw_at lw_m3 16 rfl) rfl
theorem q662 : (Jvm.Cond.lays "WoodState" "WoodState" "floor" "J") ∈ lw_all := lw_g (lw_at lw_m3 17 rfl) rfl
theorem q663 : (Jvm.Cond.soleField "WoodState" "floor") ∈ lw_all := lw_g (lw_at lw_m3 18 rfl) rfl
theorem q664 : (Jvm.Cond.lays "WoodState" "WoodState" "keptSet" "I") ∈ lw_all := lw_g (lw_at lw_m3 19 rfl) rfl
theorem q665 : (Jvm.Cond.soleField "WoodState" "keptSet") ∈ lw_all := lw_g (lw_at lw_m3 20 rfl) rfl
theorem q666 : (Jvm.Cond.laysFinal "WoodState" "WoodState" "keptTen" "[I") ∈ lw_all := lw_g (lw_at lw_m3 21 rfl) rfl
theorem q667 : (Jvm.Cond.soleField "WoodState" "keptTen") ∈ lw_all := lw_g (lw_at lw_m3 22 rfl) rfl
theorem q668 : (Jvm.Cond.lays "WoodState" "WoodState" "imageSet" "I") ∈ lw_all := lw_g (lw_at lw_m3 23 rfl) rfl
theorem q669 : (Jvm.Cond.soleField "WoodState" "imageSet") ∈ lw_all := lw_g (lw_at lw_m3 24 rfl) rfl
theorem q670 : (Jvm.Cond.laysFinal "WoodState" "WoodState" "imageTen" "[I") ∈ lw_all := lw_g (lw_at lw_m3 25 rfl) rfl
theorem q671 : (Jvm.Cond.soleField "WoodState" "imageTen") ∈ lw_all := lw_g (lw_at lw_m3 26 rfl) rfl
theorem q672 : (Jvm.Cond.lays "WoodState" "WoodState" "row" "[I") ∈ lw_all := lw_g (lw_at lw_m3 27 rfl) rfl
theorem q673 : (Jvm.Cond.soleField "WoodState" "row") ∈ lw_all := lw_g (lw_at lw_m3 28 rfl) rfl
theorem q674 : (Jvm.Cond.laysFinal "WoodState" "WoodState" "rowsOf" "[[I") ∈ lw_all := lw_g (lw_at lw_m3 29 rfl) rfl
theorem q675 : (Jvm.Cond.soleField "WoodState" "rowsOf") ∈ lw_all := lw_g (lw_at lw_m3 30 rfl) rfl
theorem q676 : (Jvm.Cond.superclass "WoodState" "java/lang/Object") ∈ lw_all := lw_g (lw_at lw_m3 31 rfl) rfl
theorem q678 : (Jvm.Cond.instanceMethod ({ cls := "WoodState", name := "stand", desc := "(IIII)I" } : Jvm.MethodName)) ∈ lw_all := lw_g (lw_at lw_m3 33 rfl) rfl
theorem q679 : (Jvm.Cond.selects "WoodState" ({ cls := "WoodState", name := "stand", desc := "(IIII)I" } : Jvm.MethodName) ({ cls := "WoodState", name := "stand", desc := "(IIII)I" } : Jvm.MethodName)) ∈ lw_all := lw_g (lw_at lw_m3 34 rfl) rfl
theorem q680 : (Jvm.Cond.code ({ cls := "WoodState", name := "stand", desc := "(IIII)I" } : Jvm.MethodName) prog_1_method_14_code (7 : Nat) (Option.some Jvm.ClassFile.FieldType.int)) ∈ lw_all := lw_g (lw_at lw_m3 35 rfl) rfl
theorem q681 : (Jvm.Cond.methodLink "WoodState" (108 : Nat) ({ cls := "WoodState", name := "isStandTold", desc := "(I)Z" } : Jvm.MethodName)) ∈ lw_all := lw_g (lw_at lw_m3 36 rfl) rfl
theorem q682 : (Jvm.Cond.static ({ cls := "WoodState", name := "isStandTold", desc := "(I)Z" } : Jvm.MethodName)) ∈ lw_all := lw_g (lw_at lw_m3 37 rfl) rfl
theorem q683 : (Jvm.Cond.code ({ cls := "WoodState", name := "isStandTold", desc := "(I)Z" } : Jvm.MethodName) prog_1_method_13_code (1 : Nat) (Option.some Jvm.ClassFile.FieldType.boolean)) ∈ lw_all := lw_g (lw_at lw_m3 38 rfl) rfl
theorem q684 : (Jvm.Cond.constantLong "WoodState" (112 : Nat) (999 : Int64)) ∈ lw_all := lw_g (lw_at lw_m3 39 rfl) rfl
theorem q685 : (Jvm.Cond.methodLink "WoodState" (31 : Nat) ({ cls := "WoodState", name := "isIn", desc := "(JJJ)Z" } : Jvm.MethodName)) ∈ lw_all := lw_g (lw_at lw_m3 40 rfl) rfl
theorem q686 : (Jvm.Cond.static ({ cls := "WoodState", name := "isIn", desc := "(JJJ)Z" } : Jvm.MethodName)) ∈ lw_all := lw_g (lw_at lw_m3 41 rfl) rfl
theorem q687 : (Jvm.Cond.code ({ cls := "WoodState", name := "isIn", desc := "(JJJ)Z" } : Jvm.MethodName) prog_1_method_4_code (6 : Nat) (Option.some Jvm.ClassFile.FieldType.boolean)) ∈ lw_all := lw_g (lw_at lw_m3 42 rfl) rfl
theorem q688 : (Jvm.Cond.constantLong "WoodState" (114 : Nat) (400 : Int64)) ∈ lw_all := lw_g (lw_at lw_m3 43 rfl) rfl
theorem q689 : (Jvm.Cond.constantLong "WoodState" (116 : Nat) (100 : Int64)) ∈ lw_all := lw_g (lw_at lw_m3 44 rfl) rfl
theorem q690 : (Jvm.Cond.methodLink "WoodState" (118 : Nat) ({ cls := "WoodState", name := "refuse", desc := "(I)I" } : Jvm.MethodName)) ∈ lw_all := lw_g (lw_at lw_m3 45 rfl) rfl
theorem q691 : (Jvm.Cond.privateMethod ({ cls := "WoodState", name := "refuse", desc := "(I)I" } : Jvm.MethodName)) ∈ lw_tbl := lw_at lw_m3 46 rfl
theorem q692 : (Jvm.Cond.instanceMethod ({ cls := "WoodState", name := "refuse", desc := "(I)I" } : Jvm.MethodName)) ∈ lw_all := lw_g (lw_at lw_m3 47 rfl) rfl
theorem q693 : (Jvm.Cond.code ({ cls := "WoodState", name := "refuse", desc := "(I)I" } : Jvm.MethodName) prog_1_method_1_code (2 : Nat) (Option.some Jvm.ClassFile.FieldType.int)) ∈ lw_all := lw_g (lw_at lw_m3 48 rfl) rfl
theorem q695 : (Jvm.Cond.instanceMethod ({ cls := "WoodState", name := "neighbours", desc := "(II)I" } : Jvm.MethodName)) ∈ lw_all := lw_g (lw_at lw_m3 50 rfl) rfl
theorem q696 : (Jvm.Cond.selects "WoodState" ({ cls := "WoodState", name := "neighbours", desc := "(II)I" } : Jvm.MethodName) ({ cls := "WoodState", name := "neighbours", desc := "(II)I" } : Jvm.MethodName)) ∈ lw_all := lw_g (lw_at lw_m3 51 rfl) rfl
theorem q697 : (Jvm.Cond.code ({ cls := "WoodState", name := "neighbours", desc := "(II)I" } : Jvm.MethodName) prog_1_method_15_code (3 : Nat) (Option.some Jvm.ClassFile.FieldType.int)) ∈ lw_all := lw_g (lw_at lw_m3 52 rfl) rfl
theorem q698 : (Jvm.Cond.methodLink "WoodState" (148 : Nat) ({ cls := "WoodState", name := "isStand", desc := "(I)Z" } : Jvm.MethodName)) ∈ lw_all := lw_g (lw_at lw_m3 53 rfl) rfl
theorem q699 : (Jvm.Cond.privateMethod ({ cls := "WoodState", name := "isStand", desc := "(I)Z" } : Jvm.MethodName)) ∈ lw_tbl := lw_at lw_m3 54 rfl
theorem q700 : (Jvm.Cond.instanceMethod ({ cls := "WoodState", name := "isStand", desc := "(I)Z" } : Jvm.MethodName)) ∈ lw_all := lw_g (lw_at lw_m3 55 rfl) rfl
theorem q701 : (Jvm.Cond.code ({ cls := "WoodState", name := "isStand", desc := "(I)Z" } : Jvm.MethodName) prog_1_method_8_code (2 : Nat) (Option.some Jvm.ClassFile.FieldType.boolean)) ∈ lw_all := lw_g (lw_at lw_m3 56 rfl) rfl
theorem q702 : (Jvm.Cond.methodLinkNest "WoodState" (151 : Nat) ({ cls := "WoodState$Forest", name := "areNeighbours", desc := "(II)Z" } : Jvm.MethodName) "WoodState") ∈ lw_tbl := lw_at lw_m3 57 rfl
theorem q707 : (Jvm.Cond.instanceMethod ({ cls := "WoodState", name := "look", desc := "(II)I" } : Jvm.MethodName)) ∈ lw_all := lw_g (lw_at lw_m3 62 rfl) rfl
theorem q708 : (Jvm.Cond.selects "WoodState" ({ cls := "WoodState", name := "look", desc := "(II)I" } : Jvm.MethodName) ({ cls := "WoodState", name := "look", desc := "(II)I" } : Jvm.MethodName)) ∈ lw_all := lw_g (lw_at lw_m3 63 rfl) rfl
theorem q709 : (Jvm.Cond.code ({ cls := "WoodState", name := "look", desc := "(II)I" } : Jvm.MethodName) prog_1_method_17_code (3 : Nat) (Option.some Jvm.ClassFile.FieldType.int)) ∈ lw_all := lw_g (lw_at lw_m3 64 rfl) rfl
theorem q710 : (Jvm.Cond.methodLink "WoodState" (179 : Nat) ({ cls := "WoodState", name := "lookMore", desc := "(II)I" } : Jvm.MethodName)) ∈ lw_all := lw_g (lw_at lw_m3 65 rfl) rfl
theorem q711 : (Jvm.Cond.privateMethod ({ cls := "WoodState", name := "lookMore", desc := "(II)I" } : Jvm.MethodName)) ∈ lw_tbl := lw_at lw_m3 66 rfl
theorem q712 : (Jvm.Cond.instanceMethod ({ cls := "WoodState", name := "lookMore", desc := "(II)I" } : Jvm.MethodName)) ∈ lw_all := lw_g (lw_at lw_m3 67 rfl) rfl
theorem q713 : (Jvm.Cond.code ({ cls := "WoodState", name := "lookMore", desc := "(II)I" } : Jvm.MethodName) prog_1_method_16_code (3 : Nat) (Option.some Jvm.ClassFile.FieldType.int)) ∈ lw_all := lw_g (lw_at lw_m3 68 rfl) rfl
theorem q714 : (Jvm.Cond.methodLinkNest "WoodState" (164 : Nat) ({ cls := "WoodState$Forest", name := "wood", desc := "(I)I" } : Jvm.MethodName) "WoodState") ∈ lw_tbl := lw_at lw_m3 69 rfl
theorem q723 : (Jvm.Cond.static ({ cls := "WoodState", name := "feetOf", desc := "(III)I" } : Jvm.MethodName)) ∈ lw_all := lw_g (lw_at lw_m3 78 rfl) rfl
theorem q724 : (Jvm.Cond.code ({ cls := "WoodState", name := "feetOf", desc := "(III)I" } : Jvm.MethodName) prog_1_method_7_code (4 : Nat) (Option.some Jvm.ClassFile.FieldType.int)) ∈ lw_all := lw_g (lw_at lw_m3 79 rfl) rfl
theorem q725 : (Jvm.Cond.methodLink "WoodState" (11 : Nat) ({ cls := "WoodState", name := "half", desc := "(I)I" } : Jvm.MethodName)) ∈ lw_all := lw_g (lw_at lw_m3 80 rfl) rfl
theorem q726 : (Jvm.Cond.static ({ cls := "WoodState", name := "half", desc := "(I)I" } : Jvm.MethodName)) ∈ lw_all := lw_g (lw_at lw_m3 81 rfl) rfl
theorem q727 : (Jvm.Cond.code ({ cls := "WoodState", name := "half", desc := "(I)I" } : Jvm.MethodName) prog_1_method_6_code (1 : Nat) (Option.some Jvm.ClassFile.FieldType.int)) ∈ lw_all := lw_g (lw_at lw_m3 82 rfl) rfl
theorem q728 : (Jvm.Cond.methodLink "WoodState" (15 : Nat) ({ cls := "WoodState", name := "top", desc := "(II)I" } : Jvm.MethodName)) ∈ lw_all := lw_g (lw_at lw_m3 83 rfl) rfl
theorem q729 : (Jvm.Cond.static ({ cls := "WoodState", name := "top", desc := "(II)I" } : Jvm.MethodName)) ∈ lw_all := lw_g (lw_at lw_m3 84 rfl) rfl
theorem q730 : (Jvm.Cond.code ({ cls := "WoodState", name := "top", desc := "(II)I" } : Jvm.MethodName) prog_1_method_5_code (2 : Nat) (Option.some Jvm.ClassFile.FieldType.int)) ∈ lw_all := lw_g (lw_at lw_m3 85 rfl) rfl
theorem q731 : (Jvm.Cond.methodLinkNest "WoodState" (176 : Nat) ({ cls := "WoodState$Forest", name := "isLate", desc := "(I)Z" } : Jvm.MethodName) "WoodState") ∈ lw_tbl := lw_at lw_m3 86 rfl
theorem q781 : (Jvm.Cond.instanceMethod ({ cls := "WoodState", name := "feet", desc := "(III)I" } : Jvm.MethodName)) ∈ lw_all := lw_g (lw_at lw_m3 136 rfl) rfl
theorem q782 : (Jvm.Cond.selects "WoodState" ({ cls := "WoodState", name := "feet", desc := "(III)I" } : Jvm.MethodName) ({ cls := "WoodState", name := "feet", desc := "(III)I" } : Jvm.MethodName)) ∈ lw_all := lw_g (lw_at lw_m3 137 rfl) rfl
theorem q783 : (Jvm.Cond.code ({ cls := "WoodState", name := "feet", desc := "(III)I" } : Jvm.MethodName) prog_1_method_18_code (4 : Nat) (Option.some Jvm.ClassFile.FieldType.int)) ∈ lw_all := lw_g (lw_at lw_m3 138 rfl) rfl
theorem q784 : (Jvm.Cond.constantLong "WoodState" (182 : Nat) (3 : Int64)) ∈ lw_all := lw_g (lw_at lw_m3 139 rfl) rfl
theorem q785 : (Jvm.Cond.constantLong "WoodState" (184 : Nat) (4 : Int64)) ∈ lw_all := lw_g (lw_at lw_m3 140 rfl) rfl
theorem q786 : (Jvm.Cond.constantLong "WoodState" (186 : Nat) (500 : Int64)) ∈ lw_all := lw_g (lw_at lw_m3 141 rfl) rfl
theorem q787 : (Jvm.Cond.methodLink "WoodState" (188 : Nat) ({ cls := "WoodState", name := "feetOf", desc := "(III)I" } : Jvm.MethodName)) ∈ lw_all := lw_g (lw_at lw_m3 142 rfl) rfl
theorem q789 : (Jvm.Cond.instanceMethod ({ cls := "WoodState", name := "road", desc := "(III)I" } : Jvm.MethodName)) ∈ lw_all := lw_g (lw_at lw_m3 144 rfl) rfl
theorem q790 : (Jvm.Cond.selects "WoodState" ({ cls := "WoodState", name := "road", desc := "(III)I" } : Jvm.MethodName) ({ cls := "WoodState", name := "road", desc := "(III)I" } : Jvm.MethodName)) ∈ lw_all := lw_g (lw_at lw_m3 145 rfl) rfl
theorem q791 : (Jvm.Cond.code ({ cls := "WoodState", name := "road", desc := "(III)I" } : Jvm.MethodName) prog_1_method_19_code (4 : Nat) (Option.some Jvm.ClassFile.FieldType.int)) ∈ lw_all := lw_g (lw_at lw_m3 146 rfl) rfl
theorem q792 : (Jvm.Cond.methodLink "WoodState" (192 : Nat) ({ cls := "WoodState", name := "isBlock", desc := "(I)Z" } : Jvm.MethodName)) ∈ lw_all := lw_g (lw_at lw_m3 147 rfl) rfl
theorem q793 : (Jvm.Cond.static ({ cls := "WoodState", name := "isBlock", desc := "(I)Z" } : Jvm.MethodName)) ∈ lw_all := lw_g (lw_at lw_m3 148 rfl) rfl
theorem q794 : (Jvm.Cond.code ({ cls := "WoodState", name := "isBlock", desc := "(I)Z" } : Jvm.MethodName) prog_1_method_9_code (1 : Nat) (Option.some Jvm.ClassFile.FieldType.boolean)) ∈ lw_all := lw_g (lw_at lw_m3 149 rfl) rfl
theorem q795 : (Jvm.Cond.constantLong "WoodState" (29 : Nat) (5 : Int64)) ∈ lw_all := lw_g (lw_at lw_m3 150 rfl) rfl
theorem q796 : (Jvm.Cond.methodLinkNest "WoodState" (207 : Nat) ({ cls := "WoodState$Forest", name := "measure", desc := "()V" } : Jvm.MethodName) "WoodState") ∈ lw_tbl := lw_at lw_m3 151 rfl
theorem q798 : (Jvm.Cond.instanceMethod ({ cls := "WoodState", name := "haul", desc := "(I)I" } : Jvm.MethodName)) ∈ lw_all := lw_g (lw_at lw_m3 153 rfl) rfl
theorem q799 : (Jvm.Cond.selects "WoodState" ({ cls := "WoodState", name := "haul", desc := "(I)I" } : Jvm.MethodName) ({ cls := "WoodState", name := "haul", desc := "(I)I" } : Jvm.MethodName)) ∈ lw_all := lw_g (lw_at lw_m3 154 rfl) rfl
theorem q800 : (Jvm.Cond.code ({ cls := "WoodState", name := "haul", desc := "(I)I" } : Jvm.MethodName) prog_1_method_20_code (2 : Nat) (Option.some Jvm.ClassFile.FieldType.int)) ∈ lw_all := lw_g (lw_at lw_m3 155 rfl) rfl
theorem q801 : (Jvm.Cond.constant "WoodState" (213 : Nat) (100000000 : Int32)) ∈ lw_all := lw_g (lw_at lw_m3 156 rfl) rfl
theorem q803 : (Jvm.Cond.instanceMethod ({ cls := "WoodState", name := "village", desc := "(III)I" } : Jvm.MethodName)) ∈ lw_all := lw_g (lw_at lw_m3 158 rfl) rfl
theorem q804 : (Jvm.Cond.selects "WoodState" ({ cls := "WoodState", name := "village", desc := "(III)I" } : Jvm.MethodName) ({ cls := "WoodState", name := "village", desc := "(III)I" } : Jvm.MethodName)) ∈ lw_all := lw_g (lw_at lw_m3 159 rfl) rfl
theorem q805 : (Jvm.Cond.code ({ cls := "WoodState", name := "village", desc := "(III)I" } : Jvm.MethodName) prog_1_method_21_code (4 : Nat) (Option.some Jvm.ClassFile.FieldType.int)) ∈ lw_all := lw_g (lw_at lw_m3 160 rfl) rfl
theorem q807 : (Jvm.Cond.instanceMethod ({ cls := "WoodState", name := "people", desc := "(III)I" } : Jvm.MethodName)) ∈ lw_all := lw_g (lw_at lw_m3 162 rfl) rfl
theorem q808 : (Jvm.Cond.selects "WoodState" ({ cls := "WoodState", name := "people", desc := "(III)I" } : Jvm.MethodName) ({ cls := "WoodState", name := "people", desc := "(III)I" } : Jvm.MethodName)) ∈ lw_all := lw_g (lw_at lw_m3 163 rfl) rfl
theorem q809 : (Jvm.Cond.code ({ cls := "WoodState", name := "people", desc := "(III)I" } : Jvm.MethodName) prog_1_method_22_code (5 : Nat) (Option.some Jvm.ClassFile.FieldType.int)) ∈ lw_all := lw_g (lw_at lw_m3 164 rfl) rfl
theorem q810 : (Jvm.Cond.methodLink "WoodState" (223 : Nat) ({ cls := "WoodState", name := "isVillage", desc := "(I)Z" } : Jvm.MethodName)) ∈ lw_all := lw_g (lw_at lw_m3 165 rfl) rfl
theorem q811 : (Jvm.Cond.privateMethod ({ cls := "WoodState", name := "isVillage", desc := "(I)Z" } : Jvm.MethodName)) ∈ lw_tbl := lw_at lw_m3 166 rfl
theorem q812 : (Jvm.Cond.instanceMethod ({ cls := "WoodState", name := "isVillage", desc := "(I)Z" } : Jvm.MethodName)) ∈ lw_all := lw_g (lw_at lw_m3 167 rfl) rfl
theorem q813 : (Jvm.Cond.code ({ cls := "WoodState", name := "isVillage", desc := "(I)Z" } : Jvm.MethodName) prog_1_method_10_code (2 : Nat) (Option.some Jvm.ClassFile.FieldType.boolean)) ∈ lw_all := lw_g (lw_at lw_m3 168 rfl) rfl
theorem q815 : (Jvm.Cond.instanceMethod ({ cls := "WoodState", name := "of", desc := "(II)I" } : Jvm.MethodName)) ∈ lw_all := lw_g (lw_at lw_m3 170 rfl) rfl
theorem q816 : (Jvm.Cond.selects "WoodState" ({ cls := "WoodState", name := "of", desc := "(II)I" } : Jvm.MethodName) ({ cls := "WoodState", name := "of", desc := "(II)I" } : Jvm.MethodName)) ∈ lw_all := lw_g (lw_at lw_m3 171 rfl) rfl
theorem q817 : (Jvm.Cond.code ({ cls := "WoodState", name := "of", desc := "(II)I" } : Jvm.MethodName) prog_1_method_24_code (3 : Nat) (Option.some Jvm.ClassFile.FieldType.int)) ∈ lw_all := lw_g (lw_at lw_m3 172 rfl) rfl
theorem q818 : (Jvm.Cond.methodLink "WoodState" (241 : Nat) ({ cls := "WoodState", name := "mastOf", desc := "(I)I" } : Jvm.MethodName)) ∈ lw_all := lw_g (lw_at lw_m3 173 rfl) rfl
theorem q819 : (Jvm.Cond.privateMethod ({ cls := "WoodState", name := "mastOf", desc := "(I)I" } : Jvm.MethodName)) ∈ lw_tbl := lw_at lw_m3 174 rfl
theorem q820 : (Jvm.Cond.instanceMethod ({ cls := "WoodState", name := "mastOf", desc := "(I)I" } : Jvm.MethodName)) ∈ lw_all := lw_g (lw_at lw_m3 175 rfl) rfl
theorem q821 : (Jvm.Cond.code ({ cls := "WoodState", name := "mastOf", desc := "(I)I" } : Jvm.MethodName) prog_1_method_23_code (6 : Nat) (Option.some Jvm.ClassFile.FieldType.int)) ∈ lw_all := lw_g (lw_at lw_m3 176 rfl) rfl
theorem q822 : (Jvm.Cond.methodLinkNest "WoodState" (226 : Nat) ({ cls := "WoodState$Forest", name := "saysNow", desc := "(II)I" } : Jvm.MethodName) "WoodState") ∈ lw_tbl := lw_at lw_m3 177 rfl
theorem q823 : (Jvm.Cond.methodLinkNest "WoodState" (229 : Nat) ({ cls := "WoodState$Forest", name := "between", desc := "(II)I" } : Jvm.MethodName) "WoodState") ∈ lw_tbl := lw_at lw_m3 178 rfl
theorem q830 : (Jvm.Cond.methodLink "WoodState" (232 : Nat) ({ cls := "java/lang/Math", name := "min", desc := "(JJ)J" } : Jvm.MethodName)) ∈ lw_all := lw_g (lw_at lw_m3 185 rfl) rfl
theorem q834 : (Jvm.Cond.instanceMethod ({ cls := "WoodState", name := "parcel", desc := "(II)I" } : Jvm.MethodName)) ∈ lw_all := lw_g (lw_at lw_m3 189 rfl) rfl
theorem q835 : (Jvm.Cond.selects "WoodState" ({ cls := "WoodState", name := "parcel", desc := "(II)I" } : Jvm.MethodName) ({ cls := "WoodState", name := "parcel", desc := "(II)I" } : Jvm.MethodName)) ∈ lw_all := lw_g (lw_at lw_m3 190 rfl) rfl
theorem q836 : (Jvm.Cond.code ({ cls := "WoodState", name := "parcel", desc := "(II)I" } : Jvm.MethodName) prog_1_method_25_code (4 : Nat) (Option.some Jvm.ClassFile.FieldType.int)) ∈ lw_all := lw_g (lw_at lw_m3 191 rfl) rfl
theorem q837 : (Jvm.Cond.methodLink "WoodState" (244 : Nat) ({ cls := "WoodState", name := "isParcel", desc := "(I)Z" } : Jvm.MethodName)) ∈ lw_all := lw_g (lw_at lw_m3 192 rfl) rfl
theorem q838 : (Jvm.Cond.privateMethod ({ cls := "WoodState", name := "isParcel", desc := "(I)Z" } : Jvm.MethodName)) ∈ lw_tbl := lw_at lw_m3 193 rfl
theorem q839 : (Jvm.Cond.instanceMethod ({ cls := "WoodState", name := "isParcel", desc := "(I)Z" } : Jvm.MethodName)) ∈ lw_all := lw_g (lw_at lw_m3 194 rfl) rfl
theorem q840 : (Jvm.Cond.code ({ cls := "WoodState", name := "isParcel", desc := "(I)Z" } : Jvm.MethodName) prog_1_method_11_code (2 : Nat) (Option.some Jvm.ClassFile.FieldType.boolean)) ∈ lw_all := lw_g (lw_at lw_m3 195 rfl) rfl
theorem q841 : (Jvm.Cond.constantLong "WoodState" (38 : Nat) (59 : Int64)) ∈ lw_all := lw_g (lw_at lw_m3 196 rfl) rfl
theorem q842 : (Jvm.Cond.methodLinkNest "WoodState" (247 : Nat) ({ cls := "WoodState$Forest", name := "at", desc := "(I)LWoodState$Lot;" } : Jvm.MethodName) "WoodState") ∈ lw_tbl := lw_at lw_m3 197 rfl
theorem q847 : (Jvm.Cond.methodLink "WoodState" (251 : Nat) ({ cls := "WoodState$Lot", name := "kind", desc := "()I" } : Jvm.MethodName)) ∈ lw_all := lw_g (lw_at lw_m3 202 rfl) rfl
theorem q862 : (Jvm.Cond.methodLink "WoodState" (266 : Nat) ({ cls := "WoodState$Lot", name := "whose", desc := "()I" } : Jvm.MethodName)) ∈ lw_all := lw_g (lw_at lw_m3 217 rfl) rfl
theorem q872 : (Jvm.Cond.instanceMethod ({ cls := "WoodState", name := "sell", desc := "(II)I" } : Jvm.MethodName)) ∈ lw_all := lw_g (lw_at lw_m3 227 rfl) rfl
theorem q873 : (Jvm.Cond.selects "WoodState" ({ cls := "WoodState", name := "sell", desc := "(II)I" } : Jvm.MethodName) ({ cls := "WoodState", name := "sell", desc := "(II)I" } : Jvm.MethodName)) ∈ lw_all := lw_g (lw_at lw_m3 228 rfl) rfl
theorem q874 : (Jvm.Cond.codeWith ({ cls := "WoodState", name := "sell", desc := "(II)I" } : Jvm.MethodName) prog_1_method_28_code (4 : Nat) (Option.some Jvm.ClassFile.FieldType.int) [((0 : Nat), (6 : Nat), (7 : Nat), (56 : Nat))]) ∈ lw_all := lw_g (lw_at lw_m3 229 rfl) rfl
theorem q875 : (Jvm.Cond.methodLink "WoodState" (285 : Nat) ({ cls := "WoodState", name := "sold", desc := "(II)I" } : Jvm.MethodName)) ∈ lw_all := lw_g (lw_at lw_m3 230 rfl) rfl
theorem q876 : (Jvm.Cond.privateMethod ({ cls := "WoodState", name := "sold", desc := "(II)I" } : Jvm.MethodName)) ∈ lw_tbl := lw_at lw_m3 231 rfl
theorem q877 : (Jvm.Cond.instanceMethod ({ cls := "WoodState", name := "sold", desc := "(II)I" } : Jvm.MethodName)) ∈ lw_all := lw_g (lw_at lw_m3 232 rfl) rfl
theorem q878 : (Jvm.Cond.code ({ cls := "WoodState", name := "sold", desc := "(II)I" } : Jvm.MethodName) prog_1_method_27_code (5 : Nat) (Option.some Jvm.ClassFile.FieldType.int)) ∈ lw_all := lw_g (lw_at lw_m3 233 rfl) rfl
theorem q879 : (Jvm.Cond.methodLink "WoodState" (276 : Nat) ({ cls := "WoodState", name := "need", desc := "(ZI)V" } : Jvm.MethodName)) ∈ lw_all := lw_g (lw_at lw_m3 234 rfl) rfl
theorem q880 : (Jvm.Cond.privateMethod ({ cls := "WoodState", name := "need", desc := "(ZI)V" } : Jvm.MethodName)) ∈ lw_tbl := lw_at lw_m3 235 rfl
theorem q881 : (Jvm.Cond.instanceMethod ({ cls := "WoodState", name := "need", desc := "(ZI)V" } : Jvm.MethodName)) ∈ lw_all := lw_g (lw_at lw_m3 236 rfl) rfl
theorem q882 : (Jvm.Cond.code ({ cls := "WoodState", name := "need", desc := "(ZI)V" } : Jvm.MethodName) prog_1_method_3_code (3 : Nat) (Option.none : Option Jvm.ClassFile.FieldType)) ∈ lw_all := lw_g (lw_at lw_m3 237 rfl) rfl
theorem q883 : (Jvm.Cond.constantLong "WoodState" (280 : Nat) (9999 : Int64)) ∈ lw_all := lw_g (lw_at lw_m3 238 rfl) rfl
theorem q884 : (Jvm.Cond.methodLink "WoodState" (282 : Nat) ({ cls := "WoodState", name := "end", desc := "(I)I" } : Jvm.MethodName)) ∈ lw_all := lw_g (lw_at lw_m3 239 rfl) rfl
theorem q885 : (Jvm.Cond.privateMethod ({ cls := "WoodState", name := "end", desc := "(I)I" } : Jvm.MethodName)) ∈ lw_tbl := lw_at lw_m4 0 rfl
theorem q886 : (Jvm.Cond.instanceMethod ({ cls := "WoodState", name := "end", desc := "(I)I" } : Jvm.MethodName)) ∈ lw_all := lw_g (lw_at lw_m4 1 rfl) rfl
theorem q887 : (Jvm.Cond.code ({ cls := "WoodState", name := "end", desc := "(I)I" } : Jvm.MethodName) prog_1_method_26_code (3 : Nat) (Option.some Jvm.ClassFile.FieldType.int)) ∈ lw_all := lw_g (lw_at lw_m4 2 rfl) rfl
theorem q888 : (Jvm.Cond.methodLink "WoodState" (269 : Nat) ({ cls := "WoodState$Lot", name := "ends", desc := "()I" } : Jvm.MethodName)) ∈ lw_all := lw_g (lw_at lw_m4 3 rfl) rfl
theorem q901 : (Jvm.Cond.instanceMethod ({ cls := "WoodState", name := "fetch", desc := "(I)I" } : Jvm.MethodName)) ∈ lw_all := lw_g (lw_at lw_m4 16 rfl) rfl
theorem q902 : (Jvm.Cond.selects "WoodState" ({ cls := "WoodState", name := "fetch", desc := "(I)I" } : Jvm.MethodName) ({ cls := "WoodState", name := "fetch", desc := "(I)I" } : Jvm.MethodName)) ∈ lw_all := lw_g (lw_at lw_m4 17 rfl) rfl
theorem q903 : (Jvm.Cond.codeWith ({ cls := "WoodState", name := "fetch", desc := "(I)I" } : Jvm.MethodName) prog_1_method_29_code (3 : Nat) (Option.some Jvm.ClassFile.FieldType.int) [((15 : Nat), (36 : Nat), (37 : Nat), (293 : Nat))]) ∈ lw_all := lw_g (lw_at lw_m4 18 rfl) rfl
theorem q904 : (Jvm.Cond.classLink "WoodState" (293 : Nat) "java/lang/ClassCastException") ∈ lw_all := lw_g (lw_at lw_m4 19 rfl) rfl
theorem q931 : (Jvm.Cond.classLink "WoodState" (291 : Nat) "WoodState$Due") ∈ lw_all := lw_g (lw_at lw_m4 46 rfl) rfl
theorem q933 : (Jvm.Cond.instanceMethod ({ cls := "WoodState", name := "loss", desc := "(I)I" } : Jvm.MethodName)) ∈ lw_all := lw_g (lw_at lw_m4 48 rfl) rfl
theorem q934 : (Jvm.Cond.selects "WoodState" ({ cls := "WoodState", name := "loss", desc := "(I)I" } : Jvm.MethodName) ({ cls := "WoodState", name := "loss", desc := "(I)I" } : Jvm.MethodName)) ∈ lw_all := lw_g (lw_at lw_m4 49 rfl) rfl
theorem q935 : (Jvm.Cond.code ({ cls := "WoodState", name := "loss", desc := "(I)I" } : Jvm.MethodName) prog_1_method_30_code (3 : Nat) (Option.some Jvm.ClassFile.FieldType.int)) ∈ lw_all := lw_g (lw_at lw_m4 50 rfl) rfl
theorem q936 : (Jvm.Cond.methodLinkNest "WoodState" (295 : Nat) ({ cls := "WoodState$Forest", name := "lack", desc := "(I)I" } : Jvm.MethodName) "WoodState") ∈ lw_tbl := lw_at lw_m4 51 rfl
theorem q948 : (Jvm.Cond.methodLinkNest "WoodState" (298 : Nat) ({ cls := "WoodState$Forest", name := "free", desc := "()I" } : Jvm.MethodName) "WoodState") ∈ lw_tbl := lw_at lw_m4 63 rfl
theorem q952 : (Jvm.Cond.classLink "WoodState" (301 : Nat) "WoodState$Loss") ∈ lw_all := lw_g (lw_at lw_m4 67 rfl) rfl
theorem q954 : (Jvm.Cond.methodLinkNest "WoodState" (303 : Nat) ({ cls := "WoodState$Loss", name := "<init>", desc := "()V" } : Jvm.MethodName) "WoodState") ∈ lw_tbl := lw_at lw_m4 69 rfl
theorem q962 : (Jvm.Cond.fieldLink "WoodState" (257 : Nat) "WoodState$Lot" "feet" "I") ∈ lw_all := lw_g (lw_at lw_m4 77 rfl) rfl
theorem q964 : (Jvm.Cond.fieldLink "WoodState" (309 : Nat) "WoodState$Loss" "feet" "I") ∈ lw_all := lw_g (lw_at lw_m4 79 rfl) rfl
theorem q967 : (Jvm.Cond.fieldLink "WoodState" (260 : Nat) "WoodState$Lot" "stand" "I") ∈ lw_all := lw_g (lw_at lw_m4 82 rfl) rfl
theorem q969 : (Jvm.Cond.fieldLink "WoodState" (308 : Nat) "WoodState$Loss" "stand" "I") ∈ lw_all := lw_g (lw_at lw_m4 84 rfl) rfl
theorem q972 : (Jvm.Cond.fieldLink "WoodState" (263 : Nat) "WoodState$Lot" "year" "I") ∈ lw_all := lw_g (lw_at lw_m4 87 rfl) rfl
theorem q980 : (Jvm.Cond.methodLinkNest "WoodState" (304 : Nat) ({ cls := "WoodState$Forest", name := "put", desc := "(LWoodState$Lot;II)I" } : Jvm.MethodName) "WoodState") ∈ lw_tbl := lw_at lw_m4 95 rfl
theorem q986 : (Jvm.Cond.instanceMethod ({ cls := "WoodState", name := "settle", desc := "(IZ)I" } : Jvm.MethodName)) ∈ lw_all := lw_g (lw_at lw_m4 101 rfl) rfl
theorem q987 : (Jvm.Cond.selects "WoodState" ({ cls := "WoodState", name := "settle", desc := "(IZ)I" } : Jvm.MethodName) ({ cls := "WoodState", name := "settle", desc := "(IZ)I" } : Jvm.MethodName)) ∈ lw_all := lw_g (lw_at lw_m4 102 rfl) rfl
theorem q988 : (Jvm.Cond.codeWith ({ cls := "WoodState", name := "settle", desc := "(IZ)I" } : Jvm.MethodName) prog_1_method_31_code (5 : Nat) (Option.some Jvm.ClassFile.FieldType.int) [((15 : Nat), (95 : Nat), (96 : Nat), (293 : Nat))]) ∈ lw_all := lw_g (lw_at lw_m4 103 rfl) rfl
theorem q990 : (Jvm.Cond.instanceMethod ({ cls := "WoodState", name := "book", desc := "(I)J" } : Jvm.MethodName)) ∈ lw_all := lw_g (lw_at lw_m4 105 rfl) rfl
theorem q991 : (Jvm.Cond.selects "WoodState" ({ cls := "WoodState", name := "book", desc := "(I)J" } : Jvm.MethodName) ({ cls := "WoodState", name := "book", desc := "(I)J" } : Jvm.MethodName)) ∈ lw_all := lw_g (lw_at lw_m4 106 rfl) rfl
theorem q992 : (Jvm.Cond.code ({ cls := "WoodState", name := "book", desc := "(I)J" } : Jvm.MethodName) prog_1_method_32_code (2 : Nat) (Option.some Jvm.ClassFile.FieldType.long)) ∈ lw_all := lw_g (lw_at lw_m4 107 rfl) rfl
theorem q993 : (Jvm.Cond.constantLong "WoodState" (310 : Nat) (7 : Int64)) ∈ lw_all := lw_g (lw_at lw_m4 108 rfl) rfl
theorem q994 : (Jvm.Cond.methodLink "WoodState" (312 : Nat) ({ cls := "WoodState", name := "refuseAsNought", desc := "(I)I" } : Jvm.MethodName)) ∈ lw_all := lw_g (lw_at lw_m4 109 rfl) rfl
theorem q995 : (Jvm.Cond.privateMethod ({ cls := "WoodState", name := "refuseAsNought", desc := "(I)I" } : Jvm.MethodName)) ∈ lw_tbl := lw_at lw_m4 110 rfl
theorem q996 : (Jvm.Cond.instanceMethod ({ cls := "WoodState", name := "refuseAsNought", desc := "(I)I" } : Jvm.MethodName)) ∈ lw_all := lw_g (lw_at lw_m4 111 rfl) rfl
theorem q997 : (Jvm.Cond.code ({ cls := "WoodState", name := "refuseAsNought", desc := "(I)I" } : Jvm.MethodName) prog_1_method_2_code (2 : Nat) (Option.some Jvm.ClassFile.FieldType.int)) ∈ lw_all := lw_g (lw_at lw_m4 112 rfl) rfl
theorem q999 : (Jvm.Cond.instanceMethod ({ cls := "WoodState", name := "feed", desc := "(II)I" } : Jvm.MethodName)) ∈ lw_all := lw_g (lw_at lw_m4 114 rfl) rfl
theorem q1000 : (Jvm.Cond.selects "WoodState" ({ cls := "WoodState", name := "feed", desc := "(II)I" } : Jvm.MethodName) ({ cls := "WoodState", name := "feed", desc := "(II)I" } : Jvm.MethodName)) ∈ lw_all := lw_g (lw_at lw_m4 115 rfl) rfl
theorem q1001 : (Jvm.Cond.code ({ cls := "WoodState", name := "feed", desc := "(II)I" } : Jvm.MethodName) prog_1_method_33_code (4 : Nat) (Option.some Jvm.ClassFile.FieldType.int)) ∈ lw_all := lw_g (lw_at lw_m4 116 rfl) rfl
theorem q1003 : (Jvm.Cond.instanceMethod ({ cls := "WoodState", name := "wipe", desc := "()I" } : Jvm.MethodName)) ∈ lw_all := lw_g (lw_at lw_m4 118 rfl) rfl
theorem q1004 : (Jvm.Cond.selects "WoodState" ({ cls := "WoodState", name := "wipe", desc := "()I" } : Jvm.MethodName) ({ cls := "WoodState", name := "wipe", desc := "()I" } : Jvm.MethodName)) ∈ lw_all := lw_g (lw_at lw_m4 119 rfl) rfl
theorem q1005 : (Jvm.Cond.code ({ cls := "WoodState", name := "wipe", desc := "()I" } : Jvm.MethodName) prog_1_method_34_code (2 : Nat) (Option.some Jvm.ClassFile.FieldType.int)) ∈ lw_all := lw_g (lw_at lw_m4 120 rfl) rfl
theorem q1007 : (Jvm.Cond.instanceMethod ({ cls := "WoodState", name := "line", desc := "()I" } : Jvm.MethodName)) ∈ lw_all := lw_g (lw_at lw_m4 122 rfl) rfl
theorem q1008 : (Jvm.Cond.selects "WoodState" ({ cls := "WoodState", name := "line", desc := "()I" } : Jvm.MethodName) ({ cls := "WoodState", name := "line", desc := "()I" } : Jvm.MethodName)) ∈ lw_all := lw_g (lw_at lw_m4 123 rfl) rfl
theorem q1009 : (Jvm.Cond.codeWith ({ cls := "WoodState", name := "line", desc := "()I" } : Jvm.MethodName) prog_1_method_37_code (2 : Nat) (Option.some Jvm.ClassFile.FieldType.int) [((0 : Nat), (4 : Nat), (5 : Nat), (56 : Nat)), ((0 : Nat), (4 : Nat), (15 : Nat), (351 : Nat))]) ∈ lw_all := lw_g (lw_at lw_m4 124 rfl) rfl
theorem q1010 : (Jvm.Cond.classLink "WoodState" (351 : Nat) "WoodState$Fault") ∈ lw_all := lw_g (lw_at lw_m4 125 rfl) rfl
theorem q1011 : (Jvm.Cond.methodLink "WoodState" (348 : Nat) ({ cls := "WoodState", name := "lineTold", desc := "()I" } : Jvm.MethodName)) ∈ lw_all := lw_g (lw_at lw_m4 126 rfl) rfl
theorem q1012 : (Jvm.Cond.privateMethod ({ cls := "WoodState", name := "lineTold", desc := "()I" } : Jvm.MethodName)) ∈ lw_tbl := lw_at lw_m4 127 rfl
theorem q1013 : (Jvm.Cond.instanceMethod ({ cls := "WoodState", name := "lineTold", desc := "()I" } : Jvm.MethodName)) ∈ lw_all := lw_g (lw_at lw_m4 128 rfl) rfl
theorem q1014 : (Jvm.Cond.code ({ cls := "WoodState", name := "lineTold", desc := "()I" } : Jvm.MethodName) prog_1_method_36_code (2 : Nat) (Option.some Jvm.ClassFile.FieldType.int)) ∈ lw_all := lw_g (lw_at lw_m4 129 rfl) rfl
theorem q1015 : (Jvm.Cond.methodLink "WoodState" (337 : Nat) ({ cls := "WoodState$Reader", name := "read", desc := "()LWoodState$Line;" } : Jvm.MethodName)) ∈ lw_all := lw_g (lw_at lw_m4 130 rfl) rfl
theorem q1154 : (Jvm.Cond.methodLink "WoodState" (341 : Nat) ({ cls := "WoodState", name := "mayStrike", desc := "(I)Z" } : Jvm.MethodName)) ∈ lw_all := lw_g (lw_at lw_m5 29 rfl) rfl
theorem q1155 : (Jvm.Cond.privateMethod ({ cls := "WoodState", name := "mayStrike", desc := "(I)Z" } : Jvm.MethodName)) ∈ lw_tbl := lw_at lw_m5 30 rfl
theorem q1156 : (Jvm.Cond.instanceMethod ({ cls := "WoodState", name := "mayStrike", desc := "(I)Z" } : Jvm.MethodName)) ∈ lw_all := lw_g (lw_at lw_m5 31 rfl) rfl
theorem q1157 : (Jvm.Cond.code ({ cls := "WoodState", name := "mayStrike", desc := "(I)Z" } : Jvm.MethodName) prog_1_method_35_code (2 : Nat) (Option.some Jvm.ClassFile.FieldType.boolean)) ∈ lw_all := lw_g (lw_at lw_m5 32 rfl) rfl
theorem q1159 : (Jvm.Cond.instanceMethod ({ cls := "WoodState", name := "lineOf", desc := "(II)I" } : Jvm.MethodName)) ∈ lw_all := lw_g (lw_at lw_m5 34 rfl) rfl
theorem q1160 : (Jvm.Cond.selects "WoodState" ({ cls := "WoodState", name := "lineOf", desc := "(II)I" } : Jvm.MethodName) ({ cls := "WoodState", name := "lineOf", desc := "(II)I" } : Jvm.MethodName)) ∈ lw_all := lw_g (lw_at lw_m5 35 rfl) rfl
theorem q1161 : (Jvm.Cond.code ({ cls := "WoodState", name := "lineOf", desc := "(II)I" } : Jvm.MethodName) prog_1_method_38_code (3 : Nat) (Option.some Jvm.ClassFile.FieldType.int)) ∈ lw_all := lw_g (lw_at lw_m5 36 rfl) rfl
theorem q1163 : (Jvm.Cond.instanceMethod ({ cls := "WoodState", name := "says", desc := "(III)I" } : Jvm.MethodName)) ∈ lw_all := lw_g (lw_at lw_m5 38 rfl) rfl
theorem q1164 : (Jvm.Cond.selects "WoodState" ({ cls := "WoodState", name := "says", desc := "(III)I" } : Jvm.MethodName) ({ cls := "WoodState", name := "says", desc := "(III)I" } : Jvm.MethodName)) ∈ lw_all := lw_g (lw_at lw_m5 39 rfl) rfl
theorem q1165 : (Jvm.Cond.code ({ cls := "WoodState", name := "says", desc := "(III)I" } : Jvm.MethodName) prog_1_method_40_code (4 : Nat) (Option.some Jvm.ClassFile.FieldType.int)) ∈ lw_all := lw_g (lw_at lw_m5 40 rfl) rfl
theorem q1166 : (Jvm.Cond.methodLink "WoodState" (359 : Nat) ({ cls := "WoodState", name := "isWho", desc := "(I)Z" } : Jvm.MethodName)) ∈ lw_all := lw_g (lw_at lw_m5 41 rfl) rfl
theorem q1167 : (Jvm.Cond.privateMethod ({ cls := "WoodState", name := "isWho", desc := "(I)Z" } : Jvm.MethodName)) ∈ lw_tbl := lw_at lw_m5 42 rfl
theorem q1168 : (Jvm.Cond.instanceMethod ({ cls := "WoodState", name := "isWho", desc := "(I)Z" } : Jvm.MethodName)) ∈ lw_all := lw_g (lw_at lw_m5 43 rfl) rfl
theorem q1169 : (Jvm.Cond.code ({ cls := "WoodState", name := "isWho", desc := "(I)Z" } : Jvm.MethodName) prog_1_method_39_code (2 : Nat) (Option.some Jvm.ClassFile.FieldType.boolean)) ∈ lw_all := lw_g (lw_at lw_m5 44 rfl) rfl
theorem q1170 : (Jvm.Cond.constantLong "WoodState" (362 : Nat) (399 : Int64)) ∈ lw_all := lw_g (lw_at lw_m5 45 rfl) rfl
theorem q1171 : (Jvm.Cond.methodLinkNest "WoodState" (364 : Nat) ({ cls := "WoodState$Forest", name := "says", desc := "(III)I" } : Jvm.MethodName) "WoodState") ∈ lw_tbl := lw_at lw_m5 46 rfl
theorem q1173 : (Jvm.Cond.instanceMethod ({ cls := "WoodState", name := "why", desc := "(III)I" } : Jvm.MethodName)) ∈ lw_all := lw_g (lw_at lw_m5 48 rfl) rfl
theorem q1174 : (Jvm.Cond.selects "WoodState" ({ cls := "WoodState", name := "why", desc := "(III)I" } : Jvm.MethodName) ({ cls := "WoodState", name := "why", desc := "(III)I" } : Jvm.MethodName)) ∈ lw_all := lw_g (lw_at lw_m5 49 rfl) rfl
theorem q1175 : (Jvm.Cond.code ({ cls := "WoodState", name := "why", desc := "(III)I" } : Jvm.MethodName) prog_1_method_41_code (4 : Nat) (Option.some Jvm.ClassFile.FieldType.int)) ∈ lw_all := lw_g (lw_at lw_m5 50 rfl) rfl
theorem q1176 : (Jvm.Cond.methodLinkNest "WoodState" (367 : Nat) ({ cls := "WoodState$Forest", name := "lineFor", desc := "(III)I" } : Jvm.MethodName) "WoodState") ∈ lw_tbl := lw_at lw_m5 51 rfl
theorem q1178 : (Jvm.Cond.instanceMethod ({ cls := "WoodState", name := "may", desc := "(III)I" } : Jvm.MethodName)) ∈ lw_all := lw_g (lw_at lw_m5 53 rfl) rfl
theorem q1179 : (Jvm.Cond.selects "WoodState" ({ cls := "WoodState", name := "may", desc := "(III)I" } : Jvm.MethodName) ({ cls := "WoodState", name := "may", desc := "(III)I" } : Jvm.MethodName)) ∈ lw_all := lw_g (lw_at lw_m5 54 rfl) rfl
theorem q1180 : (Jvm.Cond.codeWith ({ cls := "WoodState", name := "may", desc := "(III)I" } : Jvm.MethodName) prog_1_method_44_code (5 : Nat) (Option.some Jvm.ClassFile.FieldType.int) [((0 : Nat), (7 : Nat), (8 : Nat), (56 : Nat))]) ∈ lw_all := lw_g (lw_at lw_m5 55 rfl) rfl
theorem q1181 : (Jvm.Cond.methodLink "WoodState" (379 : Nat) ({ cls := "WoodState", name := "mayTold", desc := "(III)I" } : Jvm.MethodName)) ∈ lw_all := lw_g (lw_at lw_m5 56 rfl) rfl
theorem q1182 : (Jvm.Cond.privateMethod ({ cls := "WoodState", name := "mayTold", desc := "(III)I" } : Jvm.MethodName)) ∈ lw_tbl := lw_at lw_m5 57 rfl
theorem q1183 : (Jvm.Cond.instanceMethod ({ cls := "WoodState", name := "mayTold", desc := "(III)I" } : Jvm.MethodName)) ∈ lw_all := lw_g (lw_at lw_m5 58 rfl) rfl
theorem q1184 : (Jvm.Cond.code ({ cls := "WoodState", name := "mayTold", desc := "(III)I" } : Jvm.MethodName) prog_1_method_43_code (4 : Nat) (Option.some Jvm.ClassFile.FieldType.int)) ∈ lw_all := lw_g (lw_at lw_m5 59 rfl) rfl
theorem q1185 : (Jvm.Cond.methodLink "WoodState" (372 : Nat) ({ cls := "WoodState", name := "needOrder", desc := "(III)V" } : Jvm.MethodName)) ∈ lw_all := lw_g (lw_at lw_m5 60 rfl) rfl
theorem q1186 : (Jvm.Cond.privateMethod ({ cls := "WoodState", name := "needOrder", desc := "(III)V" } : Jvm.MethodName)) ∈ lw_tbl := lw_at lw_m5 61 rfl
theorem q1187 : (Jvm.Cond.instanceMethod ({ cls := "WoodState", name := "needOrder", desc := "(III)V" } : Jvm.MethodName)) ∈ lw_all := lw_g (lw_at lw_m5 62 rfl) rfl
theorem q1188 : (Jvm.Cond.code ({ cls := "WoodState", name := "needOrder", desc := "(III)V" } : Jvm.MethodName) prog_1_method_42_code (4 : Nat) (Option.none : Option Jvm.ClassFile.FieldType)) ∈ lw_all := lw_g (lw_at lw_m5 63 rfl) rfl
theorem q1189 : (Jvm.Cond.constantLong "WoodState" (370 : Nat) (2 : Int64)) ∈ lw_all := lw_g (lw_at lw_m5 64 rfl) rfl
theorem q1190 : (Jvm.Cond.methodLinkNest "WoodState" (376 : Nat) ({ cls := "WoodState$Forest", name := "whyNot", desc := "(III)I" } : Jvm.MethodName) "WoodState") ∈ lw_tbl := lw_at lw_m5 65 rfl
theorem q1223 : (Jvm.Cond.instanceMethod ({ cls := "WoodState", name := "order", desc := "(III)I" } : Jvm.MethodName)) ∈ lw_all := lw_g (lw_at lw_m5 98 rfl) rfl
theorem q1224 : (Jvm.Cond.selects "WoodState" ({ cls := "WoodState", name := "order", desc := "(III)I" } : Jvm.MethodName) ({ cls := "WoodState", name := "order", desc := "(III)I" } : Jvm.MethodName)) ∈ lw_all := lw_g (lw_at lw_m5 99 rfl) rfl
theorem q1225 : (Jvm.Cond.codeWith ({ cls := "WoodState", name := "order", desc := "(III)I" } : Jvm.MethodName) prog_1_method_46_code (5 : Nat) (Option.some Jvm.ClassFile.FieldType.int) [((0 : Nat), (7 : Nat), (8 : Nat), (56 : Nat))]) ∈ lw_all := lw_g (lw_at lw_m5 100 rfl) rfl
theorem q1226 : (Jvm.Cond.methodLink "WoodState" (397 : Nat) ({ cls := "WoodState", name := "orderTold", desc := "(III)I" } : Jvm.MethodName)) ∈ lw_all := lw_g (lw_at lw_m5 101 rfl) rfl
theorem q1227 : (Jvm.Cond.privateMethod ({ cls := "WoodState", name := "orderTold", desc := "(III)I" } : Jvm.MethodName)) ∈ lw_tbl := lw_at lw_m5 102 rfl
theorem q1228 : (Jvm.Cond.instanceMethod ({ cls := "WoodState", name := "orderTold", desc := "(III)I" } : Jvm.MethodName)) ∈ lw_all := lw_g (lw_at lw_m5 103 rfl) rfl
theorem q1229 : (Jvm.Cond.code ({ cls := "WoodState", name := "orderTold", desc := "(III)I" } : Jvm.MethodName) prog_1_method_45_code (4 : Nat) (Option.some Jvm.ClassFile.FieldType.int)) ∈ lw_all := lw_g (lw_at lw_m5 104 rfl) rfl
theorem q1230 : (Jvm.Cond.methodLinkNest "WoodState" (382 : Nat) ({ cls := "WoodState$Forest", name := "isOrdered", desc := "(II)Z" } : Jvm.MethodName) "WoodState") ∈ lw_tbl := lw_at lw_m5 105 rfl
theorem q1232 : (Jvm.Cond.instanceMethod ({ cls := "WoodState", name := "cancel", desc := "(I)I" } : Jvm.MethodName)) ∈ lw_all := lw_g (lw_at lw_m5 107 rfl) rfl
theorem q1233 : (Jvm.Cond.selects "WoodState" ({ cls := "WoodState", name := "cancel", desc := "(I)I" } : Jvm.MethodName) ({ cls := "WoodState", name := "cancel", desc := "(I)I" } : Jvm.MethodName)) ∈ lw_all := lw_g (lw_at lw_m5 108 rfl) rfl
theorem q1234 : (Jvm.Cond.code ({ cls := "WoodState", name := "cancel", desc := "(I)I" } : Jvm.MethodName) prog_1_method_48_code (3 : Nat) (Option.some Jvm.ClassFile.FieldType.int)) ∈ lw_all := lw_g (lw_at lw_m5 109 rfl) rfl
theorem q1235 : (Jvm.Cond.methodLink "WoodState" (399 : Nat) ({ cls := "WoodState", name := "isOrder", desc := "(I)Z" } : Jvm.MethodName)) ∈ lw_all := lw_g (lw_at lw_m5 110 rfl) rfl
theorem q1236 : (Jvm.Cond.privateMethod ({ cls := "WoodState", name := "isOrder", desc := "(I)Z" } : Jvm.MethodName)) ∈ lw_tbl := lw_at lw_m5 111 rfl
theorem q1237 : (Jvm.Cond.instanceMethod ({ cls := "WoodState", name := "isOrder", desc := "(I)Z" } : Jvm.MethodName)) ∈ lw_all := lw_g (lw_at lw_m5 112 rfl) rfl
theorem q1238 : (Jvm.Cond.code ({ cls := "WoodState", name := "isOrder", desc := "(I)Z" } : Jvm.MethodName) prog_1_method_47_code (2 : Nat) (Option.some Jvm.ClassFile.FieldType.boolean)) ∈ lw_all := lw_g (lw_at lw_m5 113 rfl) rfl
theorem q1240 : (Jvm.Cond.instanceMethod ({ cls := "WoodState", name := "ordered", desc := "(II)I" } : Jvm.MethodName)) ∈ lw_all := lw_g (lw_at lw_m5 115 rfl) rfl
theorem q1241 : (Jvm.Cond.selects "WoodState" ({ cls := "WoodState", name := "ordered", desc := "(II)I" } : Jvm.MethodName) ({ cls := "WoodState", name := "ordered", desc := "(II)I" } : Jvm.MethodName)) ∈ lw_all := lw_g (lw_at lw_m5 116 rfl) rfl
theorem q1242 : (Jvm.Cond.code ({ cls := "WoodState", name := "ordered", desc := "(II)I" } : Jvm.MethodName) prog_1_method_49_code (3 : Nat) (Option.some Jvm.ClassFile.FieldType.int)) ∈ lw_all := lw_g (lw_at lw_m5 117 rfl) rfl
theorem q1244 : (Jvm.Cond.instanceMethod ({ cls := "WoodState", name := "sow", desc := "(II)I" } : Jvm.MethodName)) ∈ lw_all := lw_g (lw_at lw_m5 119 rfl) rfl
theorem q1245 : (Jvm.Cond.selects "WoodState" ({ cls := "WoodState", name := "sow", desc := "(II)I" } : Jvm.MethodName) ({ cls := "WoodState", name := "sow", desc := "(II)I" } : Jvm.MethodName)) ∈ lw_all := lw_g (lw_at lw_m5 120 rfl) rfl
theorem q1246 : (Jvm.Cond.code ({ cls := "WoodState", name := "sow", desc := "(II)I" } : Jvm.MethodName) prog_1_method_50_code (4 : Nat) (Option.some Jvm.ClassFile.FieldType.int)) ∈ lw_all := lw_g (lw_at lw_m5 121 rfl) rfl
theorem q1248 : (Jvm.Cond.instanceMethod ({ cls := "WoodState", name := "nursery", desc := "(II)I" } : Jvm.MethodName)) ∈ lw_all := lw_g (lw_at lw_m5 123 rfl) rfl
theorem q1249 : (Jvm.Cond.selects "WoodState" ({ cls := "WoodState", name := "nursery", desc := "(II)I" } : Jvm.MethodName) ({ cls := "WoodState", name := "nursery", desc := "(II)I" } : Jvm.MethodName)) ∈ lw_all := lw_g (lw_at lw_m5 124 rfl) rfl
theorem q1250 : (Jvm.Cond.code ({ cls := "WoodState", name := "nursery", desc := "(II)I" } : Jvm.MethodName) prog_1_method_51_code (3 : Nat) (Option.some Jvm.ClassFile.FieldType.int)) ∈ lw_all := lw_g (lw_at lw_m5 125 rfl) rfl
theorem q1252 : (Jvm.Cond.instanceMethod ({ cls := "WoodState", name := "wind", desc := "(II)I" } : Jvm.MethodName)) ∈ lw_all := lw_g (lw_at lw_m5 127 rfl) rfl
theorem q1253 : (Jvm.Cond.selects "WoodState" ({ cls := "WoodState", name := "wind", desc := "(II)I" } : Jvm.MethodName) ({ cls := "WoodState", name := "wind", desc := "(II)I" } : Jvm.MethodName)) ∈ lw_all := lw_g (lw_at lw_m5 128 rfl) rfl
theorem q1254 : (Jvm.Cond.code ({ cls := "WoodState", name := "wind", desc := "(II)I" } : Jvm.MethodName) prog_1_method_53_code (4 : Nat) (Option.some Jvm.ClassFile.FieldType.int)) ∈ lw_all := lw_g (lw_at lw_m5 129 rfl) rfl
theorem q1255 : (Jvm.Cond.constantLong "WoodState" (405 : Nat) (99 : Int64)) ∈ lw_all := lw_g (lw_at lw_m5 130 rfl) rfl
theorem q1256 : (Jvm.Cond.methodLink "WoodState" (407 : Nat) ({ cls := "WoodState", name := "isWind", desc := "(I)Z" } : Jvm.MethodName)) ∈ lw_all := lw_g (lw_at lw_m5 131 rfl) rfl
theorem q1257 : (Jvm.Cond.static ({ cls := "WoodState", name := "isWind", desc := "(I)Z" } : Jvm.MethodName)) ∈ lw_all := lw_g (lw_at lw_m5 132 rfl) rfl
theorem q1258 : (Jvm.Cond.code ({ cls := "WoodState", name := "isWind", desc := "(I)Z" } : Jvm.MethodName) prog_1_method_52_code (1 : Nat) (Option.some Jvm.ClassFile.FieldType.boolean)) ∈ lw_all := lw_g (lw_at lw_m5 133 rfl) rfl
theorem q1260 : (Jvm.Cond.instanceMethod ({ cls := "WoodState", name := "read", desc := "()I" } : Jvm.MethodName)) ∈ lw_all := lw_g (lw_at lw_m5 135 rfl) rfl
theorem q1261 : (Jvm.Cond.selects "WoodState" ({ cls := "WoodState", name := "read", desc := "()I" } : Jvm.MethodName) ({ cls := "WoodState", name := "read", desc := "()I" } : Jvm.MethodName)) ∈ lw_all := lw_g (lw_at lw_m5 136 rfl) rfl
theorem q1262 : (Jvm.Cond.codeWith ({ cls := "WoodState", name := "read", desc := "()I" } : Jvm.MethodName) prog_1_method_54_code (3 : Nat) (Option.some Jvm.ClassFile.FieldType.int) [((0 : Nat), (71 : Nat), (72 : Nat), (416 : Nat))]) ∈ lw_all := lw_g (lw_at lw_m5 137 rfl) rfl
theorem q1263 : (Jvm.Cond.classLink "WoodState" (416 : Nat) "java/lang/NullPointerException") ∈ lw_all := lw_g (lw_at lw_m5 138 rfl) rfl
theorem q1289 : (Jvm.Cond.instanceMethod ({ cls := "WoodState", name := "watch", desc := "(III)I" } : Jvm.MethodName)) ∈ lw_all := lw_g (lw_at lw_m5 164 rfl) rfl
theorem q1290 : (Jvm.Cond.selects "WoodState" ({ cls := "WoodState", name := "watch", desc := "(III)I" } : Jvm.MethodName) ({ cls := "WoodState", name := "watch", desc := "(III)I" } : Jvm.MethodName)) ∈ lw_all := lw_g (lw_at lw_m5 165 rfl) rfl
theorem q1291 : (Jvm.Cond.code ({ cls := "WoodState", name := "watch", desc := "(III)I" } : Jvm.MethodName) prog_1_method_55_code (5 : Nat) (Option.some Jvm.ClassFile.FieldType.int)) ∈ lw_all := lw_g (lw_at lw_m5 166 rfl) rfl
theorem q1293 : (Jvm.Cond.instanceMethod ({ cls := "WoodState", name := "run", desc := "(I)I" } : Jvm.MethodName)) ∈ lw_all := lw_g (lw_at lw_m5 168 rfl) rfl
theorem q1294 : (Jvm.Cond.selects "WoodState" ({ cls := "WoodState", name := "run", desc := "(I)I" } : Jvm.MethodName) ({ cls := "WoodState", name := "run", desc := "(I)I" } : Jvm.MethodName)) ∈ lw_all := lw_g (lw_at lw_m5 169 rfl) rfl
theorem q1295 : (Jvm.Cond.code ({ cls := "WoodState", name := "run", desc := "(I)I" } : Jvm.MethodName) prog_1_method_57_code (3 : Nat) (Option.some Jvm.ClassFile.FieldType.int)) ∈ lw_all := lw_g (lw_at lw_m5 170 rfl) rfl
theorem q1296 : (Jvm.Cond.methodLinkNest "WoodState" (427 : Nat) ({ cls := "WoodState$Forest", name := "close", desc := "()V" } : Jvm.MethodName) "WoodState") ∈ lw_tbl := lw_at lw_m5 171 rfl
theorem q1358 : (Jvm.Cond.methodLink "WoodState" (430 : Nat) ({ cls := "WoodState", name := "bareOf", desc := "(LWoodState$Forest;)I" } : Jvm.MethodName)) ∈ lw_all := lw_g (lw_at lw_m5 233 rfl) rfl
theorem q1359 : (Jvm.Cond.static ({ cls := "WoodState", name := "bareOf", desc := "(LWoodState$Forest;)I" } : Jvm.MethodName)) ∈ lw_all := lw_g (lw_at lw_m5 234 rfl) rfl
theorem q1360 : (Jvm.Cond.code ({ cls := "WoodState", name := "bareOf", desc := "(LWoodState$Forest;)I" } : Jvm.MethodName) prog_1_method_56_code (3 : Nat) (Option.some Jvm.ClassFile.FieldType.int)) ∈ lw_all := lw_g (lw_at lw_m5 235 rfl) rfl
theorem q1361 : (Jvm.Cond.methodLinkNest "WoodState" (424 : Nat) ({ cls := "WoodState$Forest", name := "isBare", desc := "(I)Z" } : Jvm.MethodName) "WoodState") ∈ lw_tbl := lw_at lw_m5 236 rfl
theorem q1363 : (Jvm.Cond.instanceMethod ({ cls := "WoodState", name := "count", desc := "(II)I" } : Jvm.MethodName)) ∈ lw_all := lw_g (lw_at lw_m5 238 rfl) rfl
theorem q1364 : (Jvm.Cond.selects "WoodState" ({ cls := "WoodState", name := "count", desc := "(II)I" } : Jvm.MethodName) ({ cls := "WoodState", name := "count", desc := "(II)I" } : Jvm.MethodName)) ∈ lw_all := lw_g (lw_at lw_m5 239 rfl) rfl
theorem q1365 : (Jvm.Cond.code ({ cls := "WoodState", name := "count", desc := "(II)I" } : Jvm.MethodName) prog_1_method_58_code (3 : Nat) (Option.some Jvm.ClassFile.FieldType.int)) ∈ lw_all := lw_g (lw_at lw_m6 0 rfl) rfl
theorem q1366 : (Jvm.Cond.constantLong "WoodState" (434 : Nat) (20 : Int64)) ∈ lw_all := lw_g (lw_at lw_m6 1 rfl) rfl
theorem q1367 : (Jvm.Cond.methodLinkNest "WoodState" (436 : Nat) ({ cls := "WoodState$Forest", name := "count", desc := "(II)I" } : Jvm.MethodName) "WoodState") ∈ lw_tbl := lw_at lw_m6 2 rfl
theorem q1381 : (Jvm.Cond.instanceMethod ({ cls := "WoodState", name := "counted", desc := "(III)I" } : Jvm.MethodName)) ∈ lw_all := lw_g (lw_at lw_m6 16 rfl) rfl
theorem q1382 : (Jvm.Cond.selects "WoodState" ({ cls := "WoodState", name := "counted", desc := "(III)I" } : Jvm.MethodName) ({ cls := "WoodState", name := "counted", desc := "(III)I" } : Jvm.MethodName)) ∈ lw_all := lw_g (lw_at lw_m6 17 rfl) rfl
theorem q1383 : (Jvm.Cond.code ({ cls := "WoodState", name := "counted", desc := "(III)I" } : Jvm.MethodName) prog_1_method_59_code (4 : Nat) (Option.some Jvm.ClassFile.FieldType.int)) ∈ lw_all := lw_g (lw_at lw_m6 18 rfl) rfl
theorem q1384 : (Jvm.Cond.methodLinkNest "WoodState" (439 : Nat) ({ cls := "WoodState$Forest", name := "grown", desc := "(II)I" } : Jvm.MethodName) "WoodState") ∈ lw_tbl := lw_at lw_m6 19 rfl
theorem q1385 : (Jvm.Cond.methodLinkNest "WoodState" (442 : Nat) ({ cls := "WoodState$Forest", name := "countAt", desc := "(III)I" } : Jvm.MethodName) "WoodState") ∈ lw_tbl := lw_at lw_m6 20 rfl
theorem q1387 : (Jvm.Cond.instanceMethod ({ cls := "WoodState", name := "lack", desc := "(I)I" } : Jvm.MethodName)) ∈ lw_all := lw_g (lw_at lw_m6 22 rfl) rfl
theorem q1388 : (Jvm.Cond.selects "WoodState" ({ cls := "WoodState", name := "lack", desc := "(I)I" } : Jvm.MethodName) ({ cls := "WoodState", name := "lack", desc := "(I)I" } : Jvm.MethodName)) ∈ lw_all := lw_g (lw_at lw_m6 23 rfl) rfl
theorem q1389 : (Jvm.Cond.code ({ cls := "WoodState", name := "lack", desc := "(I)I" } : Jvm.MethodName) prog_1_method_60_code (2 : Nat) (Option.some Jvm.ClassFile.FieldType.int)) ∈ lw_all := lw_g (lw_at lw_m6 24 rfl) rfl
theorem q1391 : (Jvm.Cond.instanceMethod ({ cls := "WoodState", name := "plan", desc := "(II)J" } : Jvm.MethodName)) ∈ lw_all := lw_g (lw_at lw_m6 26 rfl) rfl
theorem q1392 : (Jvm.Cond.selects "WoodState" ({ cls := "WoodState", name := "plan", desc := "(II)J" } : Jvm.MethodName) ({ cls := "WoodState", name := "plan", desc := "(II)J" } : Jvm.MethodName)) ∈ lw_all := lw_g (lw_at lw_m6 27 rfl) rfl
theorem q1393 : (Jvm.Cond.codeWith ({ cls := "WoodState", name := "plan", desc := "(II)J" } : Jvm.MethodName) prog_1_method_76_code (4 : Nat) (Option.some Jvm.ClassFile.FieldType.long) [((0 : Nat), (6 : Nat), (7 : Nat), (56 : Nat))]) ∈ lw_all := lw_g (lw_at lw_m6 28 rfl) rfl
theorem q1394 : (Jvm.Cond.methodLink "WoodState" (545 : Nat) ({ cls := "WoodState", name := "planTold", desc := "(II)J" } : Jvm.MethodName)) ∈ lw_all := lw_g (lw_at lw_m6 29 rfl) rfl
theorem q1395 : (Jvm.Cond.privateMethod ({ cls := "WoodState", name := "planTold", desc := "(II)J" } : Jvm.MethodName)) ∈ lw_tbl := lw_at lw_m6 30 rfl
theorem q1396 : (Jvm.Cond.instanceMethod ({ cls := "WoodState", name := "planTold", desc := "(II)J" } : Jvm.MethodName)) ∈ lw_all := lw_g (lw_at lw_m6 31 rfl) rfl
theorem q1397 : (Jvm.Cond.code ({ cls := "WoodState", name := "planTold", desc := "(II)J" } : Jvm.MethodName) prog_1_method_75_code (3 : Nat) (Option.some Jvm.ClassFile.FieldType.long)) ∈ lw_all := lw_g (lw_at lw_m6 32 rfl) rfl
theorem q1398 : (Jvm.Cond.methodLink "WoodState" (533 : Nat) ({ cls := "WoodState", name := "needSet", desc := "(II)V" } : Jvm.MethodName)) ∈ lw_all := lw_g (lw_at lw_m6 33 rfl) rfl
theorem q1399 : (Jvm.Cond.privateMethod ({ cls := "WoodState", name := "needSet", desc := "(II)V" } : Jvm.MethodName)) ∈ lw_tbl := lw_at lw_m6 34 rfl
theorem q1400 : (Jvm.Cond.instanceMethod ({ cls := "WoodState", name := "needSet", desc := "(II)V" } : Jvm.MethodName)) ∈ lw_all := lw_g (lw_at lw_m6 35 rfl) rfl
theorem q1401 : (Jvm.Cond.code ({ cls := "WoodState", name := "needSet", desc := "(II)V" } : Jvm.MethodName) prog_1_method_61_code (3 : Nat) (Option.none : Option Jvm.ClassFile.FieldType)) ∈ lw_all := lw_g (lw_at lw_m6 36 rfl) rfl
theorem q1402 : (Jvm.Cond.methodLink "WoodState" (445 : Nat) ({ cls := "java/lang/Integer", name := "bitCount", desc := "(I)I" } : Jvm.MethodName)) ∈ lw_all := lw_g (lw_at lw_m6 37 rfl) rfl
theorem q1408 : (Jvm.Cond.constantLong "WoodState" (536 : Nat) (-1 : Int64)) ∈ lw_all := lw_g (lw_at lw_m6 43 rfl) rfl
theorem q1409 : (Jvm.Cond.methodLink "WoodState" (538 : Nat) ({ cls := "WoodState", name := "search", desc := "(IIJ)V" } : Jvm.MethodName)) ∈ lw_all := lw_g (lw_at lw_m6 44 rfl) rfl
theorem q1410 : (Jvm.Cond.privateMethod ({ cls := "WoodState", name := "search", desc := "(IIJ)V" } : Jvm.MethodName)) ∈ lw_tbl := lw_at lw_m6 45 rfl
theorem q1411 : (Jvm.Cond.instanceMethod ({ cls := "WoodState", name := "search", desc := "(IIJ)V" } : Jvm.MethodName)) ∈ lw_all := lw_g (lw_at lw_m6 46 rfl) rfl
theorem q1412 : (Jvm.Cond.code ({ cls := "WoodState", name := "search", desc := "(IIJ)V" } : Jvm.MethodName) prog_1_method_73_code (5 : Nat) (Option.none : Option Jvm.ClassFile.FieldType)) ∈ lw_all := lw_g (lw_at lw_m6 47 rfl) rfl
theorem q1413 : (Jvm.Cond.methodLink "WoodState" (529 : Nat) ({ cls := "WoodState", name := "prepare", desc := "(II)V" } : Jvm.MethodName)) ∈ lw_all := lw_g (lw_at lw_m6 48 rfl) rfl
theorem q1414 : (Jvm.Cond.privateMethod ({ cls := "WoodState", name := "prepare", desc := "(II)V" } : Jvm.MethodName)) ∈ lw_tbl := lw_at lw_m6 49 rfl
theorem q1415 : (Jvm.Cond.instanceMethod ({ cls := "WoodState", name := "prepare", desc := "(II)V" } : Jvm.MethodName)) ∈ lw_all := lw_g (lw_at lw_m6 50 rfl) rfl
theorem q1416 : (Jvm.Cond.code ({ cls := "WoodState", name := "prepare", desc := "(II)V" } : Jvm.MethodName) prog_1_method_62_code (6 : Nat) (Option.none : Option Jvm.ClassFile.FieldType)) ∈ lw_all := lw_g (lw_at lw_m6 51 rfl) rfl
theorem q1417 : (Jvm.Cond.methodLink "WoodState" (456 : Nat) ({ cls := "WoodState", name := "prepareOne", desc := "(I)V" } : Jvm.MethodName)) ∈ lw_all := lw_g (lw_at lw_m6 52 rfl) rfl
theorem q1418 : (Jvm.Cond.privateMethod ({ cls := "WoodState", name := "prepareOne", desc := "(I)V" } : Jvm.MethodName)) ∈ lw_tbl := lw_at lw_m6 53 rfl
theorem q1419 : (Jvm.Cond.instanceMethod ({ cls := "WoodState", name := "prepareOne", desc := "(I)V" } : Jvm.MethodName)) ∈ lw_all := lw_g (lw_at lw_m6 54 rfl) rfl
theorem q1420 : (Jvm.Cond.code ({ cls := "WoodState", name := "prepareOne", desc := "(I)V" } : Jvm.MethodName) prog_1_method_63_code (5 : Nat) (Option.none : Option Jvm.ClassFile.FieldType)) ∈ lw_all := lw_g (lw_at lw_m6 55 rfl) rfl
theorem q1421 : (Jvm.Cond.methodLinkNest "WoodState" (464 : Nat) ({ cls := "WoodState$Forest", name := "woodAt", desc := "(III)I" } : Jvm.MethodName) "WoodState") ∈ lw_tbl := lw_at lw_m6 56 rfl
theorem q1422 : (Jvm.Cond.methodLink "WoodState" (459 : Nat) ({ cls := "java/lang/Math", name := "min", desc := "(II)I" } : Jvm.MethodName)) ∈ lw_all := lw_g (lw_at lw_m6 57 rfl) rfl
theorem q1423 : (Jvm.Cond.methodLink "WoodState" (526 : Nat) ({ cls := "WoodState", name := "tryAll", desc := "(I)V" } : Jvm.MethodName)) ∈ lw_all := lw_g (lw_at lw_m6 58 rfl) rfl
theorem q1424 : (Jvm.Cond.privateMethod ({ cls := "WoodState", name := "tryAll", desc := "(I)V" } : Jvm.MethodName)) ∈ lw_tbl := lw_at lw_m6 59 rfl
theorem q1425 : (Jvm.Cond.instanceMethod ({ cls := "WoodState", name := "tryAll", desc := "(I)V" } : Jvm.MethodName)) ∈ lw_all := lw_g (lw_at lw_m6 60 rfl) rfl
theorem q1426 : (Jvm.Cond.code ({ cls := "WoodState", name := "tryAll", desc := "(I)V" } : Jvm.MethodName) prog_1_method_72_code (3 : Nat) (Option.none : Option Jvm.ClassFile.FieldType)) ∈ lw_all := lw_g (lw_at lw_m6 61 rfl) rfl
theorem q1427 : (Jvm.Cond.methodLink "WoodState" (523 : Nat) ({ cls := "WoodState", name := "judgeRow", desc := "()V" } : Jvm.MethodName)) ∈ lw_all := lw_g (lw_at lw_m6 62 rfl) rfl
theorem q1428 : (Jvm.Cond.privateMethod ({ cls := "WoodState", name := "judgeRow", desc := "()V" } : Jvm.MethodName)) ∈ lw_tbl := lw_at lw_m6 63 rfl
theorem q1429 : (Jvm.Cond.instanceMethod ({ cls := "WoodState", name := "judgeRow", desc := "()V" } : Jvm.MethodName)) ∈ lw_all := lw_g (lw_at lw_m6 64 rfl) rfl
theorem q1430 : (Jvm.Cond.code ({ cls := "WoodState", name := "judgeRow", desc := "()V" } : Jvm.MethodName) prog_1_method_71_code (7 : Nat) (Option.none : Option Jvm.ClassFile.FieldType)) ∈ lw_all := lw_g (lw_at lw_m6 65 rfl) rfl
theorem q1431 : (Jvm.Cond.methodLink "WoodState" (486 : Nat) ({ cls := "WoodState", name := "isAllowed", desc := "()Z" } : Jvm.MethodName)) ∈ lw_all := lw_g (lw_at lw_m6 66 rfl) rfl
theorem q1432 : (Jvm.Cond.privateMethod ({ cls := "WoodState", name := "isAllowed", desc := "()Z" } : Jvm.MethodName)) ∈ lw_tbl := lw_at lw_m6 67 rfl
theorem q1433 : (Jvm.Cond.instanceMethod ({ cls := "WoodState", name := "isAllowed", desc := "()Z" } : Jvm.MethodName)) ∈ lw_all := lw_g (lw_at lw_m6 68 rfl) rfl
theorem q1434 : (Jvm.Cond.code ({ cls := "WoodState", name := "isAllowed", desc := "()Z" } : Jvm.MethodName) prog_1_method_66_code (3 : Nat) (Option.some Jvm.ClassFile.FieldType.boolean)) ∈ lw_all := lw_g (lw_at lw_m6 69 rfl) rfl
theorem q1435 : (Jvm.Cond.methodLink "WoodState" (469 : Nat) ({ cls := "WoodState", name := "fits", desc := "(II)Z" } : Jvm.MethodName)) ∈ lw_all := lw_g (lw_at lw_m6 70 rfl) rfl
theorem q1436 : (Jvm.Cond.privateMethod ({ cls := "WoodState", name := "fits", desc := "(II)Z" } : Jvm.MethodName)) ∈ lw_tbl := lw_at lw_m6 71 rfl
theorem q1437 : (Jvm.Cond.instanceMethod ({ cls := "WoodState", name := "fits", desc := "(II)Z" } : Jvm.MethodName)) ∈ lw_all := lw_g (lw_at lw_m6 72 rfl) rfl
theorem q1438 : (Jvm.Cond.code ({ cls := "WoodState", name := "fits", desc := "(II)Z" } : Jvm.MethodName) prog_1_method_64_code (5 : Nat) (Option.some Jvm.ClassFile.FieldType.boolean)) ∈ lw_all := lw_g (lw_at lw_m6 73 rfl) rfl
theorem q1439 : (Jvm.Cond.methodLink "WoodState" (472 : Nat) ({ cls := "WoodState", name := "isWithin", desc := "(I)Z" } : Jvm.MethodName)) ∈ lw_all := lw_g (lw_at lw_m6 74 rfl) rfl
theorem q1440 : (Jvm.Cond.privateMethod ({ cls := "WoodState", name := "isWithin", desc := "(I)Z" } : Jvm.MethodName)) ∈ lw_tbl := lw_at lw_m6 75 rfl
theorem q1441 : (Jvm.Cond.instanceMethod ({ cls := "WoodState", name := "isWithin", desc := "(I)Z" } : Jvm.MethodName)) ∈ lw_all := lw_g (lw_at lw_m6 76 rfl) rfl
theorem q1442 : (Jvm.Cond.code ({ cls := "WoodState", name := "isWithin", desc := "(I)Z" } : Jvm.MethodName) prog_1_method_65_code (6 : Nat) (Option.some Jvm.ClassFile.FieldType.boolean)) ∈ lw_all := lw_g (lw_at lw_m6 77 rfl) rfl
theorem q1443 : (Jvm.Cond.constantLong "WoodState" (467 : Nat) (10 : Int64)) ∈ lw_all := lw_g (lw_at lw_m6 78 rfl) rfl
theorem q1444 : (Jvm.Cond.methodLink "WoodState" (490 : Nat) ({ cls := "WoodState", name := "leastOf", desc := "()J" } : Jvm.MethodName)) ∈ lw_all := lw_g (lw_at lw_m6 79 rfl) rfl
theorem q1445 : (Jvm.Cond.privateMethod ({ cls := "WoodState", name := "leastOf", desc := "()J" } : Jvm.MethodName)) ∈ lw_tbl := lw_at lw_m6 80 rfl
theorem q1446 : (Jvm.Cond.instanceMethod ({ cls := "WoodState", name := "leastOf", desc := "()J" } : Jvm.MethodName)) ∈ lw_all := lw_g (lw_at lw_m6 81 rfl) rfl
theorem q1447 : (Jvm.Cond.code ({ cls := "WoodState", name := "leastOf", desc := "()J" } : Jvm.MethodName) prog_1_method_68_code (4 : Nat) (Option.some Jvm.ClassFile.FieldType.long)) ∈ lw_all := lw_g (lw_at lw_m6 82 rfl) rfl
theorem q1448 : (Jvm.Cond.constantLong "WoodState" (477 : Nat) (9223372036854775807 : Int64)) ∈ lw_all := lw_g (lw_at lw_m6 83 rfl) rfl
theorem q1449 : (Jvm.Cond.methodLink "WoodState" (479 : Nat) ({ cls := "WoodState", name := "woodOf", desc := "(I)J" } : Jvm.MethodName)) ∈ lw_all := lw_g (lw_at lw_m6 84 rfl) rfl
theorem q1450 : (Jvm.Cond.privateMethod ({ cls := "WoodState", name := "woodOf", desc := "(I)J" } : Jvm.MethodName)) ∈ lw_tbl := lw_at lw_m6 85 rfl
theorem q1451 : (Jvm.Cond.instanceMethod ({ cls := "WoodState", name := "woodOf", desc := "(I)J" } : Jvm.MethodName)) ∈ lw_all := lw_g (lw_at lw_m6 86 rfl) rfl
theorem q1452 : (Jvm.Cond.code ({ cls := "WoodState", name := "woodOf", desc := "(I)J" } : Jvm.MethodName) prog_1_method_67_code (5 : Nat) (Option.some Jvm.ClassFile.FieldType.long)) ∈ lw_all := lw_g (lw_at lw_m6 87 rfl) rfl
theorem q1453 : (Jvm.Cond.methodLink "WoodState" (494 : Nat) ({ cls := "WoodState", name := "allOf", desc := "()J" } : Jvm.MethodName)) ∈ lw_all := lw_g (lw_at lw_m6 88 rfl) rfl
theorem q1454 : (Jvm.Cond.privateMethod ({ cls := "WoodState", name := "allOf", desc := "()J" } : Jvm.MethodName)) ∈ lw_tbl := lw_at lw_m6 89 rfl
theorem q1455 : (Jvm.Cond.instanceMethod ({ cls := "WoodState", name := "allOf", desc := "()J" } : Jvm.MethodName)) ∈ lw_all := lw_g (lw_at lw_m6 90 rfl) rfl
theorem q1456 : (Jvm.Cond.code ({ cls := "WoodState", name := "allOf", desc := "()J" } : Jvm.MethodName) prog_1_method_69_code (4 : Nat) (Option.some Jvm.ClassFile.FieldType.long)) ∈ lw_all := lw_g (lw_at lw_m6 91 rfl) rfl
theorem q1457 : (Jvm.Cond.methodLink "WoodState" (501 : Nat) ({ cls := "WoodState", name := "movedOf", desc := "()I" } : Jvm.MethodName)) ∈ lw_all := lw_g (lw_at lw_m6 92 rfl) rfl
theorem q1458 : (Jvm.Cond.privateMethod ({ cls := "WoodState", name := "movedOf", desc := "()I" } : Jvm.MethodName)) ∈ lw_tbl := lw_at lw_m6 93 rfl
theorem q1459 : (Jvm.Cond.instanceMethod ({ cls := "WoodState", name := "movedOf", desc := "()I" } : Jvm.MethodName)) ∈ lw_all := lw_g (lw_at lw_m6 94 rfl) rfl
theorem q1460 : (Jvm.Cond.code ({ cls := "WoodState", name := "movedOf", desc := "()I" } : Jvm.MethodName) prog_1_method_70_code (5 : Nat) (Option.some Jvm.ClassFile.FieldType.int)) ∈ lw_all := lw_g (lw_at lw_m6 95 rfl) rfl
theorem q1461 : (Jvm.Cond.methodLink "WoodState" (517 : Nat) ({ cls := "java/lang/System", name := "arraycopy", desc := "(Ljava/lang/Object;ILjava/lang/Object;II)V" } : Jvm.MethodName)) ∈ lw_all := lw_g (lw_at lw_m6 96 rfl) rfl
theorem q1462 : (Jvm.Cond.methodLink "WoodState" (542 : Nat) ({ cls := "WoodState", name := "keep", desc := "(I)V" } : Jvm.MethodName)) ∈ lw_all := lw_g (lw_at lw_m6 97 rfl) rfl
theorem q1463 : (Jvm.Cond.privateMethod ({ cls := "WoodState", name := "keep", desc := "(I)V" } : Jvm.MethodName)) ∈ lw_tbl := lw_at lw_m6 98 rfl
theorem q1464 : (Jvm.Cond.instanceMethod ({ cls := "WoodState", name := "keep", desc := "(I)V" } : Jvm.MethodName)) ∈ lw_all := lw_g (lw_at lw_m6 99 rfl) rfl
theorem q1465 : (Jvm.Cond.code ({ cls := "WoodState", name := "keep", desc := "(I)V" } : Jvm.MethodName) prog_1_method_74_code (3 : Nat) (Option.none : Option Jvm.ClassFile.FieldType)) ∈ lw_all := lw_g (lw_at lw_m6 100 rfl) rfl
theorem q1467 : (Jvm.Cond.instanceMethod ({ cls := "WoodState", name := "anew", desc := "(IIJ)I" } : Jvm.MethodName)) ∈ lw_all := lw_g (lw_at lw_m6 102 rfl) rfl
theorem q1468 : (Jvm.Cond.selects "WoodState" ({ cls := "WoodState", name := "anew", desc := "(IIJ)I" } : Jvm.MethodName) ({ cls := "WoodState", name := "anew", desc := "(IIJ)I" } : Jvm.MethodName)) ∈ lw_all := lw_g (lw_at lw_m6 103 rfl) rfl
theorem q1469 : (Jvm.Cond.codeWith ({ cls := "WoodState", name := "anew", desc := "(IIJ)I" } : Jvm.MethodName) prog_1_method_78_code (6 : Nat) (Option.some Jvm.ClassFile.FieldType.int) [((0 : Nat), (7 : Nat), (8 : Nat), (56 : Nat))]) ∈ lw_all := lw_g (lw_at lw_m6 104 rfl) rfl
theorem q1470 : (Jvm.Cond.methodLink "WoodState" (549 : Nat) ({ cls := "WoodState", name := "anewTold", desc := "(IIJ)I" } : Jvm.MethodName)) ∈ lw_all := lw_g (lw_at lw_m6 105 rfl) rfl
theorem q1471 : (Jvm.Cond.privateMethod ({ cls := "WoodState", name := "anewTold", desc := "(IIJ)I" } : Jvm.MethodName)) ∈ lw_tbl := lw_at lw_m6 106 rfl
theorem q1472 : (Jvm.Cond.instanceMethod ({ cls := "WoodState", name := "anewTold", desc := "(IIJ)I" } : Jvm.MethodName)) ∈ lw_all := lw_g (lw_at lw_m6 107 rfl) rfl
theorem q1473 : (Jvm.Cond.code ({ cls := "WoodState", name := "anewTold", desc := "(IIJ)I" } : Jvm.MethodName) prog_1_method_77_code (5 : Nat) (Option.some Jvm.ClassFile.FieldType.int)) ∈ lw_all := lw_g (lw_at lw_m6 108 rfl) rfl
theorem q1475 : (Jvm.Cond.instanceMethod ({ cls := "WoodState", name := "planned", desc := "(I)I" } : Jvm.MethodName)) ∈ lw_all := lw_g (lw_at lw_m6 110 rfl) rfl
theorem q1476 : (Jvm.Cond.selects "WoodState" ({ cls := "WoodState", name := "planned", desc := "(I)I" } : Jvm.MethodName) ({ cls := "WoodState", name := "planned", desc := "(I)I" } : Jvm.MethodName)) ∈ lw_all := lw_g (lw_at lw_m6 111 rfl) rfl
theorem q1477 : (Jvm.Cond.code ({ cls := "WoodState", name := "planned", desc := "(I)I" } : Jvm.MethodName) prog_1_method_79_code (2 : Nat) (Option.some Jvm.ClassFile.FieldType.int)) ∈ lw_all := lw_g (lw_at lw_m6 112 rfl) rfl
theorem q1479 : (Jvm.Cond.instanceMethod ({ cls := "WoodState", name := "judge", desc := "(II)I" } : Jvm.MethodName)) ∈ lw_all := lw_g (lw_at lw_m6 114 rfl) rfl
theorem q1480 : (Jvm.Cond.selects "WoodState" ({ cls := "WoodState", name := "judge", desc := "(II)I" } : Jvm.MethodName) ({ cls := "WoodState", name := "judge", desc := "(II)I" } : Jvm.MethodName)) ∈ lw_all := lw_g (lw_at lw_m6 115 rfl) rfl
theorem q1481 : (Jvm.Cond.codeWith ({ cls := "WoodState", name := "judge", desc := "(II)I" } : Jvm.MethodName) prog_1_method_82_code (4 : Nat) (Option.some Jvm.ClassFile.FieldType.int) [((0 : Nat), (6 : Nat), (7 : Nat), (56 : Nat))]) ∈ lw_all := lw_g (lw_at lw_m6 116 rfl) rfl
theorem q1482 : (Jvm.Cond.methodLink "WoodState" (556 : Nat) ({ cls := "WoodState", name := "judgeTold", desc := "(II)I" } : Jvm.MethodName)) ∈ lw_all := lw_g (lw_at lw_m6 117 rfl) rfl
theorem q1483 : (Jvm.Cond.privateMethod ({ cls := "WoodState", name := "judgeTold", desc := "(II)I" } : Jvm.MethodName)) ∈ lw_tbl := lw_at lw_m6 118 rfl
theorem q1484 : (Jvm.Cond.instanceMethod ({ cls := "WoodState", name := "judgeTold", desc := "(II)I" } : Jvm.MethodName)) ∈ lw_all := lw_g (lw_at lw_m6 119 rfl) rfl
theorem q1485 : (Jvm.Cond.code ({ cls := "WoodState", name := "judgeTold", desc := "(II)I" } : Jvm.MethodName) prog_1_method_81_code (3 : Nat) (Option.some Jvm.ClassFile.FieldType.int)) ∈ lw_all := lw_g (lw_at lw_m6 120 rfl) rfl
theorem q1486 : (Jvm.Cond.methodLink "WoodState" (553 : Nat) ({ cls := "WoodState", name := "takeRow", desc := "(II)Z" } : Jvm.MethodName)) ∈ lw_all := lw_g (lw_at lw_m6 121 rfl) rfl
theorem q1487 : (Jvm.Cond.privateMethod ({ cls := "WoodState", name := "takeRow", desc := "(II)Z" } : Jvm.MethodName)) ∈ lw_tbl := lw_at lw_m6 122 rfl
theorem q1488 : (Jvm.Cond.instanceMethod ({ cls := "WoodState", name := "takeRow", desc := "(II)Z" } : Jvm.MethodName)) ∈ lw_all := lw_g (lw_at lw_m6 123 rfl) rfl
theorem q1489 : (Jvm.Cond.code ({ cls := "WoodState", name := "takeRow", desc := "(II)Z" } : Jvm.MethodName) prog_1_method_80_code (5 : Nat) (Option.some Jvm.ClassFile.FieldType.boolean)) ∈ lw_all := lw_g (lw_at lw_m6 124 rfl) rfl
theorem q1491 : (Jvm.Cond.instanceMethod ({ cls := "WoodState", name := "worth", desc := "(IIZ)J" } : Jvm.MethodName)) ∈ lw_all := lw_g (lw_at lw_m6 126 rfl) rfl
theorem q1492 : (Jvm.Cond.selects "WoodState" ({ cls := "WoodState", name := "worth", desc := "(IIZ)J" } : Jvm.MethodName) ({ cls := "WoodState", name := "worth", desc := "(IIZ)J" } : Jvm.MethodName)) ∈ lw_all := lw_g (lw_at lw_m6 127 rfl) rfl
theorem q1493 : (Jvm.Cond.codeWith ({ cls := "WoodState", name := "worth", desc := "(IIZ)J" } : Jvm.MethodName) prog_1_method_84_code (5 : Nat) (Option.some Jvm.ClassFile.FieldType.long) [((0 : Nat), (7 : Nat), (8 : Nat), (56 : Nat))]) ∈ lw_all := lw_g (lw_at lw_m6 128 rfl) rfl
theorem q1494 : (Jvm.Cond.methodLink "WoodState" (559 : Nat) ({ cls := "WoodState", name := "worthTold", desc := "(IIZ)J" } : Jvm.MethodName)) ∈ lw_all := lw_g (lw_at lw_m6 129 rfl) rfl
theorem q1495 : (Jvm.Cond.privateMethod ({ cls := "WoodState", name := "worthTold", desc := "(IIZ)J" } : Jvm.MethodName)) ∈ lw_tbl := lw_at lw_m6 130 rfl
theorem q1496 : (Jvm.Cond.instanceMethod ({ cls := "WoodState", name := "worthTold", desc := "(IIZ)J" } : Jvm.MethodName)) ∈ lw_all := lw_g (lw_at lw_m6 131 rfl) rfl
theorem q1497 : (Jvm.Cond.code ({ cls := "WoodState", name := "worthTold", desc := "(IIZ)J" } : Jvm.MethodName) prog_1_method_83_code (4 : Nat) (Option.some Jvm.ClassFile.FieldType.long)) ∈ lw_all := lw_g (lw_at lw_m6 132 rfl) rfl
theorem q1499 : (Jvm.Cond.instanceMethod ({ cls := "WoodState", name := "attempt", desc := "(II)J" } : Jvm.MethodName)) ∈ lw_all := lw_g (lw_at lw_m6 134 rfl) rfl
theorem q1500 : (Jvm.Cond.selects "WoodState" ({ cls := "WoodState", name := "attempt", desc := "(II)J" } : Jvm.MethodName) ({ cls := "WoodState", name := "attempt", desc := "(II)J" } : Jvm.MethodName)) ∈ lw_all := lw_g (lw_at lw_m6 135 rfl) rfl
theorem q1501 : (Jvm.Cond.code ({ cls := "WoodState", name := "attempt", desc := "(II)J" } : Jvm.MethodName) prog_1_method_88_code (4 : Nat) (Option.some Jvm.ClassFile.FieldType.long)) ∈ lw_all := lw_g (lw_at lw_m6 136 rfl) rfl
theorem q1502 : (Jvm.Cond.constantLong "WoodState" (571 : Nat) (6 : Int64)) ∈ lw_all := lw_g (lw_at lw_m6 137 rfl) rfl
theorem q1503 : (Jvm.Cond.constantLong "WoodState" (573 : Nat) (30 : Int64)) ∈ lw_all := lw_g (lw_at lw_m6 138 rfl) rfl
theorem q1504 : (Jvm.Cond.methodLink "WoodState" (575 : Nat) ({ cls := "WoodState$Forest", name := "as", desc := "(LWoodState$Forest;)V" } : Jvm.MethodName)) ∈ lw_all := lw_g (lw_at lw_m6 139 rfl) rfl
theorem q1549 : (Jvm.Cond.methodLink "WoodState" (579 : Nat) ({ cls := "WoodState", name := "outcome", desc := "(I)J" } : Jvm.MethodName)) ∈ lw_all := lw_g (lw_at lw_m6 184 rfl) rfl
theorem q1550 : (Jvm.Cond.privateMethod ({ cls := "WoodState", name := "outcome", desc := "(I)J" } : Jvm.MethodName)) ∈ lw_tbl := lw_at lw_m6 185 rfl
theorem q1551 : (Jvm.Cond.instanceMethod ({ cls := "WoodState", name := "outcome", desc := "(I)J" } : Jvm.MethodName)) ∈ lw_all := lw_g (lw_at lw_m6 186 rfl) rfl
theorem q1552 : (Jvm.Cond.code ({ cls := "WoodState", name := "outcome", desc := "(I)J" } : Jvm.MethodName) prog_1_method_87_code (2 : Nat) (Option.some Jvm.ClassFile.FieldType.long)) ∈ lw_all := lw_g (lw_at lw_m6 187 rfl) rfl
theorem q1553 : (Jvm.Cond.methodLink "WoodState" (563 : Nat) ({ cls := "WoodState", name := "allWood", desc := "(LWoodState$Forest;)J" } : Jvm.MethodName)) ∈ lw_all := lw_g (lw_at lw_m6 188 rfl) rfl
theorem q1554 : (Jvm.Cond.static ({ cls := "WoodState", name := "allWood", desc := "(LWoodState$Forest;)J" } : Jvm.MethodName)) ∈ lw_all := lw_g (lw_at lw_m6 189 rfl) rfl
theorem q1555 : (Jvm.Cond.code ({ cls := "WoodState", name := "allWood", desc := "(LWoodState$Forest;)J" } : Jvm.MethodName) prog_1_method_86_code (4 : Nat) (Option.some Jvm.ClassFile.FieldType.long)) ∈ lw_all := lw_g (lw_at lw_m6 190 rfl) rfl
theorem q1556 : (Jvm.Cond.methodLink "WoodState" (567 : Nat) ({ cls := "WoodState", name := "sumOf", desc := "([II)J" } : Jvm.MethodName)) ∈ lw_all := lw_g (lw_at lw_m6 191 rfl) rfl
theorem q1557 : (Jvm.Cond.static ({ cls := "WoodState", name := "sumOf", desc := "([II)J" } : Jvm.MethodName)) ∈ lw_all := lw_g (lw_at lw_m6 192 rfl) rfl
theorem q1558 : (Jvm.Cond.code ({ cls := "WoodState", name := "sumOf", desc := "([II)J" } : Jvm.MethodName) prog_1_method_85_code (5 : Nat) (Option.some Jvm.ClassFile.FieldType.long)) ∈ lw_all := lw_g (lw_at lw_m6 193 rfl) rfl
theorem q1560 : (Jvm.Cond.instanceMethod ({ cls := "WoodState", name := "image", desc := "()I" } : Jvm.MethodName)) ∈ lw_all := lw_g (lw_at lw_m6 195 rfl) rfl
theorem q1561 : (Jvm.Cond.selects "WoodState" ({ cls := "WoodState", name := "image", desc := "()I" } : Jvm.MethodName) ({ cls := "WoodState", name := "image", desc := "()I" } : Jvm.MethodName)) ∈ lw_all := lw_g (lw_at lw_m6 196 rfl) rfl
theorem q1562 : (Jvm.Cond.code ({ cls := "WoodState", name := "image", desc := "()I" } : Jvm.MethodName) prog_1_method_89_code (1 : Nat) (Option.some Jvm.ClassFile.FieldType.int)) ∈ lw_all := lw_g (lw_at lw_m6 197 rfl) rfl
theorem q1564 : (Jvm.Cond.instanceMethod ({ cls := "WoodState", name := "back", desc := "()I" } : Jvm.MethodName)) ∈ lw_all := lw_g (lw_at lw_m6 199 rfl) rfl
theorem q1565 : (Jvm.Cond.selects "WoodState" ({ cls := "WoodState", name := "back", desc := "()I" } : Jvm.MethodName) ({ cls := "WoodState", name := "back", desc := "()I" } : Jvm.MethodName)) ∈ lw_all := lw_g (lw_at lw_m6 200 rfl) rfl
theorem q1566 : (Jvm.Cond.code ({ cls := "WoodState", name := "back", desc := "()I" } : Jvm.MethodName) prog_1_method_90_code (1 : Nat) (Option.some Jvm.ClassFile.FieldType.int)) ∈ lw_all := lw_g (lw_at lw_m6 201 rfl) rfl
theorem q1568 : (Jvm.Cond.instanceMethod ({ cls := "WoodState", name := "tally", desc := "(I)I" } : Jvm.MethodName)) ∈ lw_all := lw_g (lw_at lw_m6 203 rfl) rfl
theorem q1569 : (Jvm.Cond.selects "WoodState" ({ cls := "WoodState", name := "tally", desc := "(I)I" } : Jvm.MethodName) ({ cls := "WoodState", name := "tally", desc := "(I)I" } : Jvm.MethodName)) ∈ lw_all := lw_g (lw_at lw_m6 204 rfl) rfl
theorem q1570 : (Jvm.Cond.code ({ cls := "WoodState", name := "tally", desc := "(I)I" } : Jvm.MethodName) prog_1_method_93_code (2 : Nat) (Option.some Jvm.ClassFile.FieldType.int)) ∈ lw_all := lw_g (lw_at lw_m6 205 rfl) rfl
theorem q1571 : (Jvm.Cond.methodLink "WoodState" (588 : Nat) ({ cls := "WoodState", name := "countParcels", desc := "()I" } : Jvm.MethodName)) ∈ lw_all := lw_g (lw_at lw_m6 206 rfl) rfl
theorem q1572 : (Jvm.Cond.privateMethod ({ cls := "WoodState", name := "countParcels", desc := "()I" } : Jvm.MethodName)) ∈ lw_tbl := lw_at lw_m6 207 rfl
theorem q1573 : (Jvm.Cond.instanceMethod ({ cls := "WoodState", name := "countParcels", desc := "()I" } : Jvm.MethodName)) ∈ lw_all := lw_g (lw_at lw_m6 208 rfl) rfl
theorem q1574 : (Jvm.Cond.code ({ cls := "WoodState", name := "countParcels", desc := "()I" } : Jvm.MethodName) prog_1_method_91_code (3 : Nat) (Option.some Jvm.ClassFile.FieldType.int)) ∈ lw_all := lw_g (lw_at lw_m6 209 rfl) rfl
theorem q1575 : (Jvm.Cond.methodLink "WoodState" (591 : Nat) ({ cls := "WoodState", name := "countLate", desc := "()I" } : Jvm.MethodName)) ∈ lw_all := lw_g (lw_at lw_m6 210 rfl) rfl
theorem q1576 : (Jvm.Cond.privateMethod ({ cls := "WoodState", name := "countLate", desc := "()I" } : Jvm.MethodName)) ∈ lw_tbl := lw_at lw_m6 211 rfl
theorem q1577 : (Jvm.Cond.instanceMethod ({ cls := "WoodState", name := "countLate", desc := "()I" } : Jvm.MethodName)) ∈ lw_all := lw_g (lw_at lw_m6 212 rfl) rfl
theorem q1578 : (Jvm.Cond.code ({ cls := "WoodState", name := "countLate", desc := "()I" } : Jvm.MethodName) prog_1_method_92_code (3 : Nat) (Option.some Jvm.ClassFile.FieldType.int)) ∈ lw_all := lw_g (lw_at lw_m6 213 rfl) rfl
theorem q1580 : (Jvm.Cond.instanceMethod ({ cls := "WoodState", name := "lay", desc := "(I)I" } : Jvm.MethodName)) ∈ lw_all := lw_g (lw_at lw_m6 215 rfl) rfl
theorem q1581 : (Jvm.Cond.selects "WoodState" ({ cls := "WoodState", name := "lay", desc := "(I)I" } : Jvm.MethodName) ({ cls := "WoodState", name := "lay", desc := "(I)I" } : Jvm.MethodName)) ∈ lw_all := lw_g (lw_at lw_m6 216 rfl) rfl
theorem q1582 : (Jvm.Cond.code ({ cls := "WoodState", name := "lay", desc := "(I)I" } : Jvm.MethodName) prog_1_method_94_code (3 : Nat) (Option.some Jvm.ClassFile.FieldType.int)) ∈ lw_all := lw_g (lw_at lw_m6 217 rfl) rfl
theorem q1584 : (Jvm.Cond.instanceMethod ({ cls := "WoodState", name := "set", desc := "(II)I" } : Jvm.MethodName)) ∈ lw_all := lw_g (lw_at lw_m6 219 rfl) rfl
theorem q1585 : (Jvm.Cond.selects "WoodState" ({ cls := "WoodState", name := "set", desc := "(II)I" } : Jvm.MethodName) ({ cls := "WoodState", name := "set", desc := "(II)I" } : Jvm.MethodName)) ∈ lw_all := lw_g (lw_at lw_m6 220 rfl) rfl
theorem q1586 : (Jvm.Cond.code ({ cls := "WoodState", name := "set", desc := "(II)I" } : Jvm.MethodName) prog_1_method_95_code (4 : Nat) (Option.some Jvm.ClassFile.FieldType.int)) ∈ lw_all := lw_g (lw_at lw_m6 221 rfl) rfl
theorem q1588 : (Jvm.Cond.instanceMethod ({ cls := "WoodState", name := "tear", desc := "()I" } : Jvm.MethodName)) ∈ lw_all := lw_g (lw_at lw_m6 223 rfl) rfl
theorem q1589 : (Jvm.Cond.selects "WoodState" ({ cls := "WoodState", name := "tear", desc := "()I" } : Jvm.MethodName) ({ cls := "WoodState", name := "tear", desc := "()I" } : Jvm.MethodName)) ∈ lw_all := lw_g (lw_at lw_m6 224 rfl) rfl
theorem q1590 : (Jvm.Cond.code ({ cls := "WoodState", name := "tear", desc := "()I" } : Jvm.MethodName) prog_1_method_96_code (2 : Nat) (Option.some Jvm.ClassFile.FieldType.int)) ∈ lw_all := lw_g (lw_at lw_m6 225 rfl) rfl
theorem q1592 : (Jvm.Cond.instanceMethod ({ cls := "WoodState", name := "row", desc := "(I)I" } : Jvm.MethodName)) ∈ lw_all := lw_g (lw_at lw_m6 227 rfl) rfl
theorem q1593 : (Jvm.Cond.selects "WoodState" ({ cls := "WoodState", name := "row", desc := "(I)I" } : Jvm.MethodName) ({ cls := "WoodState", name := "row", desc := "(I)I" } : Jvm.MethodName)) ∈ lw_all := lw_g (lw_at lw_m6 228 rfl) rfl
theorem q1594 : (Jvm.Cond.code ({ cls := "WoodState", name := "row", desc := "(I)I" } : Jvm.MethodName) prog_1_method_97_code (2 : Nat) (Option.some Jvm.ClassFile.FieldType.int)) ∈ lw_all := lw_g (lw_at lw_m6 229 rfl) rfl
theorem q1596 : (Jvm.Cond.instanceMethod ({ cls := "WoodState", name := "copy", desc := "(III)I" } : Jvm.MethodName)) ∈ lw_all := lw_g (lw_at lw_m6 231 rfl) rfl
theorem q1597 : (Jvm.Cond.selects "WoodState" ({ cls := "WoodState", name := "copy", desc := "(III)I" } : Jvm.MethodName) ({ cls := "WoodState", name := "copy", desc := "(III)I" } : Jvm.MethodName)) ∈ lw_all := lw_g (lw_at lw_m6 232 rfl) rfl
theorem q1598 : (Jvm.Cond.codeWith ({ cls := "WoodState", name := "copy", desc := "(III)I" } : Jvm.MethodName) prog_1_method_98_code (6 : Nat) (Option.some Jvm.ClassFile.FieldType.int) [((0 : Nat), (52 : Nat), (69 : Nat), (416 : Nat)), ((53 : Nat), (68 : Nat), (69 : Nat), (416 : Nat)), ((0 : Nat), (52 : Nat), (78 : Nat), (594 : Nat)), ((53 : Nat), (68 : Nat), (78 : Nat), (594 : Nat))]) ∈ lw_all := lw_g (lw_at lw_m6 233 rfl) rfl
theorem q1599 : (Jvm.Cond.classLink "WoodState" (594 : Nat) "java/lang/NegativeArraySizeException") ∈ lw_all := lw_g (lw_at lw_m6 234 rfl) rfl
theorem q1614 : (Jvm.Cond.instanceMethod ({ cls := "WoodState", name := "status", desc := "(I)I" } : Jvm.MethodName)) ∈ lw_all := lw_g (lw_at lw_m7 9 rfl) rfl
theorem q1615 : (Jvm.Cond.selects "WoodState" ({ cls := "WoodState", name := "status", desc := "(I)I" } : Jvm.MethodName) ({ cls := "WoodState", name := "status", desc := "(I)I" } : Jvm.MethodName)) ∈ lw_all := lw_g (lw_at lw_m7 10 rfl) rfl
theorem q1616 : (Jvm.Cond.code ({ cls := "WoodState", name := "status", desc := "(I)I" } : Jvm.MethodName) prog_1_method_99_code (2 : Nat) (Option.some Jvm.ClassFile.FieldType.int)) ∈ lw_all := lw_g (lw_at lw_m7 11 rfl) rfl
theorem q1617 : (Jvm.Cond.constantLong "WoodState" (596 : Nat) (-8 : Int64)) ∈ lw_all := lw_g (lw_at lw_m7 12 rfl) rfl
theorem q1618 : (Jvm.Cond.constantLong "WoodState" (598 : Nat) (-2 : Int64)) ∈ lw_all := lw_g (lw_at lw_m7 13 rfl) rfl
theorem in_X0 : ∀ w ∈ wsX00, w ∈ lw_all := lw_in wsX00 [622, 624, 626, 628, 630, 632, 634, 636, 638, 640, 642, 644, 646, 648, 650, 652, 654, 656, 658, 660, 662, 664, 666, 668, 670, 672, 674] (by decide +kernel) (by decide +kernel)

theorem q167 : (Jvm.Cond.initialized "WoodState$Forest") ∈ lw_all := lw_g (lw_at lw_m1 2 rfl) rfl
theorem q204 : (Jvm.Cond.instantiable "WoodState$Forest" (46 : Nat)) ∈ lw_all := lw_g (lw_at lw_m1 39 rfl) rfl
theorem q206 : (Jvm.Cond.instanceMethod ({ cls := "WoodState$Forest", name := "<init>", desc := "()V" } : Jvm.MethodName)) ∈ lw_all := lw_g (lw_at lw_m1 41 rfl) rfl
theorem q207 : (Jvm.Cond.code ({ cls := "WoodState$Forest", name := "<init>", desc := "()V" } : Jvm.MethodName) prog_4_method_1_code (2 : Nat) (Option.none : Option Jvm.ClassFile.FieldType)) ∈ lw_all := lw_g (lw_at lw_m1 42 rfl) rfl
theorem q208 : (Jvm.Cond.methodLink "WoodState$Forest" (3 : Nat) ({ cls := "java/lang/Object", name := "<init>", desc := "()V" } : Jvm.MethodName)) ∈ lw_all := lw_g (lw_at lw_m1 43 rfl) rfl
theorem q209 : (Jvm.Cond.classLink "WoodState$Forest" (79 : Nat) "WoodState$Slot") ∈ lw_all := lw_g (lw_at lw_m1 44 rfl) rfl
theorem q211 : (Jvm.Cond.classLink "WoodState$Forest" (89 : Nat) "WoodState$Line") ∈ lw_all := lw_g (lw_at lw_m1 46 rfl) rfl
theorem q214 : (Jvm.Cond.methodLinkNest "WoodState$Forest" (138 : Nat) ({ cls := "WoodState$Slot", name := "<init>", desc := "()V" } : Jvm.MethodName) "WoodState") ∈ lw_tbl := lw_at lw_m1 49 rfl
theorem q220 : (Jvm.Cond.fieldLinkNest "WoodState$Forest" (252 : Nat) "WoodState$Slot" "held" "Ljava/lang/Object;" "WoodState") ∈ lw_tbl := lw_at lw_m1 55 rfl
theorem q227 : (Jvm.Cond.methodLink "WoodState$Forest" (139 : Nat) ({ cls := "WoodState$Forest", name := "measure", desc := "()V" } : Jvm.MethodName)) ∈ lw_all := lw_g (lw_at lw_m1 62 rfl) rfl
theorem q228 : (Jvm.Cond.privateMethod ({ cls := "WoodState$Forest", name := "measure", desc := "()V" } : Jvm.MethodName)) ∈ lw_tbl := lw_at lw_m1 63 rfl
theorem q229 : (Jvm.Cond.instanceMethod ({ cls := "WoodState$Forest", name := "measure", desc := "()V" } : Jvm.MethodName)) ∈ lw_all := lw_g (lw_at lw_m1 64 rfl) rfl
theorem q230 : (Jvm.Cond.code ({ cls := "WoodState$Forest", name := "measure", desc := "()V" } : Jvm.MethodName) prog_4_method_12_code (5 : Nat) (Option.none : Option Jvm.ClassFile.FieldType)) ∈ lw_all := lw_g (lw_at lw_m1 65 rfl) rfl
theorem q231 : (Jvm.Cond.constant "WoodState$Forest" (188 : Nat) (100000000 : Int32)) ∈ lw_all := lw_g (lw_at lw_m1 66 rfl) rfl
theorem q232 : (Jvm.Cond.methodLink "WoodState$Forest" (189 : Nat) ({ cls := "java/lang/Math", name := "min", desc := "(II)I" } : Jvm.MethodName)) ∈ lw_all := lw_g (lw_at lw_m1 67 rfl) rfl
theorem q235 : (Jvm.Cond.fieldLink "WoodState$Forest" (142 : Nat) "WoodState$Forest" "year" "I") ∈ lw_all := lw_g (lw_at lw_m1 70 rfl) rfl
theorem q237 : (Jvm.Cond.fieldLink "WoodState$Forest" (168 : Nat) "WoodState$Forest" "stands" "I") ∈ lw_all := lw_g (lw_at lw_m1 72 rfl) rfl
theorem q239 : (Jvm.Cond.fieldLink "WoodState$Forest" (9 : Nat) "WoodState$Forest" "blocks" "[I") ∈ lw_all := lw_g (lw_at lw_m1 74 rfl) rfl
theorem q241 : (Jvm.Cond.fieldLink "WoodState$Forest" (15 : Nat) "WoodState$Forest" "sites" "[I") ∈ lw_all := lw_g (lw_at lw_m1 76 rfl) rfl
theorem q243 : (Jvm.Cond.fieldLink "WoodState$Forest" (18 : Nat) "WoodState$Forest" "kinds" "[I") ∈ lw_all := lw_g (lw_at lw_m1 78 rfl) rfl
theorem q245 : (Jvm.Cond.fieldLink "WoodState$Forest" (21 : Nat) "WoodState$Forest" "steeps" "[I") ∈ lw_all := lw_g (lw_at lw_m1 80 rfl) rfl
theorem q247 : (Jvm.Cond.fieldLink "WoodState$Forest" (24 : Nat) "WoodState$Forest" "acres" "[I") ∈ lw_all := lw_g (lw_at lw_m1 82 rfl) rfl
theorem q249 : (Jvm.Cond.fieldLink "WoodState$Forest" (27 : Nat) "WoodState$Forest" "ages" "[I") ∈ lw_all := lw_g (lw_at lw_m1 84 rfl) rfl
theorem q251 : (Jvm.Cond.fieldLink "WoodState$Forest" (30 : Nat) "WoodState$Forest" "fulls" "[I") ∈ lw_all := lw_g (lw_at lw_m1 86 rfl) rfl
theorem q253 : (Jvm.Cond.fieldLink "WoodState$Forest" (33 : Nat) "WoodState$Forest" "lying" "[I") ∈ lw_all := lw_g (lw_at lw_m1 88 rfl) rfl
theorem q255 : (Jvm.Cond.fieldLink "WoodState$Forest" (36 : Nat) "WoodState$Forest" "bugs" "[I") ∈ lw_all := lw_g (lw_at lw_m1 90 rfl) rfl
theorem q257 : (Jvm.Cond.fieldLink "WoodState$Forest" (39 : Nat) "WoodState$Forest" "cutIn" "[I") ∈ lw_all := lw_g (lw_at lw_m1 92 rfl) rfl
theorem q259 : (Jvm.Cond.fieldLink "WoodState$Forest" (42 : Nat) "WoodState$Forest" "plantedIn" "[I") ∈ lw_all := lw_g (lw_at lw_m1 94 rfl) rfl
theorem q261 : (Jvm.Cond.fieldLink "WoodState$Forest" (171 : Nat) "WoodState$Forest" "pairs" "I") ∈ lw_all := lw_g (lw_at lw_m1 96 rfl) rfl
theorem q263 : (Jvm.Cond.fieldLink "WoodState$Forest" (45 : Nat) "WoodState$Forest" "pairA" "[I") ∈ lw_all := lw_g (lw_at lw_m1 98 rfl) rfl
theorem q265 : (Jvm.Cond.fieldLink "WoodState$Forest" (48 : Nat) "WoodState$Forest" "pairB" "[I") ∈ lw_all := lw_g (lw_at lw_m1 100 rfl) rfl
theorem q267 : (Jvm.Cond.fieldLink "WoodState$Forest" (51 : Nat) "WoodState$Forest" "seed" "I") ∈ lw_all := lw_g (lw_at lw_m1 102 rfl) rfl
theorem q268 : (Jvm.Cond.fieldLink "WoodState$Forest" (174 : Nat) "WoodState$Forest" "roads" "I") ∈ lw_all := lw_g (lw_at lw_m1 103 rfl) rfl
theorem q270 : (Jvm.Cond.fieldLink "WoodState$Forest" (55 : Nat) "WoodState$Forest" "roadA" "[I") ∈ lw_all := lw_g (lw_at lw_m1 105 rfl) rfl
theorem q272 : (Jvm.Cond.fieldLink "WoodState$Forest" (58 : Nat) "WoodState$Forest" "roadB" "[I") ∈ lw_all := lw_g (lw_at lw_m1 107 rfl) rfl
theorem q274 : (Jvm.Cond.fieldLink "WoodState$Forest" (61 : Nat) "WoodState$Forest" "lengths" "[I") ∈ lw_all := lw_g (lw_at lw_m1 109 rfl) rfl
theorem q276 : (Jvm.Cond.fieldLink "WoodState$Forest" (64 : Nat) "WoodState$Forest" "hauls" "[I") ∈ lw_all := lw_g (lw_at lw_m1 111 rfl) rfl
theorem q278 : (Jvm.Cond.fieldLink "WoodState$Forest" (177 : Nat) "WoodState$Forest" "villages" "I") ∈ lw_all := lw_g (lw_at lw_m1 113 rfl) rfl
theorem q280 : (Jvm.Cond.fieldLink "WoodState$Forest" (67 : Nat) "WoodState$Forest" "homes" "[I") ∈ lw_all := lw_g (lw_at lw_m1 115 rfl) rfl
theorem q282 : (Jvm.Cond.fieldLink "WoodState$Forest" (70 : Nat) "WoodState$Forest" "hearths" "[I") ∈ lw_all := lw_g (lw_at lw_m1 117 rfl) rfl
theorem q284 : (Jvm.Cond.fieldLink "WoodState$Forest" (73 : Nat) "WoodState$Forest" "heads" "[I") ∈ lw_all := lw_g (lw_at lw_m1 119 rfl) rfl
theorem q286 : (Jvm.Cond.fieldLink "WoodState$Forest" (76 : Nat) "WoodState$Forest" "owed" "[I") ∈ lw_all := lw_g (lw_at lw_m1 121 rfl) rfl
theorem q288 : (Jvm.Cond.fieldLink "WoodState$Forest" (81 : Nat) "WoodState$Forest" "slots" "[LWoodState$Slot;") ∈ lw_all := lw_g (lw_at lw_m1 123 rfl) rfl
theorem q290 : (Jvm.Cond.fieldLink "WoodState$Forest" (85 : Nat) "WoodState$Forest" "books" "[J") ∈ lw_all := lw_g (lw_at lw_m1 125 rfl) rfl
theorem q292 : (Jvm.Cond.fieldLink "WoodState$Forest" (162 : Nat) "WoodState$Forest" "lines" "I") ∈ lw_all := lw_g (lw_at lw_m1 127 rfl) rfl
theorem q294 : (Jvm.Cond.fieldLink "WoodState$Forest" (91 : Nat) "WoodState$Forest" "line" "[LWoodState$Line;") ∈ lw_all := lw_g (lw_at lw_m1 129 rfl) rfl
theorem q296 : (Jvm.Cond.fieldLink "WoodState$Forest" (95 : Nat) "WoodState$Forest" "cameIn" "[I") ∈ lw_all := lw_g (lw_at lw_m1 131 rfl) rfl
theorem q298 : (Jvm.Cond.fieldLink "WoodState$Forest" (98 : Nat) "WoodState$Forest" "struckIn" "[I") ∈ lw_all := lw_g (lw_at lw_m1 133 rfl) rfl
theorem q300 : (Jvm.Cond.fieldLink "WoodState$Forest" (165 : Nat) "WoodState$Forest" "orders" "I") ∈ lw_all := lw_g (lw_at lw_m1 135 rfl) rfl
theorem q302 : (Jvm.Cond.fieldLink "WoodState$Forest" (101 : Nat) "WoodState$Forest" "orderStand" "[I") ∈ lw_all := lw_g (lw_at lw_m1 137 rfl) rfl
theorem q304 : (Jvm.Cond.fieldLink "WoodState$Forest" (104 : Nat) "WoodState$Forest" "orderSort" "[I") ∈ lw_all := lw_g (lw_at lw_m1 139 rfl) rfl
theorem q306 : (Jvm.Cond.fieldLink "WoodState$Forest" (107 : Nat) "WoodState$Forest" "orderTold" "[I") ∈ lw_all := lw_g (lw_at lw_m1 141 rfl) rfl
theorem q308 : (Jvm.Cond.fieldLink "WoodState$Forest" (110 : Nat) "WoodState$Forest" "sown" "[I") ∈ lw_all := lw_g (lw_at lw_m1 143 rfl) rfl
theorem q310 : (Jvm.Cond.fieldLink "WoodState$Forest" (113 : Nat) "WoodState$Forest" "winds" "[I") ∈ lw_all := lw_g (lw_at lw_m1 145 rfl) rfl
theorem q312 : (Jvm.Cond.fieldLink "WoodState$Forest" (116 : Nat) "WoodState$Forest" "thieves" "[I") ∈ lw_all := lw_g (lw_at lw_m1 147 rfl) rfl
theorem q314 : (Jvm.Cond.fieldLink "WoodState$Forest" (119 : Nat) "WoodState$Forest" "guards" "[I") ∈ lw_all := lw_g (lw_at lw_m1 149 rfl) rfl
theorem q316 : (Jvm.Cond.fieldLink "WoodState$Forest" (122 : Nat) "WoodState$Forest" "countMany" "[I") ∈ lw_all := lw_g (lw_at lw_m1 151 rfl) rfl
theorem q318 : (Jvm.Cond.fieldLink "WoodState$Forest" (125 : Nat) "WoodState$Forest" "counts" "[I") ∈ lw_all := lw_g (lw_at lw_m1 153 rfl) rfl
theorem q319 : (Jvm.Cond.fieldLink "WoodState$Forest" (128 : Nat) "WoodState$Forest" "oldAs" "I") ∈ lw_all := lw_g (lw_at lw_m1 154 rfl) rfl
theorem q321 : (Jvm.Cond.fieldLink "WoodState$Forest" (131 : Nat) "WoodState$Forest" "isOpen" "[Z") ∈ lw_all := lw_g (lw_at lw_m1 156 rfl) rfl
theorem q322 : (Jvm.Cond.fieldLink "WoodState$Forest" (135 : Nat) "WoodState$Forest" "bugsBefore" "[I") ∈ lw_all := lw_g (lw_at lw_m1 157 rfl) rfl
theorem q323 : (Jvm.Cond.lays "WoodState$Forest" "WoodState$Forest" "year" "I") ∈ lw_all := lw_g (lw_at lw_m1 158 rfl) rfl
theorem q324 : (Jvm.Cond.soleField "WoodState$Forest" "year") ∈ lw_all := lw_g (lw_at lw_m1 159 rfl) rfl
theorem q325 : (Jvm.Cond.lays "WoodState$Forest" "WoodState$Forest" "stands" "I") ∈ lw_all := lw_g (lw_at lw_m1 160 rfl) rfl
theorem q326 : (Jvm.Cond.soleField "WoodState$Forest" "stands") ∈ lw_all := lw_g (lw_at lw_m1 161 rfl) rfl
theorem q327 : (Jvm.Cond.laysFinal "WoodState$Forest" "WoodState$Forest" "blocks" "[I") ∈ lw_all := lw_g (lw_at lw_m1 162 rfl) rfl
theorem q328 : (Jvm.Cond.soleField "WoodState$Forest" "blocks") ∈ lw_all := lw_g (lw_at lw_m1 163 rfl) rfl
theorem q329 : (Jvm.Cond.laysFinal "WoodState$Forest" "WoodState$Forest" "sites" "[I") ∈ lw_all := lw_g (lw_at lw_m1 164 rfl) rfl
theorem q330 : (Jvm.Cond.soleField "WoodState$Forest" "sites") ∈ lw_all := lw_g (lw_at lw_m1 165 rfl) rfl
theorem q331 : (Jvm.Cond.laysFinal "WoodState$Forest" "WoodState$Forest" "kinds" "[I") ∈ lw_all := lw_g (lw_at lw_m1 166 rfl) rfl
theorem q332 : (Jvm.Cond.soleField "WoodState$Forest" "kinds") ∈ lw_all := lw_g (lw_at lw_m1 167 rfl) rfl
theorem q333 : (Jvm.Cond.laysFinal "WoodState$Forest" "WoodState$Forest" "steeps" "[I") ∈ lw_all := lw_g (lw_at lw_m1 168 rfl) rfl
theorem q334 : (Jvm.Cond.soleField "WoodState$Forest" "steeps") ∈ lw_all := lw_g (lw_at lw_m1 169 rfl) rfl
theorem q335 : (Jvm.Cond.laysFinal "WoodState$Forest" "WoodState$Forest" "acres" "[I") ∈ lw_all := lw_g (lw_at lw_m1 170 rfl) rfl
theorem q336 : (Jvm.Cond.soleField "WoodState$Forest" "acres") ∈ lw_all := lw_g (lw_at lw_m1 171 rfl) rfl
theorem q337 : (Jvm.Cond.laysFinal "WoodState$Forest" "WoodState$Forest" "ages" "[I") ∈ lw_all := lw_g (lw_at lw_m1 172 rfl) rfl
theorem q338 : (Jvm.Cond.soleField "WoodState$Forest" "ages") ∈ lw_all := lw_g (lw_at lw_m1 173 rfl) rfl
theorem q339 : (Jvm.Cond.laysFinal "WoodState$Forest" "WoodState$Forest" "fulls" "[I") ∈ lw_all := lw_g (lw_at lw_m1 174 rfl) rfl
theorem q340 : (Jvm.Cond.soleField "WoodState$Forest" "fulls") ∈ lw_all := lw_g (lw_at lw_m1 175 rfl) rfl
theorem q341 : (Jvm.Cond.laysFinal "WoodState$Forest" "WoodState$Forest" "lying" "[I") ∈ lw_all := lw_g (lw_at lw_m1 176 rfl) rfl
theorem q342 : (Jvm.Cond.soleField "WoodState$Forest" "lying") ∈ lw_all := lw_g (lw_at lw_m1 177 rfl) rfl
theorem q343 : (Jvm.Cond.laysFinal "WoodState$Forest" "WoodState$Forest" "bugs" "[I") ∈ lw_all := lw_g (lw_at lw_m1 178 rfl) rfl
theorem q344 : (Jvm.Cond.soleField "WoodState$Forest" "bugs") ∈ lw_all := lw_g (lw_at lw_m1 179 rfl) rfl
theorem q345 : (Jvm.Cond.laysFinal "WoodState$Forest" "WoodState$Forest" "cutIn" "[I") ∈ lw_all := lw_g (lw_at lw_m1 180 rfl) rfl
theorem q346 : (Jvm.Cond.soleField "WoodState$Forest" "cutIn") ∈ lw_all := lw_g (lw_at lw_m1 181 rfl) rfl
theorem q347 : (Jvm.Cond.laysFinal "WoodState$Forest" "WoodState$Forest" "plantedIn" "[I") ∈ lw_all := lw_g (lw_at lw_m1 182 rfl) rfl
theorem q348 : (Jvm.Cond.soleField "WoodState$Forest" "plantedIn") ∈ lw_all := lw_g (lw_at lw_m1 183 rfl) rfl
theorem q349 : (Jvm.Cond.lays "WoodState$Forest" "WoodState$Forest" "pairs" "I") ∈ lw_all := lw_g (lw_at lw_m1 184 rfl) rfl
theorem q350 : (Jvm.Cond.soleField "WoodState$Forest" "pairs") ∈ lw_all := lw_g (lw_at lw_m1 185 rfl) rfl
theorem q351 : (Jvm.Cond.laysFinal "WoodState$Forest" "WoodState$Forest" "pairA" "[I") ∈ lw_all := lw_g (lw_at lw_m1 186 rfl) rfl
theorem q352 : (Jvm.Cond.soleField "WoodState$Forest" "pairA") ∈ lw_all := lw_g (lw_at lw_m1 187 rfl) rfl
theorem q353 : (Jvm.Cond.laysFinal "WoodState$Forest" "WoodState$Forest" "pairB" "[I") ∈ lw_all := lw_g (lw_at lw_m1 188 rfl) rfl
theorem q354 : (Jvm.Cond.soleField "WoodState$Forest" "pairB") ∈ lw_all := lw_g (lw_at lw_m1 189 rfl) rfl
theorem q355 : (Jvm.Cond.lays "WoodState$Forest" "WoodState$Forest" "seed" "I") ∈ lw_all := lw_g (lw_at lw_m1 190 rfl) rfl
theorem q356 : (Jvm.Cond.soleField "WoodState$Forest" "seed") ∈ lw_all := lw_g (lw_at lw_m1 191 rfl) rfl
theorem q357 : (Jvm.Cond.lays "WoodState$Forest" "WoodState$Forest" "roads" "I") ∈ lw_all := lw_g (lw_at lw_m1 192 rfl) rfl
theorem q358 : (Jvm.Cond.soleField "WoodState$Forest" "roads") ∈ lw_all := lw_g (lw_at lw_m1 193 rfl) rfl
theorem q359 : (Jvm.Cond.laysFinal "WoodState$Forest" "WoodState$Forest" "roadA" "[I") ∈ lw_all := lw_g (lw_at lw_m1 194 rfl) rfl
theorem q360 : (Jvm.Cond.soleField "WoodState$Forest" "roadA") ∈ lw_all := lw_g (lw_at lw_m1 195 rfl) rfl
theorem q361 : (Jvm.Cond.laysFinal "WoodState$Forest" "WoodState$Forest" "roadB" "[I") ∈ lw_all := lw_g (lw_at lw_m1 196 rfl) rfl
theorem q362 : (Jvm.Cond.soleField "WoodState$Forest" "roadB") ∈ lw_all := lw_g (lw_at lw_m1 197 rfl) rfl
theorem q363 : (Jvm.Cond.laysFinal "WoodState$Forest" "WoodState$Forest" "lengths" "[I") ∈ lw_all := lw_g (lw_at lw_m1 198 rfl) rfl
theorem q364 : (Jvm.Cond.soleField "WoodState$Forest" "lengths") ∈ lw_all := lw_g (lw_at lw_m1 199 rfl) rfl
theorem q365 : (Jvm.Cond.laysFinal "WoodState$Forest" "WoodState$Forest" "hauls" "[I") ∈ lw_all := lw_g (lw_at lw_m1 200 rfl) rfl
theorem q366 : (Jvm.Cond.soleField "WoodState$Forest" "hauls") ∈ lw_all := lw_g (lw_at lw_m1 201 rfl) rfl
theorem q367 : (Jvm.Cond.lays "WoodState$Forest" "WoodState$Forest" "villages" "I") ∈ lw_all := lw_g (lw_at lw_m1 202 rfl) rfl
theorem q368 : (Jvm.Cond.soleField "WoodState$Forest" "villages") ∈ lw_all := lw_g (lw_at lw_m1 203 rfl) rfl
theorem q369 : (Jvm.Cond.laysFinal "WoodState$Forest" "WoodState$Forest" "homes" "[I") ∈ lw_all := lw_g (lw_at lw_m1 204 rfl) rfl
theorem q370 : (Jvm.Cond.soleField "WoodState$Forest" "homes") ∈ lw_all := lw_g (lw_at lw_m1 205 rfl) rfl
theorem q371 : (Jvm.Cond.laysFinal "WoodState$Forest" "WoodState$Forest" "hearths" "[I") ∈ lw_all := lw_g (lw_at lw_m1 206 rfl) rfl
theorem q372 : (Jvm.Cond.soleField "WoodState$Forest" "hearths") ∈ lw_all := lw_g (lw_at lw_m1 207 rfl) rfl
theorem q373 : (Jvm.Cond.laysFinal "WoodState$Forest" "WoodState$Forest" "heads" "[I") ∈ lw_all := lw_g (lw_at lw_m1 208 rfl) rfl
theorem q374 : (Jvm.Cond.soleField "WoodState$Forest" "heads") ∈ lw_all := lw_g (lw_at lw_m1 209 rfl) rfl
theorem q375 : (Jvm.Cond.laysFinal "WoodState$Forest" "WoodState$Forest" "owed" "[I") ∈ lw_all := lw_g (lw_at lw_m1 210 rfl) rfl
theorem q376 : (Jvm.Cond.soleField "WoodState$Forest" "owed") ∈ lw_all := lw_g (lw_at lw_m1 211 rfl) rfl
theorem q377 : (Jvm.Cond.laysFinal "WoodState$Forest" "WoodState$Forest" "slots" "[LWoodState$Slot;") ∈ lw_all := lw_g (lw_at lw_m1 212 rfl) rfl
theorem q378 : (Jvm.Cond.soleField "WoodState$Forest" "slots") ∈ lw_all := lw_g (lw_at lw_m1 213 rfl) rfl
theorem q379 : (Jvm.Cond.laysFinal "WoodState$Forest" "WoodState$Forest" "books" "[J") ∈ lw_all := lw_g (lw_at lw_m1 214 rfl) rfl
theorem q380 : (Jvm.Cond.soleField "WoodState$Forest" "books") ∈ lw_all := lw_g (lw_at lw_m1 215 rfl) rfl
theorem q381 : (Jvm.Cond.lays "WoodState$Forest" "WoodState$Forest" "lines" "I") ∈ lw_all := lw_g (lw_at lw_m1 216 rfl) rfl
theorem q382 : (Jvm.Cond.soleField "WoodState$Forest" "lines") ∈ lw_all := lw_g (lw_at lw_m1 217 rfl) rfl
theorem q383 : (Jvm.Cond.laysFinal "WoodState$Forest" "WoodState$Forest" "line" "[LWoodState$Line;") ∈ lw_all := lw_g (lw_at lw_m1 218 rfl) rfl
theorem q384 : (Jvm.Cond.soleField "WoodState$Forest" "line") ∈ lw_all := lw_g (lw_at lw_m1 219 rfl) rfl
theorem q385 : (Jvm.Cond.laysFinal "WoodState$Forest" "WoodState$Forest" "cameIn" "[I") ∈ lw_all := lw_g (lw_at lw_m1 220 rfl) rfl
theorem q386 : (Jvm.Cond.soleField "WoodState$Forest" "cameIn") ∈ lw_all := lw_g (lw_at lw_m1 221 rfl) rfl
theorem q387 : (Jvm.Cond.laysFinal "WoodState$Forest" "WoodState$Forest" "struckIn" "[I") ∈ lw_all := lw_g (lw_at lw_m1 222 rfl) rfl
theorem q388 : (Jvm.Cond.soleField "WoodState$Forest" "struckIn") ∈ lw_all := lw_g (lw_at lw_m1 223 rfl) rfl
theorem q389 : (Jvm.Cond.lays "WoodState$Forest" "WoodState$Forest" "orders" "I") ∈ lw_all := lw_g (lw_at lw_m1 224 rfl) rfl
theorem q390 : (Jvm.Cond.soleField "WoodState$Forest" "orders") ∈ lw_all := lw_g (lw_at lw_m1 225 rfl) rfl
theorem q391 : (Jvm.Cond.laysFinal "WoodState$Forest" "WoodState$Forest" "orderStand" "[I") ∈ lw_all := lw_g (lw_at lw_m1 226 rfl) rfl
theorem q392 : (Jvm.Cond.soleField "WoodState$Forest" "orderStand") ∈ lw_all := lw_g (lw_at lw_m1 227 rfl) rfl
theorem q393 : (Jvm.Cond.laysFinal "WoodState$Forest" "WoodState$Forest" "orderSort" "[I") ∈ lw_all := lw_g (lw_at lw_m1 228 rfl) rfl
theorem q394 : (Jvm.Cond.soleField "WoodState$Forest" "orderSort") ∈ lw_all := lw_g (lw_at lw_m1 229 rfl) rfl
theorem q395 : (Jvm.Cond.laysFinal "WoodState$Forest" "WoodState$Forest" "orderTold" "[I") ∈ lw_all := lw_g (lw_at lw_m1 230 rfl) rfl
theorem q396 : (Jvm.Cond.soleField "WoodState$Forest" "orderTold") ∈ lw_all := lw_g (lw_at lw_m1 231 rfl) rfl
theorem q397 : (Jvm.Cond.laysFinal "WoodState$Forest" "WoodState$Forest" "sown" "[I") ∈ lw_all := lw_g (lw_at lw_m1 232 rfl) rfl
theorem q398 : (Jvm.Cond.soleField "WoodState$Forest" "sown") ∈ lw_all := lw_g (lw_at lw_m1 233 rfl) rfl
theorem q399 : (Jvm.Cond.laysFinal "WoodState$Forest" "WoodState$Forest" "winds" "[I") ∈ lw_all := lw_g (lw_at lw_m1 234 rfl) rfl
theorem q400 : (Jvm.Cond.soleField "WoodState$Forest" "winds") ∈ lw_all := lw_g (lw_at lw_m1 235 rfl) rfl
theorem q401 : (Jvm.Cond.laysFinal "WoodState$Forest" "WoodState$Forest" "thieves" "[I") ∈ lw_all := lw_g (lw_at lw_m1 236 rfl) rfl
theorem q402 : (Jvm.Cond.soleField "WoodState$Forest" "thieves") ∈ lw_all := lw_g (lw_at lw_m1 237 rfl) rfl
theorem q403 : (Jvm.Cond.laysFinal "WoodState$Forest" "WoodState$Forest" "guards" "[I") ∈ lw_all := lw_g (lw_at lw_m1 238 rfl) rfl
theorem q404 : (Jvm.Cond.soleField "WoodState$Forest" "guards") ∈ lw_all := lw_g (lw_at lw_m1 239 rfl) rfl
theorem q405 : (Jvm.Cond.laysFinal "WoodState$Forest" "WoodState$Forest" "countMany" "[I") ∈ lw_all := lw_g (lw_at lw_m2 0 rfl) rfl
theorem q406 : (Jvm.Cond.soleField "WoodState$Forest" "countMany") ∈ lw_all := lw_g (lw_at lw_m2 1 rfl) rfl
theorem q407 : (Jvm.Cond.laysFinal "WoodState$Forest" "WoodState$Forest" "counts" "[I") ∈ lw_all := lw_g (lw_at lw_m2 2 rfl) rfl
theorem q408 : (Jvm.Cond.soleField "WoodState$Forest" "counts") ∈ lw_all := lw_g (lw_at lw_m2 3 rfl) rfl
theorem q409 : (Jvm.Cond.lays "WoodState$Forest" "WoodState$Forest" "oldAs" "I") ∈ lw_all := lw_g (lw_at lw_m2 4 rfl) rfl
theorem q410 : (Jvm.Cond.soleField "WoodState$Forest" "oldAs") ∈ lw_all := lw_g (lw_at lw_m2 5 rfl) rfl
theorem q411 : (Jvm.Cond.laysFinal "WoodState$Forest" "WoodState$Forest" "isOpen" "[Z") ∈ lw_all := lw_g (lw_at lw_m2 6 rfl) rfl
theorem q412 : (Jvm.Cond.soleField "WoodState$Forest" "isOpen") ∈ lw_all := lw_g (lw_at lw_m2 7 rfl) rfl
theorem q413 : (Jvm.Cond.laysFinal "WoodState$Forest" "WoodState$Forest" "bugsBefore" "[I") ∈ lw_all := lw_g (lw_at lw_m2 8 rfl) rfl
theorem q414 : (Jvm.Cond.soleField "WoodState$Forest" "bugsBefore") ∈ lw_all := lw_g (lw_at lw_m2 9 rfl) rfl
theorem q415 : (Jvm.Cond.superclass "WoodState$Forest" "java/lang/Object") ∈ lw_all := lw_g (lw_at lw_m2 10 rfl) rfl
theorem q516 : (Jvm.Cond.fieldLinkNest "WoodState$Forest" (195 : Nat) "WoodState$Line" "key" "I" "WoodState") ∈ lw_tbl := lw_at lw_m2 111 rfl
theorem q519 : (Jvm.Cond.fieldLinkNest "WoodState$Forest" (215 : Nat) "WoodState$Line" "says" "LWoodState$Part;" "WoodState") ∈ lw_tbl := lw_at lw_m2 114 rfl
theorem q521 : (Jvm.Cond.fieldLinkNest "WoodState$Forest" (202 : Nat) "WoodState$Line" "when" "LWoodState$Part;" "WoodState") ∈ lw_tbl := lw_at lw_m2 116 rfl
theorem q703 : (Jvm.Cond.privateMethod ({ cls := "WoodState$Forest", name := "areNeighbours", desc := "(II)Z" } : Jvm.MethodName)) ∈ lw_tbl := lw_at lw_m3 58 rfl
theorem q704 : (Jvm.Cond.instanceMethod ({ cls := "WoodState$Forest", name := "areNeighbours", desc := "(II)Z" } : Jvm.MethodName)) ∈ lw_all := lw_g (lw_at lw_m3 59 rfl) rfl
theorem q705 : (Jvm.Cond.code ({ cls := "WoodState$Forest", name := "areNeighbours", desc := "(II)Z" } : Jvm.MethodName) prog_4_method_8_code (4 : Nat) (Option.some Jvm.ClassFile.FieldType.boolean)) ∈ lw_all := lw_g (lw_at lw_m3 60 rfl) rfl
theorem q715 : (Jvm.Cond.privateMethod ({ cls := "WoodState$Forest", name := "wood", desc := "(I)I" } : Jvm.MethodName)) ∈ lw_tbl := lw_at lw_m3 70 rfl
theorem q716 : (Jvm.Cond.instanceMethod ({ cls := "WoodState$Forest", name := "wood", desc := "(I)I" } : Jvm.MethodName)) ∈ lw_all := lw_g (lw_at lw_m3 71 rfl) rfl
theorem q717 : (Jvm.Cond.code ({ cls := "WoodState$Forest", name := "wood", desc := "(I)I" } : Jvm.MethodName) prog_4_method_7_code (2 : Nat) (Option.some Jvm.ClassFile.FieldType.int)) ∈ lw_all := lw_g (lw_at lw_m3 72 rfl) rfl
theorem q718 : (Jvm.Cond.methodLink "WoodState$Forest" (184 : Nat) ({ cls := "WoodState$Forest", name := "woodAt", desc := "(III)I" } : Jvm.MethodName)) ∈ lw_all := lw_g (lw_at lw_m3 73 rfl) rfl
theorem q719 : (Jvm.Cond.privateMethod ({ cls := "WoodState$Forest", name := "woodAt", desc := "(III)I" } : Jvm.MethodName)) ∈ lw_tbl := lw_at lw_m3 74 rfl
theorem q720 : (Jvm.Cond.instanceMethod ({ cls := "WoodState$Forest", name := "woodAt", desc := "(III)I" } : Jvm.MethodName)) ∈ lw_all := lw_g (lw_at lw_m3 75 rfl) rfl
theorem q721 : (Jvm.Cond.code ({ cls := "WoodState$Forest", name := "woodAt", desc := "(III)I" } : Jvm.MethodName) prog_4_method_6_code (4 : Nat) (Option.some Jvm.ClassFile.FieldType.int)) ∈ lw_all := lw_g (lw_at lw_m3 76 rfl) rfl
theorem q722 : (Jvm.Cond.methodLinkNest "WoodState$Forest" (180 : Nat) ({ cls := "WoodState", name := "feetOf", desc := "(III)I" } : Jvm.MethodName) "WoodState") ∈ lw_tbl := lw_at lw_m3 77 rfl
theorem q732 : (Jvm.Cond.privateMethod ({ cls := "WoodState$Forest", name := "isLate", desc := "(I)Z" } : Jvm.MethodName)) ∈ lw_tbl := lw_at lw_m3 87 rfl
theorem q733 : (Jvm.Cond.instanceMethod ({ cls := "WoodState$Forest", name := "isLate", desc := "(I)Z" } : Jvm.MethodName)) ∈ lw_all := lw_g (lw_at lw_m3 88 rfl) rfl
theorem q734 : (Jvm.Cond.code ({ cls := "WoodState$Forest", name := "isLate", desc := "(I)Z" } : Jvm.MethodName) prog_4_method_38_code (2 : Nat) (Option.some Jvm.ClassFile.FieldType.boolean)) ∈ lw_all := lw_g (lw_at lw_m3 89 rfl) rfl
theorem q735 : (Jvm.Cond.methodLink "WoodState$Forest" (232 : Nat) ({ cls := "WoodState$Forest", name := "isBare", desc := "(I)Z" } : Jvm.MethodName)) ∈ lw_all := lw_g (lw_at lw_m3 90 rfl) rfl
theorem q736 : (Jvm.Cond.privateMethod ({ cls := "WoodState$Forest", name := "isBare", desc := "(I)Z" } : Jvm.MethodName)) ∈ lw_tbl := lw_at lw_m3 91 rfl
theorem q737 : (Jvm.Cond.instanceMethod ({ cls := "WoodState$Forest", name := "isBare", desc := "(I)Z" } : Jvm.MethodName)) ∈ lw_all := lw_g (lw_at lw_m3 92 rfl) rfl
theorem q738 : (Jvm.Cond.code ({ cls := "WoodState$Forest", name := "isBare", desc := "(I)Z" } : Jvm.MethodName) prog_4_method_5_code (2 : Nat) (Option.some Jvm.ClassFile.FieldType.boolean)) ∈ lw_all := lw_g (lw_at lw_m3 93 rfl) rfl
theorem q739 : (Jvm.Cond.methodLink "WoodState$Forest" (223 : Nat) ({ cls := "WoodState$Forest", name := "saysNow", desc := "(II)I" } : Jvm.MethodName)) ∈ lw_all := lw_g (lw_at lw_m3 94 rfl) rfl
theorem q740 : (Jvm.Cond.privateMethod ({ cls := "WoodState$Forest", name := "saysNow", desc := "(II)I" } : Jvm.MethodName)) ∈ lw_tbl := lw_at lw_m3 95 rfl
theorem q741 : (Jvm.Cond.instanceMethod ({ cls := "WoodState$Forest", name := "saysNow", desc := "(II)I" } : Jvm.MethodName)) ∈ lw_all := lw_g (lw_at lw_m3 96 rfl) rfl
theorem q742 : (Jvm.Cond.code ({ cls := "WoodState$Forest", name := "saysNow", desc := "(II)I" } : Jvm.MethodName) prog_4_method_17_code (3 : Nat) (Option.some Jvm.ClassFile.FieldType.int)) ∈ lw_all := lw_g (lw_at lw_m3 97 rfl) rfl
theorem q743 : (Jvm.Cond.methodLink "WoodState$Forest" (218 : Nat) ({ cls := "WoodState$Forest", name := "says", desc := "(III)I" } : Jvm.MethodName)) ∈ lw_all := lw_g (lw_at lw_m3 98 rfl) rfl
theorem q744 : (Jvm.Cond.privateMethod ({ cls := "WoodState$Forest", name := "says", desc := "(III)I" } : Jvm.MethodName)) ∈ lw_tbl := lw_at lw_m3 99 rfl
theorem q745 : (Jvm.Cond.instanceMethod ({ cls := "WoodState$Forest", name := "says", desc := "(III)I" } : Jvm.MethodName)) ∈ lw_all := lw_g (lw_at lw_m3 100 rfl) rfl
theorem q746 : (Jvm.Cond.code ({ cls := "WoodState$Forest", name := "says", desc := "(III)I" } : Jvm.MethodName) prog_4_method_16_code (5 : Nat) (Option.some Jvm.ClassFile.FieldType.int)) ∈ lw_all := lw_g (lw_at lw_m3 101 rfl) rfl
theorem q747 : (Jvm.Cond.methodLink "WoodState$Forest" (212 : Nat) ({ cls := "WoodState$Forest", name := "lineFor", desc := "(III)I" } : Jvm.MethodName)) ∈ lw_all := lw_g (lw_at lw_m3 102 rfl) rfl
theorem q748 : (Jvm.Cond.privateMethod ({ cls := "WoodState$Forest", name := "lineFor", desc := "(III)I" } : Jvm.MethodName)) ∈ lw_tbl := lw_at lw_m3 103 rfl
theorem q749 : (Jvm.Cond.instanceMethod ({ cls := "WoodState$Forest", name := "lineFor", desc := "(III)I" } : Jvm.MethodName)) ∈ lw_all := lw_g (lw_at lw_m3 104 rfl) rfl
theorem q750 : (Jvm.Cond.code ({ cls := "WoodState$Forest", name := "lineFor", desc := "(III)I" } : Jvm.MethodName) prog_4_method_15_code (7 : Nat) (Option.some Jvm.ClassFile.FieldType.int)) ∈ lw_all := lw_g (lw_at lw_m3 105 rfl) rfl
theorem q751 : (Jvm.Cond.methodLink "WoodState$Forest" (198 : Nat) ({ cls := "WoodState$Forest", name := "isInForce", desc := "(II)Z" } : Jvm.MethodName)) ∈ lw_all := lw_g (lw_at lw_m3 106 rfl) rfl
theorem q752 : (Jvm.Cond.privateMethod ({ cls := "WoodState$Forest", name := "isInForce", desc := "(II)Z" } : Jvm.MethodName)) ∈ lw_tbl := lw_at lw_m3 107 rfl
theorem q753 : (Jvm.Cond.instanceMethod ({ cls := "WoodState$Forest", name := "isInForce", desc := "(II)Z" } : Jvm.MethodName)) ∈ lw_all := lw_g (lw_at lw_m3 108 rfl) rfl
theorem q754 : (Jvm.Cond.code ({ cls := "WoodState$Forest", name := "isInForce", desc := "(II)Z" } : Jvm.MethodName) prog_4_method_14_code (3 : Nat) (Option.some Jvm.ClassFile.FieldType.boolean)) ∈ lw_all := lw_g (lw_at lw_m3 109 rfl) rfl
theorem q755 : (Jvm.Cond.methodLink "WoodState$Forest" (206 : Nat) ({ cls := "WoodState$Part", name := "worth", desc := "(LWoodState$Forest;II)I" } : Jvm.MethodName)) ∈ lw_all := lw_g (lw_at lw_m3 110 rfl) rfl
theorem q765 : (Jvm.Cond.privateMethod ({ cls := "WoodState$Forest", name := "told", desc := "(II)I" } : Jvm.MethodName)) ∈ lw_tbl := lw_at lw_m3 120 rfl
theorem q766 : (Jvm.Cond.instanceMethod ({ cls := "WoodState$Forest", name := "told", desc := "(II)I" } : Jvm.MethodName)) ∈ lw_all := lw_g (lw_at lw_m3 121 rfl) rfl
theorem q767 : (Jvm.Cond.code ({ cls := "WoodState$Forest", name := "told", desc := "(II)I" } : Jvm.MethodName) prog_4_method_13_code (4 : Nat) (Option.some Jvm.ClassFile.FieldType.int)) ∈ lw_all := lw_g (lw_at lw_m3 122 rfl) rfl
theorem q824 : (Jvm.Cond.privateMethod ({ cls := "WoodState$Forest", name := "between", desc := "(II)I" } : Jvm.MethodName)) ∈ lw_tbl := lw_at lw_m3 179 rfl
theorem q825 : (Jvm.Cond.instanceMethod ({ cls := "WoodState$Forest", name := "between", desc := "(II)I" } : Jvm.MethodName)) ∈ lw_all := lw_g (lw_at lw_m3 180 rfl) rfl
theorem q826 : (Jvm.Cond.code ({ cls := "WoodState$Forest", name := "between", desc := "(II)I" } : Jvm.MethodName) prog_4_method_18_code (3 : Nat) (Option.some Jvm.ClassFile.FieldType.int)) ∈ lw_all := lw_g (lw_at lw_m3 181 rfl) rfl
theorem q827 : (Jvm.Cond.methodLink "WoodState$Forest" (220 : Nat) ({ cls := "java/lang/Math", name := "max", desc := "(II)I" } : Jvm.MethodName)) ∈ lw_all := lw_g (lw_at lw_m3 182 rfl) rfl
theorem q843 : (Jvm.Cond.privateMethod ({ cls := "WoodState$Forest", name := "at", desc := "(I)LWoodState$Lot;" } : Jvm.MethodName)) ∈ lw_tbl := lw_at lw_m3 198 rfl
theorem q844 : (Jvm.Cond.instanceMethod ({ cls := "WoodState$Forest", name := "at", desc := "(I)LWoodState$Lot;" } : Jvm.MethodName)) ∈ lw_all := lw_g (lw_at lw_m3 199 rfl) rfl
theorem q845 : (Jvm.Cond.code ({ cls := "WoodState$Forest", name := "at", desc := "(I)LWoodState$Lot;" } : Jvm.MethodName) prog_4_method_27_code (2 : Nat) (Option.some (Jvm.ClassFile.FieldType.object "WoodState$Lot"))) ∈ lw_all := lw_g (lw_at lw_m3 200 rfl) rfl
theorem q846 : (Jvm.Cond.classLink "WoodState$Forest" (256 : Nat) "WoodState$Lot") ∈ lw_all := lw_g (lw_at lw_m3 201 rfl) rfl
theorem q937 : (Jvm.Cond.privateMethod ({ cls := "WoodState$Forest", name := "lack", desc := "(I)I" } : Jvm.MethodName)) ∈ lw_tbl := lw_at lw_m4 52 rfl
theorem q938 : (Jvm.Cond.instanceMethod ({ cls := "WoodState$Forest", name := "lack", desc := "(I)I" } : Jvm.MethodName)) ∈ lw_all := lw_g (lw_at lw_m4 53 rfl) rfl
theorem q939 : (Jvm.Cond.code ({ cls := "WoodState$Forest", name := "lack", desc := "(I)I" } : Jvm.MethodName) prog_4_method_42_code (3 : Nat) (Option.some Jvm.ClassFile.FieldType.int)) ∈ lw_all := lw_g (lw_at lw_m4 54 rfl) rfl
theorem q940 : (Jvm.Cond.methodLink "WoodState$Forest" (324 : Nat) ({ cls := "WoodState$Forest", name := "grown", desc := "(II)I" } : Jvm.MethodName)) ∈ lw_all := lw_g (lw_at lw_m4 55 rfl) rfl
theorem q941 : (Jvm.Cond.privateMethod ({ cls := "WoodState$Forest", name := "grown", desc := "(II)I" } : Jvm.MethodName)) ∈ lw_tbl := lw_at lw_m4 56 rfl
theorem q942 : (Jvm.Cond.instanceMethod ({ cls := "WoodState$Forest", name := "grown", desc := "(II)I" } : Jvm.MethodName)) ∈ lw_all := lw_g (lw_at lw_m4 57 rfl) rfl
theorem q943 : (Jvm.Cond.code ({ cls := "WoodState$Forest", name := "grown", desc := "(II)I" } : Jvm.MethodName) prog_4_method_41_code (5 : Nat) (Option.some Jvm.ClassFile.FieldType.int)) ∈ lw_all := lw_g (lw_at lw_m4 58 rfl) rfl
theorem q944 : (Jvm.Cond.methodLink "WoodState$Forest" (321 : Nat) ({ cls := "WoodState$Forest", name := "countAt", desc := "(III)I" } : Jvm.MethodName)) ∈ lw_all := lw_g (lw_at lw_m4 59 rfl) rfl
theorem q945 : (Jvm.Cond.privateMethod ({ cls := "WoodState$Forest", name := "countAt", desc := "(III)I" } : Jvm.MethodName)) ∈ lw_tbl := lw_at lw_m4 60 rfl
theorem q946 : (Jvm.Cond.instanceMethod ({ cls := "WoodState$Forest", name := "countAt", desc := "(III)I" } : Jvm.MethodName)) ∈ lw_all := lw_g (lw_at lw_m4 61 rfl) rfl
theorem q947 : (Jvm.Cond.code ({ cls := "WoodState$Forest", name := "countAt", desc := "(III)I" } : Jvm.MethodName) prog_4_method_39_code (4 : Nat) (Option.some Jvm.ClassFile.FieldType.int)) ∈ lw_all := lw_g (lw_at lw_m4 62 rfl) rfl
theorem q949 : (Jvm.Cond.privateMethod ({ cls := "WoodState$Forest", name := "free", desc := "()I" } : Jvm.MethodName)) ∈ lw_tbl := lw_at lw_m4 64 rfl
theorem q950 : (Jvm.Cond.instanceMethod ({ cls := "WoodState$Forest", name := "free", desc := "()I" } : Jvm.MethodName)) ∈ lw_all := lw_g (lw_at lw_m4 65 rfl) rfl
theorem q951 : (Jvm.Cond.code ({ cls := "WoodState$Forest", name := "free", desc := "()I" } : Jvm.MethodName) prog_4_method_26_code (2 : Nat) (Option.some Jvm.ClassFile.FieldType.int)) ∈ lw_all := lw_g (lw_at lw_m4 66 rfl) rfl
theorem q963 : (Jvm.Cond.fieldLink "WoodState$Forest" (265 : Nat) "WoodState$Lot" "feet" "I") ∈ lw_all := lw_g (lw_at lw_m4 78 rfl) rfl
theorem q968 : (Jvm.Cond.fieldLink "WoodState$Forest" (262 : Nat) "WoodState$Lot" "stand" "I") ∈ lw_all := lw_g (lw_at lw_m4 83 rfl) rfl
theorem q973 : (Jvm.Cond.fieldLink "WoodState$Forest" (268 : Nat) "WoodState$Lot" "year" "I") ∈ lw_all := lw_g (lw_at lw_m4 88 rfl) rfl
theorem q981 : (Jvm.Cond.privateMethod ({ cls := "WoodState$Forest", name := "put", desc := "(LWoodState$Lot;II)I" } : Jvm.MethodName)) ∈ lw_tbl := lw_at lw_m4 96 rfl
theorem q982 : (Jvm.Cond.instanceMethod ({ cls := "WoodState$Forest", name := "put", desc := "(LWoodState$Lot;II)I" } : Jvm.MethodName)) ∈ lw_all := lw_g (lw_at lw_m4 97 rfl) rfl
theorem q983 : (Jvm.Cond.code ({ cls := "WoodState$Forest", name := "put", desc := "(LWoodState$Lot;II)I" } : Jvm.MethodName) prog_4_method_28_code (5 : Nat) (Option.some Jvm.ClassFile.FieldType.int)) ∈ lw_all := lw_g (lw_at lw_m4 98 rfl) rfl
theorem q984 : (Jvm.Cond.methodLink "WoodState$Forest" (258 : Nat) ({ cls := "WoodState$Forest", name := "free", desc := "()I" } : Jvm.MethodName)) ∈ lw_all := lw_g (lw_at lw_m4 99 rfl) rfl
theorem q1191 : (Jvm.Cond.privateMethod ({ cls := "WoodState$Forest", name := "whyNot", desc := "(III)I" } : Jvm.MethodName)) ∈ lw_tbl := lw_at lw_m5 66 rfl
theorem q1192 : (Jvm.Cond.instanceMethod ({ cls := "WoodState$Forest", name := "whyNot", desc := "(III)I" } : Jvm.MethodName)) ∈ lw_all := lw_g (lw_at lw_m5 67 rfl) rfl
theorem q1193 : (Jvm.Cond.code ({ cls := "WoodState$Forest", name := "whyNot", desc := "(III)I" } : Jvm.MethodName) prog_4_method_25_code (4 : Nat) (Option.some Jvm.ClassFile.FieldType.int)) ∈ lw_all := lw_g (lw_at lw_m5 68 rfl) rfl
theorem q1194 : (Jvm.Cond.methodLink "WoodState$Forest" (243 : Nat) ({ cls := "WoodState$Forest", name := "whyNotCut", desc := "(I)I" } : Jvm.MethodName)) ∈ lw_all := lw_g (lw_at lw_m5 69 rfl) rfl
theorem q1195 : (Jvm.Cond.privateMethod ({ cls := "WoodState$Forest", name := "whyNotCut", desc := "(I)I" } : Jvm.MethodName)) ∈ lw_tbl := lw_at lw_m5 70 rfl
theorem q1196 : (Jvm.Cond.instanceMethod ({ cls := "WoodState$Forest", name := "whyNotCut", desc := "(I)I" } : Jvm.MethodName)) ∈ lw_all := lw_g (lw_at lw_m5 71 rfl) rfl
theorem q1197 : (Jvm.Cond.code ({ cls := "WoodState$Forest", name := "whyNotCut", desc := "(I)I" } : Jvm.MethodName) prog_4_method_22_code (3 : Nat) (Option.some Jvm.ClassFile.FieldType.int)) ∈ lw_all := lw_g (lw_at lw_m5 72 rfl) rfl
theorem q1198 : (Jvm.Cond.methodLink "WoodState$Forest" (236 : Nat) ({ cls := "WoodState$Forest", name := "toBeCut", desc := "(I)I" } : Jvm.MethodName)) ∈ lw_all := lw_g (lw_at lw_m5 73 rfl) rfl
theorem q1199 : (Jvm.Cond.privateMethod ({ cls := "WoodState$Forest", name := "toBeCut", desc := "(I)I" } : Jvm.MethodName)) ∈ lw_tbl := lw_at lw_m5 74 rfl
theorem q1200 : (Jvm.Cond.instanceMethod ({ cls := "WoodState$Forest", name := "toBeCut", desc := "(I)I" } : Jvm.MethodName)) ∈ lw_all := lw_g (lw_at lw_m5 75 rfl) rfl
theorem q1201 : (Jvm.Cond.code ({ cls := "WoodState$Forest", name := "toBeCut", desc := "(I)I" } : Jvm.MethodName) prog_4_method_20_code (4 : Nat) (Option.some Jvm.ClassFile.FieldType.int)) ∈ lw_all := lw_g (lw_at lw_m5 76 rfl) rfl
theorem q1202 : (Jvm.Cond.methodLink "WoodState$Forest" (229 : Nat) ({ cls := "WoodState$Forest", name := "isOrdered", desc := "(II)Z" } : Jvm.MethodName)) ∈ lw_all := lw_g (lw_at lw_m5 77 rfl) rfl
theorem q1203 : (Jvm.Cond.privateMethod ({ cls := "WoodState$Forest", name := "isOrdered", desc := "(II)Z" } : Jvm.MethodName)) ∈ lw_tbl := lw_at lw_m5 78 rfl
theorem q1204 : (Jvm.Cond.instanceMethod ({ cls := "WoodState$Forest", name := "isOrdered", desc := "(II)Z" } : Jvm.MethodName)) ∈ lw_all := lw_g (lw_at lw_m5 79 rfl) rfl
theorem q1205 : (Jvm.Cond.code ({ cls := "WoodState$Forest", name := "isOrdered", desc := "(II)Z" } : Jvm.MethodName) prog_4_method_19_code (5 : Nat) (Option.some Jvm.ClassFile.FieldType.boolean)) ∈ lw_all := lw_g (lw_at lw_m5 80 rfl) rfl
theorem q1206 : (Jvm.Cond.methodLink "WoodState$Forest" (240 : Nat) ({ cls := "WoodState$Forest", name := "isCutNear", desc := "(I)Z" } : Jvm.MethodName)) ∈ lw_all := lw_g (lw_at lw_m5 81 rfl) rfl
theorem q1207 : (Jvm.Cond.privateMethod ({ cls := "WoodState$Forest", name := "isCutNear", desc := "(I)Z" } : Jvm.MethodName)) ∈ lw_tbl := lw_at lw_m5 82 rfl
theorem q1208 : (Jvm.Cond.instanceMethod ({ cls := "WoodState$Forest", name := "isCutNear", desc := "(I)Z" } : Jvm.MethodName)) ∈ lw_all := lw_g (lw_at lw_m5 83 rfl) rfl
theorem q1209 : (Jvm.Cond.code ({ cls := "WoodState$Forest", name := "isCutNear", desc := "(I)Z" } : Jvm.MethodName) prog_4_method_21_code (7 : Nat) (Option.some Jvm.ClassFile.FieldType.boolean)) ∈ lw_all := lw_g (lw_at lw_m5 84 rfl) rfl
theorem q1210 : (Jvm.Cond.methodLink "WoodState$Forest" (226 : Nat) ({ cls := "WoodState$Forest", name := "otherOf", desc := "(II)I" } : Jvm.MethodName)) ∈ lw_all := lw_g (lw_at lw_m5 85 rfl) rfl
theorem q1211 : (Jvm.Cond.privateMethod ({ cls := "WoodState$Forest", name := "otherOf", desc := "(II)I" } : Jvm.MethodName)) ∈ lw_tbl := lw_at lw_m5 86 rfl
theorem q1212 : (Jvm.Cond.instanceMethod ({ cls := "WoodState$Forest", name := "otherOf", desc := "(II)I" } : Jvm.MethodName)) ∈ lw_all := lw_g (lw_at lw_m5 87 rfl) rfl
theorem q1213 : (Jvm.Cond.code ({ cls := "WoodState$Forest", name := "otherOf", desc := "(II)I" } : Jvm.MethodName) prog_4_method_9_code (3 : Nat) (Option.some Jvm.ClassFile.FieldType.int)) ∈ lw_all := lw_g (lw_at lw_m5 88 rfl) rfl
theorem q1214 : (Jvm.Cond.methodLink "WoodState$Forest" (246 : Nat) ({ cls := "WoodState$Forest", name := "whyNotThin", desc := "(II)I" } : Jvm.MethodName)) ∈ lw_all := lw_g (lw_at lw_m5 89 rfl) rfl
theorem q1215 : (Jvm.Cond.privateMethod ({ cls := "WoodState$Forest", name := "whyNotThin", desc := "(II)I" } : Jvm.MethodName)) ∈ lw_tbl := lw_at lw_m5 90 rfl
theorem q1216 : (Jvm.Cond.instanceMethod ({ cls := "WoodState$Forest", name := "whyNotThin", desc := "(II)I" } : Jvm.MethodName)) ∈ lw_all := lw_g (lw_at lw_m5 91 rfl) rfl
theorem q1217 : (Jvm.Cond.code ({ cls := "WoodState$Forest", name := "whyNotThin", desc := "(II)I" } : Jvm.MethodName) prog_4_method_23_code (3 : Nat) (Option.some Jvm.ClassFile.FieldType.int)) ∈ lw_all := lw_g (lw_at lw_m5 92 rfl) rfl
theorem q1218 : (Jvm.Cond.methodLink "WoodState$Forest" (249 : Nat) ({ cls := "WoodState$Forest", name := "whyNotPlant", desc := "(II)I" } : Jvm.MethodName)) ∈ lw_all := lw_g (lw_at lw_m5 93 rfl) rfl
theorem q1219 : (Jvm.Cond.privateMethod ({ cls := "WoodState$Forest", name := "whyNotPlant", desc := "(II)I" } : Jvm.MethodName)) ∈ lw_tbl := lw_at lw_m5 94 rfl
theorem q1220 : (Jvm.Cond.instanceMethod ({ cls := "WoodState$Forest", name := "whyNotPlant", desc := "(II)I" } : Jvm.MethodName)) ∈ lw_all := lw_g (lw_at lw_m5 95 rfl) rfl
theorem q1221 : (Jvm.Cond.code ({ cls := "WoodState$Forest", name := "whyNotPlant", desc := "(II)I" } : Jvm.MethodName) prog_4_method_24_code (6 : Nat) (Option.some Jvm.ClassFile.FieldType.int)) ∈ lw_all := lw_g (lw_at lw_m5 96 rfl) rfl
theorem q1297 : (Jvm.Cond.privateMethod ({ cls := "WoodState$Forest", name := "close", desc := "()V" } : Jvm.MethodName)) ∈ lw_tbl := lw_at lw_m5 172 rfl
theorem q1298 : (Jvm.Cond.instanceMethod ({ cls := "WoodState$Forest", name := "close", desc := "()V" } : Jvm.MethodName)) ∈ lw_all := lw_g (lw_at lw_m5 173 rfl) rfl
theorem q1299 : (Jvm.Cond.code ({ cls := "WoodState$Forest", name := "close", desc := "()V" } : Jvm.MethodName) prog_4_method_37_code (2 : Nat) (Option.none : Option Jvm.ClassFile.FieldType)) ∈ lw_all := lw_g (lw_at lw_m5 174 rfl) rfl
theorem q1300 : (Jvm.Cond.methodLink "WoodState$Forest" (293 : Nat) ({ cls := "WoodState$Forest", name := "rights", desc := "()V" } : Jvm.MethodName)) ∈ lw_all := lw_g (lw_at lw_m5 175 rfl) rfl
theorem q1301 : (Jvm.Cond.privateMethod ({ cls := "WoodState$Forest", name := "rights", desc := "()V" } : Jvm.MethodName)) ∈ lw_tbl := lw_at lw_m5 176 rfl
theorem q1302 : (Jvm.Cond.instanceMethod ({ cls := "WoodState$Forest", name := "rights", desc := "()V" } : Jvm.MethodName)) ∈ lw_all := lw_g (lw_at lw_m5 177 rfl) rfl
theorem q1303 : (Jvm.Cond.code ({ cls := "WoodState$Forest", name := "rights", desc := "()V" } : Jvm.MethodName) prog_4_method_29_code (6 : Nat) (Option.none : Option Jvm.ClassFile.FieldType)) ∈ lw_all := lw_g (lw_at lw_m5 178 rfl) rfl
theorem q1304 : (Jvm.Cond.methodLink "WoodState$Forest" (269 : Nat) ({ cls := "WoodState$Forest", name := "between", desc := "(II)I" } : Jvm.MethodName)) ∈ lw_all := lw_g (lw_at lw_m5 179 rfl) rfl
theorem q1305 : (Jvm.Cond.classLink "WoodState$Forest" (272 : Nat) "WoodState$Due") ∈ lw_all := lw_g (lw_at lw_m5 180 rfl) rfl
theorem q1307 : (Jvm.Cond.methodLinkNest "WoodState$Forest" (274 : Nat) ({ cls := "WoodState$Due", name := "<init>", desc := "()V" } : Jvm.MethodName) "WoodState") ∈ lw_tbl := lw_at lw_m5 182 rfl
theorem q1312 : (Jvm.Cond.fieldLinkNest "WoodState$Forest" (275 : Nat) "WoodState$Due" "village" "I" "WoodState") ∈ lw_tbl := lw_at lw_m5 187 rfl
theorem q1318 : (Jvm.Cond.methodLink "WoodState$Forest" (278 : Nat) ({ cls := "WoodState$Forest", name := "put", desc := "(LWoodState$Lot;II)I" } : Jvm.MethodName)) ∈ lw_all := lw_g (lw_at lw_m5 193 rfl) rfl
theorem q1319 : (Jvm.Cond.methodLink "WoodState$Forest" (296 : Nat) ({ cls := "WoodState$Forest", name := "doOrder", desc := "(I)V" } : Jvm.MethodName)) ∈ lw_all := lw_g (lw_at lw_m5 194 rfl) rfl
theorem q1320 : (Jvm.Cond.privateMethod ({ cls := "WoodState$Forest", name := "doOrder", desc := "(I)V" } : Jvm.MethodName)) ∈ lw_tbl := lw_at lw_m5 195 rfl
theorem q1321 : (Jvm.Cond.instanceMethod ({ cls := "WoodState$Forest", name := "doOrder", desc := "(I)V" } : Jvm.MethodName)) ∈ lw_all := lw_g (lw_at lw_m5 196 rfl) rfl
theorem q1322 : (Jvm.Cond.code ({ cls := "WoodState$Forest", name := "doOrder", desc := "(I)V" } : Jvm.MethodName) prog_4_method_31_code (4 : Nat) (Option.none : Option Jvm.ClassFile.FieldType)) ∈ lw_all := lw_g (lw_at lw_m5 197 rfl) rfl
theorem q1323 : (Jvm.Cond.methodLink "WoodState$Forest" (283 : Nat) ({ cls := "WoodState$Forest", name := "wood", desc := "(I)I" } : Jvm.MethodName)) ∈ lw_all := lw_g (lw_at lw_m5 198 rfl) rfl
theorem q1324 : (Jvm.Cond.methodLink "WoodState$Forest" (286 : Nat) ({ cls := "WoodState$Forest", name := "become", desc := "(II)V" } : Jvm.MethodName)) ∈ lw_all := lw_g (lw_at lw_m5 199 rfl) rfl
theorem q1325 : (Jvm.Cond.privateMethod ({ cls := "WoodState$Forest", name := "become", desc := "(II)V" } : Jvm.MethodName)) ∈ lw_tbl := lw_at lw_m5 200 rfl
theorem q1326 : (Jvm.Cond.instanceMethod ({ cls := "WoodState$Forest", name := "become", desc := "(II)V" } : Jvm.MethodName)) ∈ lw_all := lw_g (lw_at lw_m5 201 rfl) rfl
theorem q1327 : (Jvm.Cond.code ({ cls := "WoodState$Forest", name := "become", desc := "(II)V" } : Jvm.MethodName) prog_4_method_10_code (3 : Nat) (Option.none : Option Jvm.ClassFile.FieldType)) ∈ lw_all := lw_g (lw_at lw_m5 202 rfl) rfl
theorem q1328 : (Jvm.Cond.methodLink "WoodState$Forest" (290 : Nat) ({ cls := "WoodState$Forest", name := "lead", desc := "(II)V" } : Jvm.MethodName)) ∈ lw_all := lw_g (lw_at lw_m5 203 rfl) rfl
theorem q1329 : (Jvm.Cond.privateMethod ({ cls := "WoodState$Forest", name := "lead", desc := "(II)V" } : Jvm.MethodName)) ∈ lw_tbl := lw_at lw_m5 204 rfl
theorem q1330 : (Jvm.Cond.instanceMethod ({ cls := "WoodState$Forest", name := "lead", desc := "(II)V" } : Jvm.MethodName)) ∈ lw_all := lw_g (lw_at lw_m5 205 rfl) rfl
theorem q1331 : (Jvm.Cond.code ({ cls := "WoodState$Forest", name := "lead", desc := "(II)V" } : Jvm.MethodName) prog_4_method_30_code (4 : Nat) (Option.none : Option Jvm.ClassFile.FieldType)) ∈ lw_all := lw_g (lw_at lw_m5 206 rfl) rfl
theorem q1333 : (Jvm.Cond.methodLinkNest "WoodState$Forest" (282 : Nat) ({ cls := "WoodState$Lot", name := "<init>", desc := "()V" } : Jvm.MethodName) "WoodState") ∈ lw_tbl := lw_at lw_m5 208 rfl
theorem q1338 : (Jvm.Cond.methodLink "WoodState$Forest" (300 : Nat) ({ cls := "WoodState$Forest", name := "blow", desc := "()V" } : Jvm.MethodName)) ∈ lw_all := lw_g (lw_at lw_m5 213 rfl) rfl
theorem q1339 : (Jvm.Cond.privateMethod ({ cls := "WoodState$Forest", name := "blow", desc := "()V" } : Jvm.MethodName)) ∈ lw_tbl := lw_at lw_m5 214 rfl
theorem q1340 : (Jvm.Cond.instanceMethod ({ cls := "WoodState$Forest", name := "blow", desc := "()V" } : Jvm.MethodName)) ∈ lw_all := lw_g (lw_at lw_m5 215 rfl) rfl
theorem q1341 : (Jvm.Cond.code ({ cls := "WoodState$Forest", name := "blow", desc := "()V" } : Jvm.MethodName) prog_4_method_32_code (7 : Nat) (Option.none : Option Jvm.ClassFile.FieldType)) ∈ lw_all := lw_g (lw_at lw_m5 216 rfl) rfl
theorem q1342 : (Jvm.Cond.methodLink "WoodState$Forest" (303 : Nat) ({ cls := "WoodState$Forest", name := "eat", desc := "()V" } : Jvm.MethodName)) ∈ lw_all := lw_g (lw_at lw_m5 217 rfl) rfl
theorem q1343 : (Jvm.Cond.privateMethod ({ cls := "WoodState$Forest", name := "eat", desc := "()V" } : Jvm.MethodName)) ∈ lw_tbl := lw_at lw_m5 218 rfl
theorem q1344 : (Jvm.Cond.instanceMethod ({ cls := "WoodState$Forest", name := "eat", desc := "()V" } : Jvm.MethodName)) ∈ lw_all := lw_g (lw_at lw_m5 219 rfl) rfl
theorem q1345 : (Jvm.Cond.code ({ cls := "WoodState$Forest", name := "eat", desc := "()V" } : Jvm.MethodName) prog_4_method_33_code (5 : Nat) (Option.none : Option Jvm.ClassFile.FieldType)) ∈ lw_all := lw_g (lw_at lw_m5 220 rfl) rfl
theorem q1346 : (Jvm.Cond.methodLink "WoodState$Forest" (306 : Nat) ({ cls := "WoodState$Forest", name := "rot", desc := "()V" } : Jvm.MethodName)) ∈ lw_all := lw_g (lw_at lw_m5 221 rfl) rfl
theorem q1347 : (Jvm.Cond.privateMethod ({ cls := "WoodState$Forest", name := "rot", desc := "()V" } : Jvm.MethodName)) ∈ lw_tbl := lw_at lw_m5 222 rfl
theorem q1348 : (Jvm.Cond.instanceMethod ({ cls := "WoodState$Forest", name := "rot", desc := "()V" } : Jvm.MethodName)) ∈ lw_all := lw_g (lw_at lw_m5 223 rfl) rfl
theorem q1349 : (Jvm.Cond.code ({ cls := "WoodState$Forest", name := "rot", desc := "()V" } : Jvm.MethodName) prog_4_method_34_code (3 : Nat) (Option.none : Option Jvm.ClassFile.FieldType)) ∈ lw_all := lw_g (lw_at lw_m5 224 rfl) rfl
theorem q1350 : (Jvm.Cond.methodLink "WoodState$Forest" (309 : Nat) ({ cls := "WoodState$Forest", name := "grow", desc := "()V" } : Jvm.MethodName)) ∈ lw_all := lw_g (lw_at lw_m5 225 rfl) rfl
theorem q1351 : (Jvm.Cond.privateMethod ({ cls := "WoodState$Forest", name := "grow", desc := "()V" } : Jvm.MethodName)) ∈ lw_tbl := lw_at lw_m5 226 rfl
theorem q1352 : (Jvm.Cond.instanceMethod ({ cls := "WoodState$Forest", name := "grow", desc := "()V" } : Jvm.MethodName)) ∈ lw_all := lw_g (lw_at lw_m5 227 rfl) rfl
theorem q1353 : (Jvm.Cond.code ({ cls := "WoodState$Forest", name := "grow", desc := "()V" } : Jvm.MethodName) prog_4_method_35_code (2 : Nat) (Option.none : Option Jvm.ClassFile.FieldType)) ∈ lw_all := lw_g (lw_at lw_m5 228 rfl) rfl
theorem q1354 : (Jvm.Cond.methodLink "WoodState$Forest" (312 : Nat) ({ cls := "WoodState$Forest", name := "steal", desc := "(I)V" } : Jvm.MethodName)) ∈ lw_all := lw_g (lw_at lw_m5 229 rfl) rfl
theorem q1355 : (Jvm.Cond.privateMethod ({ cls := "WoodState$Forest", name := "steal", desc := "(I)V" } : Jvm.MethodName)) ∈ lw_tbl := lw_at lw_m5 230 rfl
theorem q1356 : (Jvm.Cond.instanceMethod ({ cls := "WoodState$Forest", name := "steal", desc := "(I)V" } : Jvm.MethodName)) ∈ lw_all := lw_g (lw_at lw_m5 231 rfl) rfl
theorem q1357 : (Jvm.Cond.code ({ cls := "WoodState$Forest", name := "steal", desc := "(I)V" } : Jvm.MethodName) prog_4_method_36_code (5 : Nat) (Option.none : Option Jvm.ClassFile.FieldType)) ∈ lw_all := lw_g (lw_at lw_m5 232 rfl) rfl
theorem q1368 : (Jvm.Cond.privateMethod ({ cls := "WoodState$Forest", name := "count", desc := "(II)I" } : Jvm.MethodName)) ∈ lw_tbl := lw_at lw_m6 3 rfl
theorem q1369 : (Jvm.Cond.instanceMethod ({ cls := "WoodState$Forest", name := "count", desc := "(II)I" } : Jvm.MethodName)) ∈ lw_all := lw_g (lw_at lw_m6 4 rfl) rfl
theorem q1370 : (Jvm.Cond.code ({ cls := "WoodState$Forest", name := "count", desc := "(II)I" } : Jvm.MethodName) prog_4_method_40_code (9 : Nat) (Option.some Jvm.ClassFile.FieldType.int)) ∈ lw_all := lw_g (lw_at lw_m6 5 rfl) rfl
theorem q1371 : (Jvm.Cond.constant "WoodState$Forest" (317 : Nat) (2147483647 : Int32)) ∈ lw_all := lw_g (lw_at lw_m6 6 rfl) rfl
theorem q1372 : (Jvm.Cond.methodLink "WoodState$Forest" (318 : Nat) ({ cls := "WoodState$Forest", name := "draw", desc := "(I)I" } : Jvm.MethodName)) ∈ lw_all := lw_g (lw_at lw_m6 7 rfl) rfl
theorem q1373 : (Jvm.Cond.privateMethod ({ cls := "WoodState$Forest", name := "draw", desc := "(I)I" } : Jvm.MethodName)) ∈ lw_tbl := lw_at lw_m6 8 rfl
theorem q1374 : (Jvm.Cond.instanceMethod ({ cls := "WoodState$Forest", name := "draw", desc := "(I)I" } : Jvm.MethodName)) ∈ lw_all := lw_g (lw_at lw_m6 9 rfl) rfl
theorem q1375 : (Jvm.Cond.code ({ cls := "WoodState$Forest", name := "draw", desc := "(I)I" } : Jvm.MethodName) prog_4_method_11_code (2 : Nat) (Option.some Jvm.ClassFile.FieldType.int)) ∈ lw_all := lw_g (lw_at lw_m6 10 rfl) rfl
theorem q1376 : (Jvm.Cond.constant "WoodState$Forest" (187 : Nat) (1103515245 : Int32)) ∈ lw_all := lw_g (lw_at lw_m6 11 rfl) rfl
theorem q1377 : (Jvm.Cond.methodLink "WoodState$Forest" (156 : Nat) ({ cls := "java/lang/System", name := "arraycopy", desc := "(Ljava/lang/Object;ILjava/lang/Object;II)V" } : Jvm.MethodName)) ∈ lw_all := lw_g (lw_at lw_m6 12 rfl) rfl
theorem q1505 : (Jvm.Cond.instanceMethod ({ cls := "WoodState$Forest", name := "as", desc := "(LWoodState$Forest;)V" } : Jvm.MethodName)) ∈ lw_all := lw_g (lw_at lw_m6 140 rfl) rfl
theorem q1506 : (Jvm.Cond.selects "WoodState$Forest" ({ cls := "WoodState$Forest", name := "as", desc := "(LWoodState$Forest;)V" } : Jvm.MethodName) ({ cls := "WoodState$Forest", name := "as", desc := "(LWoodState$Forest;)V" } : Jvm.MethodName)) ∈ lw_all := lw_g (lw_at lw_m6 141 rfl) rfl
theorem q1507 : (Jvm.Cond.code ({ cls := "WoodState$Forest", name := "as", desc := "(LWoodState$Forest;)V" } : Jvm.MethodName) prog_4_method_2_code (3 : Nat) (Option.none : Option Jvm.ClassFile.FieldType)) ∈ lw_all := lw_g (lw_at lw_m6 142 rfl) rfl
theorem q1508 : (Jvm.Cond.methodLink "WoodState$Forest" (145 : Nat) ({ cls := "WoodState$Forest", name := "asStands", desc := "(LWoodState$Forest;)V" } : Jvm.MethodName)) ∈ lw_all := lw_g (lw_at lw_m6 143 rfl) rfl
theorem q1509 : (Jvm.Cond.privateMethod ({ cls := "WoodState$Forest", name := "asStands", desc := "(LWoodState$Forest;)V" } : Jvm.MethodName)) ∈ lw_tbl := lw_at lw_m6 144 rfl
theorem q1510 : (Jvm.Cond.instanceMethod ({ cls := "WoodState$Forest", name := "asStands", desc := "(LWoodState$Forest;)V" } : Jvm.MethodName)) ∈ lw_all := lw_g (lw_at lw_m6 145 rfl) rfl
theorem q1511 : (Jvm.Cond.code ({ cls := "WoodState$Forest", name := "asStands", desc := "(LWoodState$Forest;)V" } : Jvm.MethodName) prog_4_method_3_code (2 : Nat) (Option.none : Option Jvm.ClassFile.FieldType)) ∈ lw_all := lw_g (lw_at lw_m6 146 rfl) rfl
theorem q1512 : (Jvm.Cond.methodLink "WoodState$Forest" (149 : Nat) ({ cls := "WoodState$Forest", name := "asLands", desc := "(LWoodState$Forest;)V" } : Jvm.MethodName)) ∈ lw_all := lw_g (lw_at lw_m6 147 rfl) rfl
theorem q1513 : (Jvm.Cond.privateMethod ({ cls := "WoodState$Forest", name := "asLands", desc := "(LWoodState$Forest;)V" } : Jvm.MethodName)) ∈ lw_tbl := lw_at lw_m6 148 rfl
theorem q1514 : (Jvm.Cond.instanceMethod ({ cls := "WoodState$Forest", name := "asLands", desc := "(LWoodState$Forest;)V" } : Jvm.MethodName)) ∈ lw_all := lw_g (lw_at lw_m6 149 rfl) rfl
theorem q1515 : (Jvm.Cond.code ({ cls := "WoodState$Forest", name := "asLands", desc := "(LWoodState$Forest;)V" } : Jvm.MethodName) prog_4_method_4_code (2 : Nat) (Option.none : Option Jvm.ClassFile.FieldType)) ∈ lw_all := lw_g (lw_at lw_m6 150 rfl) rfl
theorem q1516 : (Jvm.Cond.methodLink "WoodState$Forest" (152 : Nat) ({ cls := "WoodState$Slot", name := "as", desc := "(LWoodState$Slot;)V" } : Jvm.MethodName)) ∈ lw_all := lw_g (lw_at lw_m6 151 rfl) rfl
theorem in_X1 : ∀ w ∈ wsX10, w ∈ lw_all := lw_in wsX10 [323, 325, 327, 329, 331, 333, 335, 337, 339, 341, 343, 345, 347, 349, 351, 353, 355, 357, 359, 361, 363, 365, 367, 369, 371, 373, 375, 377, 379, 381, 383, 385, 387, 389, 391, 393, 395, 397, 399, 401, 403, 405, 407, 409, 411, 413] (by decide +kernel) (by decide +kernel)

theorem q168 : (Jvm.Cond.initialized "WoodState$Slot") ∈ lw_all := lw_g (lw_at lw_m1 3 rfl) rfl
theorem q213 : (Jvm.Cond.instantiable "WoodState$Slot" (1 : Nat)) ∈ lw_all := lw_g (lw_at lw_m1 48 rfl) rfl
theorem q215 : (Jvm.Cond.instanceMethod ({ cls := "WoodState$Slot", name := "<init>", desc := "()V" } : Jvm.MethodName)) ∈ lw_all := lw_g (lw_at lw_m1 50 rfl) rfl
theorem q216 : (Jvm.Cond.code ({ cls := "WoodState$Slot", name := "<init>", desc := "()V" } : Jvm.MethodName) prog_17_method_1_code (1 : Nat) (Option.none : Option Jvm.ClassFile.FieldType)) ∈ lw_all := lw_g (lw_at lw_m1 51 rfl) rfl
theorem q217 : (Jvm.Cond.methodLink "WoodState$Slot" (1 : Nat) ({ cls := "java/lang/Object", name := "<init>", desc := "()V" } : Jvm.MethodName)) ∈ lw_all := lw_g (lw_at lw_m1 52 rfl) rfl
theorem q218 : (Jvm.Cond.fieldLink "WoodState$Slot" (7 : Nat) "WoodState$Slot" "held" "Ljava/lang/Object;") ∈ lw_all := lw_g (lw_at lw_m1 53 rfl) rfl
theorem q221 : (Jvm.Cond.lays "WoodState$Slot" "WoodState$Slot" "held" "Ljava/lang/Object;") ∈ lw_all := lw_g (lw_at lw_m1 56 rfl) rfl
theorem q222 : (Jvm.Cond.soleField "WoodState$Slot" "held") ∈ lw_all := lw_g (lw_at lw_m1 57 rfl) rfl
theorem q223 : (Jvm.Cond.superclass "WoodState$Slot" "java/lang/Object") ∈ lw_all := lw_g (lw_at lw_m1 58 rfl) rfl
theorem q1517 : (Jvm.Cond.instanceMethod ({ cls := "WoodState$Slot", name := "as", desc := "(LWoodState$Slot;)V" } : Jvm.MethodName)) ∈ lw_all := lw_g (lw_at lw_m6 152 rfl) rfl
theorem q1518 : (Jvm.Cond.selects "WoodState$Slot" ({ cls := "WoodState$Slot", name := "as", desc := "(LWoodState$Slot;)V" } : Jvm.MethodName) ({ cls := "WoodState$Slot", name := "as", desc := "(LWoodState$Slot;)V" } : Jvm.MethodName)) ∈ lw_all := lw_g (lw_at lw_m6 153 rfl) rfl
theorem q1519 : (Jvm.Cond.code ({ cls := "WoodState$Slot", name := "as", desc := "(LWoodState$Slot;)V" } : Jvm.MethodName) prog_17_method_2_code (4 : Nat) (Option.none : Option Jvm.ClassFile.FieldType)) ∈ lw_all := lw_g (lw_at lw_m6 154 rfl) rfl
theorem q1520 : (Jvm.Cond.classLink "WoodState$Slot" (13 : Nat) "WoodState$Lot") ∈ lw_all := lw_g (lw_at lw_m6 155 rfl) rfl
theorem q1521 : (Jvm.Cond.methodLink "WoodState$Slot" (15 : Nat) ({ cls := "WoodState$Lot", name := "kind", desc := "()I" } : Jvm.MethodName)) ∈ lw_all := lw_g (lw_at lw_m6 156 rfl) rfl
theorem q1522 : (Jvm.Cond.methodLink "WoodState$Slot" (19 : Nat) ({ cls := "WoodState$Lot", name := "another", desc := "()LWoodState$Lot;" } : Jvm.MethodName)) ∈ lw_all := lw_g (lw_at lw_m6 157 rfl) rfl
theorem q1539 : (Jvm.Cond.methodLink "WoodState$Slot" (23 : Nat) ({ cls := "WoodState$Lot", name := "as", desc := "(LWoodState$Lot;)V" } : Jvm.MethodName)) ∈ lw_all := lw_g (lw_at lw_m6 174 rfl) rfl
theorem in_X2 : ∀ w ∈ wsX20, w ∈ lw_all := lw_in wsX20 [221] (by decide +kernel) (by decide +kernel)

theorem q170 : (Jvm.Cond.initialized "WoodState$Reader") ∈ lw_all := lw_g (lw_at lw_m1 5 rfl) rfl
theorem q417 : (Jvm.Cond.instantiable "WoodState$Reader" (12 : Nat)) ∈ lw_all := lw_g (lw_at lw_m2 12 rfl) rfl
theorem q419 : (Jvm.Cond.instanceMethod ({ cls := "WoodState$Reader", name := "<init>", desc := "()V" } : Jvm.MethodName)) ∈ lw_all := lw_g (lw_at lw_m2 14 rfl) rfl
theorem q420 : (Jvm.Cond.code ({ cls := "WoodState$Reader", name := "<init>", desc := "()V" } : Jvm.MethodName) prog_15_method_1_code (1 : Nat) (Option.none : Option Jvm.ClassFile.FieldType)) ∈ lw_all := lw_g (lw_at lw_m2 15 rfl) rfl
theorem q421 : (Jvm.Cond.methodLink "WoodState$Reader" (3 : Nat) ({ cls := "java/lang/Object", name := "<init>", desc := "()V" } : Jvm.MethodName)) ∈ lw_all := lw_g (lw_at lw_m2 16 rfl) rfl
theorem q422 : (Jvm.Cond.classLink "WoodState$Reader" (15 : Nat) "WoodState$Fault") ∈ lw_all := lw_g (lw_at lw_m2 17 rfl) rfl
theorem q478 : (Jvm.Cond.methodLink "WoodState$Reader" (17 : Nat) ({ cls := "WoodState$Fault", name := "<init>", desc := "()V" } : Jvm.MethodName)) ∈ lw_all := lw_g (lw_at lw_m2 73 rfl) rfl
theorem q490 : (Jvm.Cond.fieldLinkNest "WoodState$Reader" (39 : Nat) "WoodState$Fault" "place" "I" "WoodState") ∈ lw_tbl := lw_at lw_m2 85 rfl
theorem q508 : (Jvm.Cond.classLink "WoodState$Reader" (22 : Nat) "[C") ∈ lw_all := lw_g (lw_at lw_m2 103 rfl) rfl
theorem q510 : (Jvm.Cond.classLink "WoodState$Reader" (28 : Nat) "WoodState$Line") ∈ lw_all := lw_g (lw_at lw_m2 105 rfl) rfl
theorem q512 : (Jvm.Cond.methodLinkNest "WoodState$Reader" (30 : Nat) ({ cls := "WoodState$Line", name := "<init>", desc := "()V" } : Jvm.MethodName) "WoodState") ∈ lw_tbl := lw_at lw_m2 107 rfl
theorem q517 : (Jvm.Cond.fieldLinkNest "WoodState$Reader" (135 : Nat) "WoodState$Line" "key" "I" "WoodState") ∈ lw_tbl := lw_at lw_m2 112 rfl
theorem q520 : (Jvm.Cond.fieldLinkNest "WoodState$Reader" (138 : Nat) "WoodState$Line" "says" "LWoodState$Part;" "WoodState") ∈ lw_tbl := lw_at lw_m2 115 rfl
theorem q522 : (Jvm.Cond.fieldLinkNest "WoodState$Reader" (142 : Nat) "WoodState$Line" "when" "LWoodState$Part;" "WoodState") ∈ lw_tbl := lw_at lw_m2 117 rfl
theorem q524 : (Jvm.Cond.fieldLinkNest "WoodState$Reader" (154 : Nat) "WoodState$Line" "strikes" "I" "WoodState") ∈ lw_tbl := lw_at lw_m2 119 rfl
theorem q536 : (Jvm.Cond.fieldLink "WoodState$Reader" (9 : Nat) "WoodState$Reader" "tape" "[B") ∈ lw_all := lw_g (lw_at lw_m2 131 rfl) rfl
theorem q538 : (Jvm.Cond.fieldLink "WoodState$Reader" (42 : Nat) "WoodState$Reader" "taped" "I") ∈ lw_all := lw_g (lw_at lw_m2 133 rfl) rfl
theorem q540 : (Jvm.Cond.fieldLink "WoodState$Reader" (52 : Nat) "WoodState$Reader" "at" "I") ∈ lw_all := lw_g (lw_at lw_m2 135 rfl) rfl
theorem q541 : (Jvm.Cond.fieldLink "WoodState$Reader" (35 : Nat) "WoodState$Reader" "begin" "I") ∈ lw_all := lw_g (lw_at lw_m2 136 rfl) rfl
theorem q542 : (Jvm.Cond.fieldLink "WoodState$Reader" (55 : Nat) "WoodState$Reader" "sign" "C") ∈ lw_all := lw_g (lw_at lw_m2 137 rfl) rfl
theorem q543 : (Jvm.Cond.fieldLink "WoodState$Reader" (67 : Nat) "WoodState$Reader" "word" "I") ∈ lw_all := lw_g (lw_at lw_m2 138 rfl) rfl
theorem q544 : (Jvm.Cond.fieldLink "WoodState$Reader" (73 : Nat) "WoodState$Reader" "number" "I") ∈ lw_all := lw_g (lw_at lw_m2 139 rfl) rfl
theorem q545 : (Jvm.Cond.fieldLink "WoodState$Reader" (80 : Nat) "WoodState$Reader" "open" "I") ∈ lw_all := lw_g (lw_at lw_m2 140 rfl) rfl
theorem q546 : (Jvm.Cond.fieldLink "WoodState$Reader" (18 : Nat) "WoodState$Reader" "fault" "LWoodState$Fault;") ∈ lw_all := lw_g (lw_at lw_m2 141 rfl) rfl
theorem q547 : (Jvm.Cond.fieldLink "WoodState$Reader" (24 : Nat) "WoodState$Reader" "words" "[[C") ∈ lw_all := lw_g (lw_at lw_m2 142 rfl) rfl
theorem q548 : (Jvm.Cond.fieldLink "WoodState$Reader" (86 : Nat) "WoodState$Reader" "isDry" "Z") ∈ lw_all := lw_g (lw_at lw_m2 143 rfl) rfl
theorem q549 : (Jvm.Cond.fieldLink "WoodState$Reader" (31 : Nat) "WoodState$Reader" "first" "LWoodState$Line;") ∈ lw_all := lw_g (lw_at lw_m2 144 rfl) rfl
theorem q550 : (Jvm.Cond.laysFinal "WoodState$Reader" "WoodState$Reader" "tape" "[B") ∈ lw_all := lw_g (lw_at lw_m2 145 rfl) rfl
theorem q551 : (Jvm.Cond.soleField "WoodState$Reader" "tape") ∈ lw_all := lw_g (lw_at lw_m2 146 rfl) rfl
theorem q552 : (Jvm.Cond.lays "WoodState$Reader" "WoodState$Reader" "taped" "I") ∈ lw_all := lw_g (lw_at lw_m2 147 rfl) rfl
theorem q553 : (Jvm.Cond.soleField "WoodState$Reader" "taped") ∈ lw_all := lw_g (lw_at lw_m2 148 rfl) rfl
theorem q554 : (Jvm.Cond.lays "WoodState$Reader" "WoodState$Reader" "at" "I") ∈ lw_all := lw_g (lw_at lw_m2 149 rfl) rfl
theorem q555 : (Jvm.Cond.soleField "WoodState$Reader" "at") ∈ lw_all := lw_g (lw_at lw_m2 150 rfl) rfl
theorem q556 : (Jvm.Cond.lays "WoodState$Reader" "WoodState$Reader" "begin" "I") ∈ lw_all := lw_g (lw_at lw_m2 151 rfl) rfl
theorem q557 : (Jvm.Cond.soleField "WoodState$Reader" "begin") ∈ lw_all := lw_g (lw_at lw_m2 152 rfl) rfl
theorem q558 : (Jvm.Cond.lays "WoodState$Reader" "WoodState$Reader" "sign" "C") ∈ lw_all := lw_g (lw_at lw_m2 153 rfl) rfl
theorem q559 : (Jvm.Cond.soleField "WoodState$Reader" "sign") ∈ lw_all := lw_g (lw_at lw_m2 154 rfl) rfl
theorem q560 : (Jvm.Cond.lays "WoodState$Reader" "WoodState$Reader" "word" "I") ∈ lw_all := lw_g (lw_at lw_m2 155 rfl) rfl
theorem q561 : (Jvm.Cond.soleField "WoodState$Reader" "word") ∈ lw_all := lw_g (lw_at lw_m2 156 rfl) rfl
theorem q562 : (Jvm.Cond.lays "WoodState$Reader" "WoodState$Reader" "number" "I") ∈ lw_all := lw_g (lw_at lw_m2 157 rfl) rfl
theorem q563 : (Jvm.Cond.soleField "WoodState$Reader" "number") ∈ lw_all := lw_g (lw_at lw_m2 158 rfl) rfl
theorem q564 : (Jvm.Cond.lays "WoodState$Reader" "WoodState$Reader" "open" "I") ∈ lw_all := lw_g (lw_at lw_m2 159 rfl) rfl
theorem q565 : (Jvm.Cond.soleField "WoodState$Reader" "open") ∈ lw_all := lw_g (lw_at lw_m2 160 rfl) rfl
theorem q566 : (Jvm.Cond.laysFinal "WoodState$Reader" "WoodState$Reader" "fault" "LWoodState$Fault;") ∈ lw_all := lw_g (lw_at lw_m2 161 rfl) rfl
theorem q567 : (Jvm.Cond.soleField "WoodState$Reader" "fault") ∈ lw_all := lw_g (lw_at lw_m2 162 rfl) rfl
theorem q568 : (Jvm.Cond.laysFinal "WoodState$Reader" "WoodState$Reader" "words" "[[C") ∈ lw_all := lw_g (lw_at lw_m2 163 rfl) rfl
theorem q569 : (Jvm.Cond.soleField "WoodState$Reader" "words") ∈ lw_all := lw_g (lw_at lw_m2 164 rfl) rfl
theorem q570 : (Jvm.Cond.lays "WoodState$Reader" "WoodState$Reader" "isDry" "Z") ∈ lw_all := lw_g (lw_at lw_m2 165 rfl) rfl
theorem q571 : (Jvm.Cond.soleField "WoodState$Reader" "isDry") ∈ lw_all := lw_g (lw_at lw_m2 166 rfl) rfl
theorem q572 : (Jvm.Cond.laysFinal "WoodState$Reader" "WoodState$Reader" "first" "LWoodState$Line;") ∈ lw_all := lw_g (lw_at lw_m2 167 rfl) rfl
theorem q573 : (Jvm.Cond.soleField "WoodState$Reader" "first") ∈ lw_all := lw_g (lw_at lw_m2 168 rfl) rfl
theorem q574 : (Jvm.Cond.superclass "WoodState$Reader" "java/lang/Object") ∈ lw_all := lw_g (lw_at lw_m2 169 rfl) rfl
theorem q1016 : (Jvm.Cond.instanceMethod ({ cls := "WoodState$Reader", name := "read", desc := "()LWoodState$Line;" } : Jvm.MethodName)) ∈ lw_all := lw_g (lw_at lw_m4 131 rfl) rfl
theorem q1017 : (Jvm.Cond.selects "WoodState$Reader" ({ cls := "WoodState$Reader", name := "read", desc := "()LWoodState$Line;" } : Jvm.MethodName) ({ cls := "WoodState$Reader", name := "read", desc := "()LWoodState$Line;" } : Jvm.MethodName)) ∈ lw_all := lw_g (lw_at lw_m4 132 rfl) rfl
theorem q1018 : (Jvm.Cond.code ({ cls := "WoodState$Reader", name := "read", desc := "()LWoodState$Line;" } : Jvm.MethodName) prog_15_method_21_code (2 : Nat) (Option.some (Jvm.ClassFile.FieldType.object "WoodState$Line"))) ∈ lw_all := lw_g (lw_at lw_m4 133 rfl) rfl
theorem q1019 : (Jvm.Cond.methodLink "WoodState$Reader" (161 : Nat) ({ cls := "WoodState$Reader", name := "readInto", desc := "(LWoodState$Line;)V" } : Jvm.MethodName)) ∈ lw_all := lw_g (lw_at lw_m4 134 rfl) rfl
theorem q1020 : (Jvm.Cond.privateMethod ({ cls := "WoodState$Reader", name := "readInto", desc := "(LWoodState$Line;)V" } : Jvm.MethodName)) ∈ lw_tbl := lw_at lw_m4 135 rfl
theorem q1021 : (Jvm.Cond.instanceMethod ({ cls := "WoodState$Reader", name := "readInto", desc := "(LWoodState$Line;)V" } : Jvm.MethodName)) ∈ lw_all := lw_g (lw_at lw_m4 136 rfl) rfl
theorem q1022 : (Jvm.Cond.code ({ cls := "WoodState$Reader", name := "readInto", desc := "(LWoodState$Line;)V" } : Jvm.MethodName) prog_15_method_20_code (2 : Nat) (Option.none : Option Jvm.ClassFile.FieldType)) ∈ lw_all := lw_g (lw_at lw_m4 137 rfl) rfl
theorem q1023 : (Jvm.Cond.methodLink "WoodState$Reader" (83 : Nat) ({ cls := "WoodState$Reader", name := "next", desc := "()V" } : Jvm.MethodName)) ∈ lw_all := lw_g (lw_at lw_m4 138 rfl) rfl
theorem q1024 : (Jvm.Cond.privateMethod ({ cls := "WoodState$Reader", name := "next", desc := "()V" } : Jvm.MethodName)) ∈ lw_tbl := lw_at lw_m4 139 rfl
theorem q1025 : (Jvm.Cond.instanceMethod ({ cls := "WoodState$Reader", name := "next", desc := "()V" } : Jvm.MethodName)) ∈ lw_all := lw_g (lw_at lw_m4 140 rfl) rfl
theorem q1026 : (Jvm.Cond.code ({ cls := "WoodState$Reader", name := "next", desc := "()V" } : Jvm.MethodName) prog_15_method_8_code (1 : Nat) (Option.none : Option Jvm.ClassFile.FieldType)) ∈ lw_all := lw_g (lw_at lw_m4 141 rfl) rfl
theorem q1027 : (Jvm.Cond.methodLink "WoodState$Reader" (59 : Nat) ({ cls := "WoodState$Reader", name := "isLetter", desc := "(I)Z" } : Jvm.MethodName)) ∈ lw_all := lw_g (lw_at lw_m4 142 rfl) rfl
theorem q1028 : (Jvm.Cond.privateMethod ({ cls := "WoodState$Reader", name := "isLetter", desc := "(I)Z" } : Jvm.MethodName)) ∈ lw_tbl := lw_at lw_m4 143 rfl
theorem q1029 : (Jvm.Cond.instanceMethod ({ cls := "WoodState$Reader", name := "isLetter", desc := "(I)Z" } : Jvm.MethodName)) ∈ lw_all := lw_g (lw_at lw_m4 144 rfl) rfl
theorem q1030 : (Jvm.Cond.code ({ cls := "WoodState$Reader", name := "isLetter", desc := "(I)Z" } : Jvm.MethodName) prog_15_method_3_code (2 : Nat) (Option.some Jvm.ClassFile.FieldType.boolean)) ∈ lw_all := lw_g (lw_at lw_m4 145 rfl) rfl
theorem q1031 : (Jvm.Cond.methodLink "WoodState$Reader" (63 : Nat) ({ cls := "WoodState$Reader", name := "wordOf", desc := "(I)I" } : Jvm.MethodName)) ∈ lw_all := lw_g (lw_at lw_m4 146 rfl) rfl
theorem q1032 : (Jvm.Cond.privateMethod ({ cls := "WoodState$Reader", name := "wordOf", desc := "(I)I" } : Jvm.MethodName)) ∈ lw_tbl := lw_at lw_m4 147 rfl
theorem q1033 : (Jvm.Cond.instanceMethod ({ cls := "WoodState$Reader", name := "wordOf", desc := "(I)I" } : Jvm.MethodName)) ∈ lw_all := lw_g (lw_at lw_m4 148 rfl) rfl
theorem q1034 : (Jvm.Cond.code ({ cls := "WoodState$Reader", name := "wordOf", desc := "(I)I" } : Jvm.MethodName) prog_15_method_6_code (3 : Nat) (Option.some Jvm.ClassFile.FieldType.int)) ∈ lw_all := lw_g (lw_at lw_m4 149 rfl) rfl
theorem q1035 : (Jvm.Cond.methodLink "WoodState$Reader" (45 : Nat) ({ cls := "WoodState$Reader", name := "isWord", desc := "([CI)Z" } : Jvm.MethodName)) ∈ lw_all := lw_g (lw_at lw_m4 150 rfl) rfl
theorem q1036 : (Jvm.Cond.privateMethod ({ cls := "WoodState$Reader", name := "isWord", desc := "([CI)Z" } : Jvm.MethodName)) ∈ lw_tbl := lw_at lw_m4 151 rfl
theorem q1037 : (Jvm.Cond.instanceMethod ({ cls := "WoodState$Reader", name := "isWord", desc := "([CI)Z" } : Jvm.MethodName)) ∈ lw_all := lw_g (lw_at lw_m4 152 rfl) rfl
theorem q1038 : (Jvm.Cond.code ({ cls := "WoodState$Reader", name := "isWord", desc := "([CI)Z" } : Jvm.MethodName) prog_15_method_5_code (5 : Nat) (Option.some Jvm.ClassFile.FieldType.boolean)) ∈ lw_all := lw_g (lw_at lw_m4 153 rfl) rfl
theorem q1039 : (Jvm.Cond.methodLink "WoodState$Reader" (49 : Nat) ({ cls := "WoodState$Reader", name := "fault", desc := "()LWoodState$Fault;" } : Jvm.MethodName)) ∈ lw_all := lw_g (lw_at lw_m4 154 rfl) rfl
theorem q1040 : (Jvm.Cond.privateMethod ({ cls := "WoodState$Reader", name := "fault", desc := "()LWoodState$Fault;" } : Jvm.MethodName)) ∈ lw_tbl := lw_at lw_m4 155 rfl
theorem q1041 : (Jvm.Cond.instanceMethod ({ cls := "WoodState$Reader", name := "fault", desc := "()LWoodState$Fault;" } : Jvm.MethodName)) ∈ lw_all := lw_g (lw_at lw_m4 156 rfl) rfl
theorem q1042 : (Jvm.Cond.code ({ cls := "WoodState$Reader", name := "fault", desc := "()LWoodState$Fault;" } : Jvm.MethodName) prog_15_method_2_code (1 : Nat) (Option.some (Jvm.ClassFile.FieldType.object "WoodState$Fault"))) ∈ lw_all := lw_g (lw_at lw_m4 157 rfl) rfl
theorem q1043 : (Jvm.Cond.methodLink "WoodState$Reader" (70 : Nat) ({ cls := "WoodState$Reader", name := "isDigit", desc := "(I)Z" } : Jvm.MethodName)) ∈ lw_all := lw_g (lw_at lw_m4 158 rfl) rfl
theorem q1044 : (Jvm.Cond.privateMethod ({ cls := "WoodState$Reader", name := "isDigit", desc := "(I)Z" } : Jvm.MethodName)) ∈ lw_tbl := lw_at lw_m4 159 rfl
theorem q1045 : (Jvm.Cond.instanceMethod ({ cls := "WoodState$Reader", name := "isDigit", desc := "(I)Z" } : Jvm.MethodName)) ∈ lw_all := lw_g (lw_at lw_m4 160 rfl) rfl
theorem q1046 : (Jvm.Cond.code ({ cls := "WoodState$Reader", name := "isDigit", desc := "(I)Z" } : Jvm.MethodName) prog_15_method_4_code (2 : Nat) (Option.some Jvm.ClassFile.FieldType.boolean)) ∈ lw_all := lw_g (lw_at lw_m4 161 rfl) rfl
theorem q1047 : (Jvm.Cond.methodLink "WoodState$Reader" (76 : Nat) ({ cls := "WoodState$Reader", name := "signAt", desc := "()C" } : Jvm.MethodName)) ∈ lw_all := lw_g (lw_at lw_m4 162 rfl) rfl
theorem q1048 : (Jvm.Cond.privateMethod ({ cls := "WoodState$Reader", name := "signAt", desc := "()C" } : Jvm.MethodName)) ∈ lw_tbl := lw_at lw_m4 163 rfl
theorem q1049 : (Jvm.Cond.instanceMethod ({ cls := "WoodState$Reader", name := "signAt", desc := "()C" } : Jvm.MethodName)) ∈ lw_all := lw_g (lw_at lw_m4 164 rfl) rfl
theorem q1050 : (Jvm.Cond.code ({ cls := "WoodState$Reader", name := "signAt", desc := "()C" } : Jvm.MethodName) prog_15_method_7_code (3 : Nat) (Option.some Jvm.ClassFile.FieldType.char)) ∈ lw_all := lw_g (lw_at lw_m4 165 rfl) rfl
theorem q1051 : (Jvm.Cond.methodLink "WoodState$Reader" (120 : Nat) ({ cls := "WoodState$Reader", name := "isWordNext", desc := "(I)Z" } : Jvm.MethodName)) ∈ lw_all := lw_g (lw_at lw_m4 166 rfl) rfl
theorem q1052 : (Jvm.Cond.privateMethod ({ cls := "WoodState$Reader", name := "isWordNext", desc := "(I)Z" } : Jvm.MethodName)) ∈ lw_tbl := lw_at lw_m4 167 rfl
theorem q1053 : (Jvm.Cond.instanceMethod ({ cls := "WoodState$Reader", name := "isWordNext", desc := "(I)Z" } : Jvm.MethodName)) ∈ lw_all := lw_g (lw_at lw_m4 168 rfl) rfl
theorem q1054 : (Jvm.Cond.code ({ cls := "WoodState$Reader", name := "isWordNext", desc := "(I)Z" } : Jvm.MethodName) prog_15_method_9_code (2 : Nat) (Option.some Jvm.ClassFile.FieldType.boolean)) ∈ lw_all := lw_g (lw_at lw_m4 169 rfl) rfl
theorem q1055 : (Jvm.Cond.methodLink "WoodState$Reader" (150 : Nat) ({ cls := "WoodState$Reader", name := "struck", desc := "()I" } : Jvm.MethodName)) ∈ lw_all := lw_g (lw_at lw_m4 170 rfl) rfl
theorem q1056 : (Jvm.Cond.privateMethod ({ cls := "WoodState$Reader", name := "struck", desc := "()I" } : Jvm.MethodName)) ∈ lw_tbl := lw_at lw_m4 171 rfl
theorem q1057 : (Jvm.Cond.instanceMethod ({ cls := "WoodState$Reader", name := "struck", desc := "()I" } : Jvm.MethodName)) ∈ lw_all := lw_g (lw_at lw_m4 172 rfl) rfl
theorem q1058 : (Jvm.Cond.code ({ cls := "WoodState$Reader", name := "struck", desc := "()I" } : Jvm.MethodName) prog_15_method_17_code (2 : Nat) (Option.some Jvm.ClassFile.FieldType.int)) ∈ lw_all := lw_g (lw_at lw_m4 173 rfl) rfl
theorem q1059 : (Jvm.Cond.methodLink "WoodState$Reader" (157 : Nat) ({ cls := "WoodState$Reader", name := "readKey", desc := "(LWoodState$Line;)V" } : Jvm.MethodName)) ∈ lw_all := lw_g (lw_at lw_m4 174 rfl) rfl
theorem q1060 : (Jvm.Cond.privateMethod ({ cls := "WoodState$Reader", name := "readKey", desc := "(LWoodState$Line;)V" } : Jvm.MethodName)) ∈ lw_tbl := lw_at lw_m4 175 rfl
theorem q1061 : (Jvm.Cond.instanceMethod ({ cls := "WoodState$Reader", name := "readKey", desc := "(LWoodState$Line;)V" } : Jvm.MethodName)) ∈ lw_all := lw_g (lw_at lw_m4 176 rfl) rfl
theorem q1062 : (Jvm.Cond.code ({ cls := "WoodState$Reader", name := "readKey", desc := "(LWoodState$Line;)V" } : Jvm.MethodName) prog_15_method_18_code (2 : Nat) (Option.none : Option Jvm.ClassFile.FieldType)) ∈ lw_all := lw_g (lw_at lw_m4 177 rfl) rfl
theorem q1063 : (Jvm.Cond.methodLink "WoodState$Reader" (110 : Nat) ({ cls := "WoodState$Reader", name := "all", desc := "()LWoodState$Part;" } : Jvm.MethodName)) ∈ lw_all := lw_g (lw_at lw_m4 178 rfl) rfl
theorem q1064 : (Jvm.Cond.privateMethod ({ cls := "WoodState$Reader", name := "all", desc := "()LWoodState$Part;" } : Jvm.MethodName)) ∈ lw_tbl := lw_at lw_m4 179 rfl
theorem q1065 : (Jvm.Cond.instanceMethod ({ cls := "WoodState$Reader", name := "all", desc := "()LWoodState$Part;" } : Jvm.MethodName)) ∈ lw_all := lw_g (lw_at lw_m4 180 rfl) rfl
theorem q1066 : (Jvm.Cond.code ({ cls := "WoodState$Reader", name := "all", desc := "()LWoodState$Part;" } : Jvm.MethodName) prog_15_method_16_code (2 : Nat) (Option.some (Jvm.ClassFile.FieldType.object "WoodState$Part"))) ∈ lw_all := lw_g (lw_at lw_m4 181 rfl) rfl
theorem q1067 : (Jvm.Cond.methodLink "WoodState$Reader" (132 : Nat) ({ cls := "WoodState$Reader", name := "both", desc := "()LWoodState$Part;" } : Jvm.MethodName)) ∈ lw_all := lw_g (lw_at lw_m4 182 rfl) rfl
theorem q1068 : (Jvm.Cond.privateMethod ({ cls := "WoodState$Reader", name := "both", desc := "()LWoodState$Part;" } : Jvm.MethodName)) ∈ lw_tbl := lw_at lw_m4 183 rfl
theorem q1069 : (Jvm.Cond.instanceMethod ({ cls := "WoodState$Reader", name := "both", desc := "()LWoodState$Part;" } : Jvm.MethodName)) ∈ lw_all := lw_g (lw_at lw_m4 184 rfl) rfl
theorem q1070 : (Jvm.Cond.code ({ cls := "WoodState$Reader", name := "both", desc := "()LWoodState$Part;" } : Jvm.MethodName) prog_15_method_15_code (2 : Nat) (Option.some (Jvm.ClassFile.FieldType.object "WoodState$Part"))) ∈ lw_all := lw_g (lw_at lw_m4 185 rfl) rfl
theorem q1071 : (Jvm.Cond.methodLink "WoodState$Reader" (123 : Nat) ({ cls := "WoodState$Reader", name := "not", desc := "()LWoodState$Part;" } : Jvm.MethodName)) ∈ lw_all := lw_g (lw_at lw_m4 186 rfl) rfl
theorem q1072 : (Jvm.Cond.privateMethod ({ cls := "WoodState$Reader", name := "not", desc := "()LWoodState$Part;" } : Jvm.MethodName)) ∈ lw_tbl := lw_at lw_m4 187 rfl
theorem q1073 : (Jvm.Cond.instanceMethod ({ cls := "WoodState$Reader", name := "not", desc := "()LWoodState$Part;" } : Jvm.MethodName)) ∈ lw_all := lw_g (lw_at lw_m4 188 rfl) rfl
theorem q1074 : (Jvm.Cond.code ({ cls := "WoodState$Reader", name := "not", desc := "()LWoodState$Part;" } : Jvm.MethodName) prog_15_method_14_code (3 : Nat) (Option.some (Jvm.ClassFile.FieldType.object "WoodState$Part"))) ∈ lw_all := lw_g (lw_at lw_m4 189 rfl) rfl
theorem q1075 : (Jvm.Cond.methodLink "WoodState$Reader" (98 : Nat) ({ cls := "WoodState$Reader", name := "openOne", desc := "()V" } : Jvm.MethodName)) ∈ lw_all := lw_g (lw_at lw_m4 190 rfl) rfl
theorem q1076 : (Jvm.Cond.privateMethod ({ cls := "WoodState$Reader", name := "openOne", desc := "()V" } : Jvm.MethodName)) ∈ lw_tbl := lw_at lw_m4 191 rfl
theorem q1077 : (Jvm.Cond.instanceMethod ({ cls := "WoodState$Reader", name := "openOne", desc := "()V" } : Jvm.MethodName)) ∈ lw_all := lw_g (lw_at lw_m4 192 rfl) rfl
theorem q1078 : (Jvm.Cond.code ({ cls := "WoodState$Reader", name := "openOne", desc := "()V" } : Jvm.MethodName) prog_15_method_10_code (1 : Nat) (Option.none : Option Jvm.ClassFile.FieldType)) ∈ lw_all := lw_g (lw_at lw_m4 193 rfl) rfl
theorem q1079 : (Jvm.Cond.classLink "WoodState$Reader" (126 : Nat) "WoodState$Not") ∈ lw_all := lw_g (lw_at lw_m4 194 rfl) rfl
theorem q1081 : (Jvm.Cond.methodLink "WoodState$Reader" (128 : Nat) ({ cls := "WoodState$Not", name := "<init>", desc := "(LWoodState$Part;)V" } : Jvm.MethodName)) ∈ lw_all := lw_g (lw_at lw_m4 196 rfl) rfl
theorem q1094 : (Jvm.Cond.methodLink "WoodState$Reader" (129 : Nat) ({ cls := "WoodState$Reader", name := "sum", desc := "()LWoodState$Part;" } : Jvm.MethodName)) ∈ lw_all := lw_g (lw_at lw_m4 209 rfl) rfl
theorem q1095 : (Jvm.Cond.privateMethod ({ cls := "WoodState$Reader", name := "sum", desc := "()LWoodState$Part;" } : Jvm.MethodName)) ∈ lw_tbl := lw_at lw_m4 210 rfl
theorem q1096 : (Jvm.Cond.instanceMethod ({ cls := "WoodState$Reader", name := "sum", desc := "()LWoodState$Part;" } : Jvm.MethodName)) ∈ lw_all := lw_g (lw_at lw_m4 211 rfl) rfl
theorem q1097 : (Jvm.Cond.code ({ cls := "WoodState$Reader", name := "sum", desc := "()LWoodState$Part;" } : Jvm.MethodName) prog_15_method_13_code (3 : Nat) (Option.some (Jvm.ClassFile.FieldType.object "WoodState$Part"))) ∈ lw_all := lw_g (lw_at lw_m4 212 rfl) rfl
theorem q1098 : (Jvm.Cond.methodLink "WoodState$Reader" (117 : Nat) ({ cls := "WoodState$Reader", name := "term", desc := "()LWoodState$Part;" } : Jvm.MethodName)) ∈ lw_all := lw_g (lw_at lw_m4 213 rfl) rfl
theorem q1099 : (Jvm.Cond.privateMethod ({ cls := "WoodState$Reader", name := "term", desc := "()LWoodState$Part;" } : Jvm.MethodName)) ∈ lw_tbl := lw_at lw_m4 214 rfl
theorem q1100 : (Jvm.Cond.instanceMethod ({ cls := "WoodState$Reader", name := "term", desc := "()LWoodState$Part;" } : Jvm.MethodName)) ∈ lw_all := lw_g (lw_at lw_m4 215 rfl) rfl
theorem q1101 : (Jvm.Cond.code ({ cls := "WoodState$Reader", name := "term", desc := "()LWoodState$Part;" } : Jvm.MethodName) prog_15_method_12_code (3 : Nat) (Option.some (Jvm.ClassFile.FieldType.object "WoodState$Part"))) ∈ lw_all := lw_g (lw_at lw_m4 216 rfl) rfl
theorem q1102 : (Jvm.Cond.methodLink "WoodState$Reader" (101 : Nat) ({ cls := "WoodState$Reader", name := "one", desc := "()LWoodState$Part;" } : Jvm.MethodName)) ∈ lw_all := lw_g (lw_at lw_m4 217 rfl) rfl
theorem q1103 : (Jvm.Cond.privateMethod ({ cls := "WoodState$Reader", name := "one", desc := "()LWoodState$Part;" } : Jvm.MethodName)) ∈ lw_tbl := lw_at lw_m4 218 rfl
theorem q1104 : (Jvm.Cond.instanceMethod ({ cls := "WoodState$Reader", name := "one", desc := "()LWoodState$Part;" } : Jvm.MethodName)) ∈ lw_all := lw_g (lw_at lw_m4 219 rfl) rfl
theorem q1105 : (Jvm.Cond.code ({ cls := "WoodState$Reader", name := "one", desc := "()LWoodState$Part;" } : Jvm.MethodName) prog_15_method_11_code (2 : Nat) (Option.some (Jvm.ClassFile.FieldType.object "WoodState$Part"))) ∈ lw_all := lw_g (lw_at lw_m4 220 rfl) rfl
theorem q1106 : (Jvm.Cond.classLink "WoodState$Reader" (90 : Nat) "WoodState$Number") ∈ lw_all := lw_g (lw_at lw_m4 221 rfl) rfl
theorem q1108 : (Jvm.Cond.methodLink "WoodState$Reader" (92 : Nat) ({ cls := "WoodState$Number", name := "<init>", desc := "(I)V" } : Jvm.MethodName)) ∈ lw_all := lw_g (lw_at lw_m4 223 rfl) rfl
theorem q1116 : (Jvm.Cond.classLink "WoodState$Reader" (95 : Nat) "WoodState$Name") ∈ lw_all := lw_g (lw_at lw_m4 231 rfl) rfl
theorem q1118 : (Jvm.Cond.methodLink "WoodState$Reader" (97 : Nat) ({ cls := "WoodState$Name", name := "<init>", desc := "(I)V" } : Jvm.MethodName)) ∈ lw_all := lw_g (lw_at lw_m4 233 rfl) rfl
theorem q1126 : (Jvm.Cond.classLink "WoodState$Reader" (105 : Nat) "WoodState$Minus") ∈ lw_all := lw_g (lw_at lw_m5 1 rfl) rfl
theorem q1128 : (Jvm.Cond.methodLink "WoodState$Reader" (107 : Nat) ({ cls := "WoodState$Minus", name := "<init>", desc := "(LWoodState$Part;)V" } : Jvm.MethodName)) ∈ lw_all := lw_g (lw_at lw_m5 3 rfl) rfl
theorem q1134 : (Jvm.Cond.methodLink "WoodState$Reader" (113 : Nat) ({ cls := "WoodState$Reader", name := "pair", desc := "(CLWoodState$Part;LWoodState$Part;)LWoodState$Part;" } : Jvm.MethodName)) ∈ lw_all := lw_g (lw_at lw_m5 9 rfl) rfl
theorem q1135 : (Jvm.Cond.privateMethod ({ cls := "WoodState$Reader", name := "pair", desc := "(CLWoodState$Part;LWoodState$Part;)LWoodState$Part;" } : Jvm.MethodName)) ∈ lw_tbl := lw_at lw_m5 10 rfl
theorem q1136 : (Jvm.Cond.instanceMethod ({ cls := "WoodState$Reader", name := "pair", desc := "(CLWoodState$Part;LWoodState$Part;)LWoodState$Part;" } : Jvm.MethodName)) ∈ lw_all := lw_g (lw_at lw_m5 11 rfl) rfl
theorem q1137 : (Jvm.Cond.code ({ cls := "WoodState$Reader", name := "pair", desc := "(CLWoodState$Part;LWoodState$Part;)LWoodState$Part;" } : Jvm.MethodName) prog_15_method_19_code (4 : Nat) (Option.some (Jvm.ClassFile.FieldType.object "WoodState$Part"))) ∈ lw_all := lw_g (lw_at lw_m5 12 rfl) rfl
theorem q1138 : (Jvm.Cond.classLink "WoodState$Reader" (145 : Nat) "WoodState$Pair") ∈ lw_all := lw_g (lw_at lw_m5 13 rfl) rfl
theorem q1140 : (Jvm.Cond.methodLink "WoodState$Reader" (147 : Nat) ({ cls := "WoodState$Pair", name := "<init>", desc := "(CLWoodState$Part;LWoodState$Part;)V" } : Jvm.MethodName)) ∈ lw_all := lw_g (lw_at lw_m5 15 rfl) rfl
theorem in_X3 : ∀ w ∈ wsX30, w ∈ lw_all := lw_in wsX30 [550, 552, 554, 556, 558, 560, 562, 564, 566, 568, 570, 572] (by decide +kernel) (by decide +kernel)

theorem q174 : (Jvm.Cond.initialized "WoodState$Fault") ∈ lw_all := lw_g (lw_at lw_m1 9 rfl) rfl
theorem q423 : (Jvm.Cond.instantiable "WoodState$Fault" (7 : Nat)) ∈ lw_all := lw_g (lw_at lw_m2 18 rfl) rfl
theorem q424 : (Jvm.Cond.castable "WoodState$Fault" "WoodState$Fault") ∈ lw_tbl := lw_at lw_m2 19 rfl
theorem q431 : (Jvm.Cond.selects "WoodState$Fault" ({ cls := "java/lang/Throwable", name := "fillInStackTrace", desc := "(I)Ljava/lang/Throwable;" } : Jvm.MethodName) ({ cls := "java/lang/Throwable", name := "fillInStackTrace", desc := "(I)Ljava/lang/Throwable;" } : Jvm.MethodName)) ∈ lw_all := lw_g (lw_at lw_m2 26 rfl) rfl
theorem q432 : (Jvm.Cond.selects "WoodState$Fault" ({ cls := "java/lang/Throwable", name := "fillInStackTrace", desc := "()Ljava/lang/Throwable;" } : Jvm.MethodName) ({ cls := "java/lang/Throwable", name := "fillInStackTrace", desc := "()Ljava/lang/Throwable;" } : Jvm.MethodName)) ∈ lw_all := lw_g (lw_at lw_m2 27 rfl) rfl
theorem q433 : (Jvm.Cond.lays "WoodState$Fault" "java/lang/Throwable" "cause" "Ljava/lang/Throwable;") ∈ lw_all := lw_g (lw_at lw_m2 28 rfl) rfl
theorem q435 : (Jvm.Cond.lays "WoodState$Fault" "java/lang/Throwable" "stackTrace" "[Ljava/lang/StackTraceElement;") ∈ lw_all := lw_g (lw_at lw_m2 30 rfl) rfl
theorem q437 : (Jvm.Cond.lays "WoodState$Fault" "java/lang/Throwable" "suppressedExceptions" "Ljava/util/List;") ∈ lw_all := lw_g (lw_at lw_m2 32 rfl) rfl
theorem q439 : (Jvm.Cond.lays "WoodState$Fault" "java/lang/Throwable" "detailMessage" "Ljava/lang/String;") ∈ lw_all := lw_g (lw_at lw_m2 34 rfl) rfl
theorem q441 : (Jvm.Cond.lays "WoodState$Fault" "java/lang/Throwable" "backtrace" "Ljava/lang/Object;") ∈ lw_all := lw_g (lw_at lw_m2 36 rfl) rfl
theorem q479 : (Jvm.Cond.instanceMethod ({ cls := "WoodState$Fault", name := "<init>", desc := "()V" } : Jvm.MethodName)) ∈ lw_all := lw_g (lw_at lw_m2 74 rfl) rfl
theorem q480 : (Jvm.Cond.code ({ cls := "WoodState$Fault", name := "<init>", desc := "()V" } : Jvm.MethodName) prog_3_method_1_code (1 : Nat) (Option.none : Option Jvm.ClassFile.FieldType)) ∈ lw_all := lw_g (lw_at lw_m2 75 rfl) rfl
theorem q481 : (Jvm.Cond.methodLink "WoodState$Fault" (1 : Nat) ({ cls := "java/lang/RuntimeException", name := "<init>", desc := "(Ljava/lang/String;Ljava/lang/Throwable;ZZ)V" } : Jvm.MethodName)) ∈ lw_all := lw_g (lw_at lw_m2 76 rfl) rfl
theorem q497 : (Jvm.Cond.lays "WoodState$Fault" "WoodState$Fault" "place" "I") ∈ lw_all := lw_g (lw_at lw_m2 92 rfl) rfl
theorem q498 : (Jvm.Cond.soleField "WoodState$Fault" "place") ∈ lw_all := lw_g (lw_at lw_m2 93 rfl) rfl
theorem q503 : (Jvm.Cond.lays "WoodState$Fault" "java/lang/Throwable" "depth" "I") ∈ lw_all := lw_g (lw_at lw_m2 98 rfl) rfl
theorem q506 : (Jvm.Cond.superclass "WoodState$Fault" "java/lang/RuntimeException") ∈ lw_all := lw_g (lw_at lw_m2 101 rfl) rfl
theorem in_X4 : ∀ w ∈ wsX40, w ∈ lw_all := lw_in wsX40 [433, 435, 437, 439, 441, 503, 497] (by decide +kernel) (by decide +kernel)

theorem q175 : (Jvm.Cond.initialized "WoodState$Line") ∈ lw_all := lw_g (lw_at lw_m1 10 rfl) rfl
theorem q511 : (Jvm.Cond.instantiable "WoodState$Line" (4 : Nat)) ∈ lw_all := lw_g (lw_at lw_m2 106 rfl) rfl
theorem q513 : (Jvm.Cond.instanceMethod ({ cls := "WoodState$Line", name := "<init>", desc := "()V" } : Jvm.MethodName)) ∈ lw_all := lw_g (lw_at lw_m2 108 rfl) rfl
theorem q514 : (Jvm.Cond.code ({ cls := "WoodState$Line", name := "<init>", desc := "()V" } : Jvm.MethodName) prog_6_method_1_code (1 : Nat) (Option.none : Option Jvm.ClassFile.FieldType)) ∈ lw_all := lw_g (lw_at lw_m2 109 rfl) rfl
theorem q515 : (Jvm.Cond.methodLink "WoodState$Line" (3 : Nat) ({ cls := "java/lang/Object", name := "<init>", desc := "()V" } : Jvm.MethodName)) ∈ lw_all := lw_g (lw_at lw_m2 110 rfl) rfl
theorem q523 : (Jvm.Cond.fieldLink "WoodState$Line" (9 : Nat) "WoodState$Line" "strikes" "I") ∈ lw_all := lw_g (lw_at lw_m2 118 rfl) rfl
theorem q526 : (Jvm.Cond.lays "WoodState$Line" "WoodState$Line" "key" "I") ∈ lw_all := lw_g (lw_at lw_m2 121 rfl) rfl
theorem q527 : (Jvm.Cond.soleField "WoodState$Line" "key") ∈ lw_all := lw_g (lw_at lw_m2 122 rfl) rfl
theorem q528 : (Jvm.Cond.lays "WoodState$Line" "WoodState$Line" "says" "LWoodState$Part;") ∈ lw_all := lw_g (lw_at lw_m2 123 rfl) rfl
theorem q529 : (Jvm.Cond.soleField "WoodState$Line" "says") ∈ lw_all := lw_g (lw_at lw_m2 124 rfl) rfl
theorem q530 : (Jvm.Cond.lays "WoodState$Line" "WoodState$Line" "when" "LWoodState$Part;") ∈ lw_all := lw_g (lw_at lw_m2 125 rfl) rfl
theorem q531 : (Jvm.Cond.soleField "WoodState$Line" "when") ∈ lw_all := lw_g (lw_at lw_m2 126 rfl) rfl
theorem q532 : (Jvm.Cond.lays "WoodState$Line" "WoodState$Line" "strikes" "I") ∈ lw_all := lw_g (lw_at lw_m2 127 rfl) rfl
theorem q533 : (Jvm.Cond.soleField "WoodState$Line" "strikes") ∈ lw_all := lw_g (lw_at lw_m2 128 rfl) rfl
theorem q534 : (Jvm.Cond.superclass "WoodState$Line" "java/lang/Object") ∈ lw_all := lw_g (lw_at lw_m2 129 rfl) rfl
theorem in_X5 : ∀ w ∈ wsX50, w ∈ lw_all := lw_in wsX50 [526, 528, 530, 532] (by decide +kernel) (by decide +kernel)

theorem q176 : (Jvm.Cond.initialized "WoodState$Refusal") ∈ lw_all := lw_g (lw_at lw_m1 11 rfl) rfl
theorem q455 : (Jvm.Cond.selects "WoodState$Refusal" ({ cls := "java/lang/Throwable", name := "fillInStackTrace", desc := "()Ljava/lang/Throwable;" } : Jvm.MethodName) ({ cls := "java/lang/Throwable", name := "fillInStackTrace", desc := "()Ljava/lang/Throwable;" } : Jvm.MethodName)) ∈ lw_all := lw_g (lw_at lw_m2 50 rfl) rfl
theorem q577 : (Jvm.Cond.instantiable "WoodState$Refusal" (7 : Nat)) ∈ lw_all := lw_g (lw_at lw_m2 172 rfl) rfl
theorem q578 : (Jvm.Cond.castable "WoodState$Refusal" "WoodState$Refusal") ∈ lw_tbl := lw_at lw_m2 173 rfl
theorem q579 : (Jvm.Cond.selects "WoodState$Refusal" ({ cls := "java/lang/Throwable", name := "fillInStackTrace", desc := "(I)Ljava/lang/Throwable;" } : Jvm.MethodName) ({ cls := "java/lang/Throwable", name := "fillInStackTrace", desc := "(I)Ljava/lang/Throwable;" } : Jvm.MethodName)) ∈ lw_all := lw_g (lw_at lw_m2 174 rfl) rfl
theorem q580 : (Jvm.Cond.lays "WoodState$Refusal" "java/lang/Throwable" "cause" "Ljava/lang/Throwable;") ∈ lw_all := lw_g (lw_at lw_m2 175 rfl) rfl
theorem q581 : (Jvm.Cond.lays "WoodState$Refusal" "java/lang/Throwable" "stackTrace" "[Ljava/lang/StackTraceElement;") ∈ lw_all := lw_g (lw_at lw_m2 176 rfl) rfl
theorem q582 : (Jvm.Cond.lays "WoodState$Refusal" "java/lang/Throwable" "suppressedExceptions" "Ljava/util/List;") ∈ lw_all := lw_g (lw_at lw_m2 177 rfl) rfl
theorem q583 : (Jvm.Cond.lays "WoodState$Refusal" "java/lang/Throwable" "detailMessage" "Ljava/lang/String;") ∈ lw_all := lw_g (lw_at lw_m2 178 rfl) rfl
theorem q584 : (Jvm.Cond.lays "WoodState$Refusal" "java/lang/Throwable" "backtrace" "Ljava/lang/Object;") ∈ lw_all := lw_g (lw_at lw_m2 179 rfl) rfl
theorem q586 : (Jvm.Cond.instanceMethod ({ cls := "WoodState$Refusal", name := "<init>", desc := "(I)V" } : Jvm.MethodName)) ∈ lw_all := lw_g (lw_at lw_m2 181 rfl) rfl
theorem q587 : (Jvm.Cond.code ({ cls := "WoodState$Refusal", name := "<init>", desc := "(I)V" } : Jvm.MethodName) prog_16_method_1_code (2 : Nat) (Option.none : Option Jvm.ClassFile.FieldType)) ∈ lw_all := lw_g (lw_at lw_m2 182 rfl) rfl
theorem q588 : (Jvm.Cond.methodLink "WoodState$Refusal" (1 : Nat) ({ cls := "java/lang/RuntimeException", name := "<init>", desc := "(Ljava/lang/String;Ljava/lang/Throwable;ZZ)V" } : Jvm.MethodName)) ∈ lw_all := lw_g (lw_at lw_m2 183 rfl) rfl
theorem q589 : (Jvm.Cond.fieldLink "WoodState$Refusal" (7 : Nat) "WoodState$Refusal" "code" "I") ∈ lw_all := lw_g (lw_at lw_m2 184 rfl) rfl
theorem q591 : (Jvm.Cond.laysFinal "WoodState$Refusal" "WoodState$Refusal" "code" "I") ∈ lw_all := lw_g (lw_at lw_m2 186 rfl) rfl
theorem q592 : (Jvm.Cond.soleField "WoodState$Refusal" "code") ∈ lw_all := lw_g (lw_at lw_m2 187 rfl) rfl
theorem q593 : (Jvm.Cond.lays "WoodState$Refusal" "java/lang/Throwable" "depth" "I") ∈ lw_all := lw_g (lw_at lw_m2 188 rfl) rfl
theorem q594 : (Jvm.Cond.superclass "WoodState$Refusal" "java/lang/RuntimeException") ∈ lw_all := lw_g (lw_at lw_m2 189 rfl) rfl
theorem in_X6 : ∀ w ∈ wsX60, w ∈ lw_all := lw_in wsX60 [580, 581, 582, 583, 584, 593, 591] (by decide +kernel) (by decide +kernel)

theorem q177 : (Jvm.Cond.initialized "WoodStateModel") ∈ lw_all := lw_g (lw_at lw_m1 12 rfl) rfl
theorem q1620 : (Jvm.Cond.instantiable "WoodStateModel" (41 : Nat)) ∈ lw_all := lw_g (lw_at lw_m7 15 rfl) rfl
theorem q1622 : (Jvm.Cond.instanceMethod ({ cls := "WoodStateModel", name := "<init>", desc := "()V" } : Jvm.MethodName)) ∈ lw_all := lw_g (lw_at lw_m7 17 rfl) rfl
theorem q1623 : (Jvm.Cond.code ({ cls := "WoodStateModel", name := "<init>", desc := "()V" } : Jvm.MethodName) prog_19_method_3_code (2 : Nat) (Option.none : Option Jvm.ClassFile.FieldType)) ∈ lw_all := lw_g (lw_at lw_m7 18 rfl) rfl
theorem q1624 : (Jvm.Cond.methodLink "WoodStateModel" (7 : Nat) ({ cls := "java/lang/Object", name := "<init>", desc := "()V" } : Jvm.MethodName)) ∈ lw_all := lw_g (lw_at lw_m7 19 rfl) rfl
theorem q1625 : (Jvm.Cond.methodLink "WoodStateModel" (73 : Nat) ({ cls := "WoodStateModel", name := "measure", desc := "()V" } : Jvm.MethodName)) ∈ lw_all := lw_g (lw_at lw_m7 20 rfl) rfl
theorem q1626 : (Jvm.Cond.privateMethod ({ cls := "WoodStateModel", name := "measure", desc := "()V" } : Jvm.MethodName)) ∈ lw_tbl := lw_at lw_m7 21 rfl
theorem q1627 : (Jvm.Cond.instanceMethod ({ cls := "WoodStateModel", name := "measure", desc := "()V" } : Jvm.MethodName)) ∈ lw_all := lw_g (lw_at lw_m7 22 rfl) rfl
theorem q1628 : (Jvm.Cond.code ({ cls := "WoodStateModel", name := "measure", desc := "()V" } : Jvm.MethodName) prog_19_method_21_code (6 : Nat) (Option.none : Option Jvm.ClassFile.FieldType)) ∈ lw_all := lw_g (lw_at lw_m7 23 rfl) rfl
theorem q1629 : (Jvm.Cond.constant "WoodStateModel" (136 : Nat) (999999 : Int32)) ∈ lw_all := lw_g (lw_at lw_m7 24 rfl) rfl
theorem q1630 : (Jvm.Cond.fieldLink "WoodStateModel" (13 : Nat) "WoodStateModel" "s" "[I") ∈ lw_all := lw_g (lw_at lw_m7 25 rfl) rfl
theorem q1631 : (Jvm.Cond.fieldLink "WoodStateModel" (17 : Nat) "WoodStateModel" "books" "[J") ∈ lw_all := lw_g (lw_at lw_m7 26 rfl) rfl
theorem q1632 : (Jvm.Cond.fieldLink "WoodStateModel" (21 : Nat) "WoodStateModel" "refusals" "[I") ∈ lw_all := lw_g (lw_at lw_m7 27 rfl) rfl
theorem q1633 : (Jvm.Cond.fieldLink "WoodStateModel" (24 : Nat) "WoodStateModel" "tape" "[I") ∈ lw_all := lw_g (lw_at lw_m7 28 rfl) rfl
theorem q1634 : (Jvm.Cond.fieldLink "WoodStateModel" (326 : Nat) "WoodStateModel" "taped" "I") ∈ lw_all := lw_g (lw_at lw_m7 29 rfl) rfl
theorem q1635 : (Jvm.Cond.fieldLink "WoodStateModel" (27 : Nat) "WoodStateModel" "text" "[I") ∈ lw_all := lw_g (lw_at lw_m7 30 rfl) rfl
theorem q1636 : (Jvm.Cond.fieldLink "WoodStateModel" (168 : Nat) "WoodStateModel" "size" "I") ∈ lw_all := lw_g (lw_at lw_m7 31 rfl) rfl
theorem q1637 : (Jvm.Cond.fieldLink "WoodStateModel" (180 : Nat) "WoodStateModel" "token" "I") ∈ lw_all := lw_g (lw_at lw_m7 32 rfl) rfl
theorem q1638 : (Jvm.Cond.fieldLink "WoodStateModel" (177 : Nat) "WoodStateModel" "tokenAt" "I") ∈ lw_all := lw_g (lw_at lw_m7 33 rfl) rfl
theorem q1639 : (Jvm.Cond.fieldLink "WoodStateModel" (183 : Nat) "WoodStateModel" "tokenWorth" "J") ∈ lw_all := lw_g (lw_at lw_m7 34 rfl) rfl
theorem q1640 : (Jvm.Cond.fieldLink "WoodStateModel" (171 : Nat) "WoodStateModel" "here" "I") ∈ lw_all := lw_g (lw_at lw_m7 35 rfl) rfl
theorem q1641 : (Jvm.Cond.fieldLink "WoodStateModel" (204 : Nat) "WoodStateModel" "open" "I") ∈ lw_all := lw_g (lw_at lw_m7 36 rfl) rfl
theorem q1642 : (Jvm.Cond.fieldLink "WoodStateModel" (197 : Nat) "WoodStateModel" "bad" "Z") ∈ lw_all := lw_g (lw_at lw_m7 37 rfl) rfl
theorem q1643 : (Jvm.Cond.fieldLink "WoodStateModel" (201 : Nat) "WoodStateModel" "fault" "I") ∈ lw_all := lw_g (lw_at lw_m7 38 rfl) rfl
theorem q1644 : (Jvm.Cond.fieldLink "WoodStateModel" (213 : Nat) "WoodStateModel" "about" "I") ∈ lw_all := lw_g (lw_at lw_m7 39 rfl) rfl
theorem q1645 : (Jvm.Cond.fieldLink "WoodStateModel" (222 : Nat) "WoodStateModel" "asked" "I") ∈ lw_all := lw_g (lw_at lw_m7 40 rfl) rfl
theorem q1646 : (Jvm.Cond.fieldLink "WoodStateModel" (30 : Nat) "WoodStateModel" "oldAs" "I") ∈ lw_all := lw_g (lw_at lw_m7 41 rfl) rfl
theorem q1647 : (Jvm.Cond.fieldLink "WoodStateModel" (308 : Nat) "WoodStateModel" "key" "I") ∈ lw_all := lw_g (lw_at lw_m7 42 rfl) rfl
theorem q1648 : (Jvm.Cond.fieldLink "WoodStateModel" (314 : Nat) "WoodStateModel" "said" "I") ∈ lw_all := lw_g (lw_at lw_m7 43 rfl) rfl
theorem q1649 : (Jvm.Cond.fieldLink "WoodStateModel" (311 : Nat) "WoodStateModel" "isSo" "Z") ∈ lw_all := lw_g (lw_at lw_m7 44 rfl) rfl
theorem q1650 : (Jvm.Cond.fieldLink "WoodStateModel" (33 : Nat) "WoodStateModel" "kept" "[I") ∈ lw_all := lw_g (lw_at lw_m7 45 rfl) rfl
theorem q1651 : (Jvm.Cond.fieldLink "WoodStateModel" (400 : Nat) "WoodStateModel" "many" "I") ∈ lw_all := lw_g (lw_at lw_m7 46 rfl) rfl
theorem q1652 : (Jvm.Cond.fieldLink "WoodStateModel" (403 : Nat) "WoodStateModel" "tens" "I") ∈ lw_all := lw_g (lw_at lw_m7 47 rfl) rfl
theorem q1653 : (Jvm.Cond.fieldLink "WoodStateModel" (36 : Nat) "WoodStateModel" "who" "[I") ∈ lw_all := lw_g (lw_at lw_m7 48 rfl) rfl
theorem q1654 : (Jvm.Cond.fieldLink "WoodStateModel" (39 : Nat) "WoodStateModel" "ten" "[I") ∈ lw_all := lw_g (lw_at lw_m7 49 rfl) rfl
theorem q1655 : (Jvm.Cond.fieldLink "WoodStateModel" (42 : Nat) "WoodStateModel" "bestTen" "[I") ∈ lw_all := lw_g (lw_at lw_m7 50 rfl) rfl
theorem q1656 : (Jvm.Cond.fieldLink "WoodStateModel" (45 : Nat) "WoodStateModel" "woodThen" "[I") ∈ lw_all := lw_g (lw_at lw_m7 51 rfl) rfl
theorem q1657 : (Jvm.Cond.fieldLink "WoodStateModel" (48 : Nat) "WoodStateModel" "oldThen" "[Z") ∈ lw_all := lw_g (lw_at lw_m7 52 rfl) rfl
theorem q1658 : (Jvm.Cond.fieldLink "WoodStateModel" (52 : Nat) "WoodStateModel" "mayBeNear" "[Z") ∈ lw_all := lw_g (lw_at lw_m7 53 rfl) rfl
theorem q1659 : (Jvm.Cond.fieldLink "WoodStateModel" (55 : Nat) "WoodStateModel" "areas" "[I") ∈ lw_all := lw_g (lw_at lw_m7 54 rfl) rfl
theorem q1660 : (Jvm.Cond.fieldLink "WoodStateModel" (409 : Nat) "WoodStateModel" "least" "J") ∈ lw_all := lw_g (lw_at lw_m7 55 rfl) rfl
theorem q1661 : (Jvm.Cond.fieldLink "WoodStateModel" (406 : Nat) "WoodStateModel" "all" "J") ∈ lw_all := lw_g (lw_at lw_m7 56 rfl) rfl
theorem q1662 : (Jvm.Cond.fieldLink "WoodStateModel" (58 : Nat) "WoodStateModel" "image" "[I") ∈ lw_all := lw_g (lw_at lw_m7 57 rfl) rfl
theorem q1663 : (Jvm.Cond.fieldLink "WoodStateModel" (61 : Nat) "WoodStateModel" "imageBooks" "[J") ∈ lw_all := lw_g (lw_at lw_m7 58 rfl) rfl
theorem q1664 : (Jvm.Cond.fieldLink "WoodStateModel" (446 : Nat) "WoodStateModel" "hasImage" "Z") ∈ lw_all := lw_g (lw_at lw_m7 59 rfl) rfl
theorem q1665 : (Jvm.Cond.fieldLink "WoodStateModel" (64 : Nat) "WoodStateModel" "tried" "[I") ∈ lw_all := lw_g (lw_at lw_m7 60 rfl) rfl
theorem q1666 : (Jvm.Cond.fieldLink "WoodStateModel" (67 : Nat) "WoodStateModel" "triedBooks" "[J") ∈ lw_all := lw_g (lw_at lw_m7 61 rfl) rfl
theorem q1667 : (Jvm.Cond.fieldLink "WoodStateModel" (70 : Nat) "WoodStateModel" "row" "[I") ∈ lw_all := lw_g (lw_at lw_m7 62 rfl) rfl
theorem q1668 : (Jvm.Cond.fieldLink "WoodStateModel" (359 : Nat) "WoodStateModel" "rowSize" "I") ∈ lw_all := lw_g (lw_at lw_m7 63 rfl) rfl
theorem q1669 : (Jvm.Cond.fieldLink "WoodStateModel" (356 : Nat) "WoodStateModel" "isRow" "Z") ∈ lw_all := lw_g (lw_at lw_m7 64 rfl) rfl
theorem q1670 : (Jvm.Cond.lays "WoodStateModel" "WoodStateModel" "thrown" "I") ∈ lw_all := lw_g (lw_at lw_m7 65 rfl) rfl
theorem q1671 : (Jvm.Cond.soleField "WoodStateModel" "thrown") ∈ lw_all := lw_g (lw_at lw_m7 66 rfl) rfl
theorem q1672 : (Jvm.Cond.laysFinal "WoodStateModel" "WoodStateModel" "s" "[I") ∈ lw_all := lw_g (lw_at lw_m7 67 rfl) rfl
theorem q1673 : (Jvm.Cond.soleField "WoodStateModel" "s") ∈ lw_all := lw_g (lw_at lw_m7 68 rfl) rfl
theorem q1674 : (Jvm.Cond.laysFinal "WoodStateModel" "WoodStateModel" "books" "[J") ∈ lw_all := lw_g (lw_at lw_m7 69 rfl) rfl
theorem q1675 : (Jvm.Cond.soleField "WoodStateModel" "books") ∈ lw_all := lw_g (lw_at lw_m7 70 rfl) rfl
theorem q1676 : (Jvm.Cond.laysFinal "WoodStateModel" "WoodStateModel" "refusals" "[I") ∈ lw_all := lw_g (lw_at lw_m7 71 rfl) rfl
theorem q1677 : (Jvm.Cond.soleField "WoodStateModel" "refusals") ∈ lw_all := lw_g (lw_at lw_m7 72 rfl) rfl
theorem q1678 : (Jvm.Cond.laysFinal "WoodStateModel" "WoodStateModel" "tape" "[I") ∈ lw_all := lw_g (lw_at lw_m7 73 rfl) rfl
theorem q1679 : (Jvm.Cond.soleField "WoodStateModel" "tape") ∈ lw_all := lw_g (lw_at lw_m7 74 rfl) rfl
theorem q1680 : (Jvm.Cond.lays "WoodStateModel" "WoodStateModel" "taped" "I") ∈ lw_all := lw_g (lw_at lw_m7 75 rfl) rfl
theorem q1681 : (Jvm.Cond.soleField "WoodStateModel" "taped") ∈ lw_all := lw_g (lw_at lw_m7 76 rfl) rfl
theorem q1682 : (Jvm.Cond.laysFinal "WoodStateModel" "WoodStateModel" "text" "[I") ∈ lw_all := lw_g (lw_at lw_m7 77 rfl) rfl
theorem q1683 : (Jvm.Cond.soleField "WoodStateModel" "text") ∈ lw_all := lw_g (lw_at lw_m7 78 rfl) rfl
theorem q1684 : (Jvm.Cond.lays "WoodStateModel" "WoodStateModel" "size" "I") ∈ lw_all := lw_g (lw_at lw_m7 79 rfl) rfl
theorem q1685 : (Jvm.Cond.soleField "WoodStateModel" "size") ∈ lw_all := lw_g (lw_at lw_m7 80 rfl) rfl
theorem q1686 : (Jvm.Cond.lays "WoodStateModel" "WoodStateModel" "token" "I") ∈ lw_all := lw_g (lw_at lw_m7 81 rfl) rfl
theorem q1687 : (Jvm.Cond.soleField "WoodStateModel" "token") ∈ lw_all := lw_g (lw_at lw_m7 82 rfl) rfl
theorem q1688 : (Jvm.Cond.lays "WoodStateModel" "WoodStateModel" "tokenAt" "I") ∈ lw_all := lw_g (lw_at lw_m7 83 rfl) rfl
theorem q1689 : (Jvm.Cond.soleField "WoodStateModel" "tokenAt") ∈ lw_all := lw_g (lw_at lw_m7 84 rfl) rfl
theorem q1690 : (Jvm.Cond.lays "WoodStateModel" "WoodStateModel" "tokenWorth" "J") ∈ lw_all := lw_g (lw_at lw_m7 85 rfl) rfl
theorem q1691 : (Jvm.Cond.soleField "WoodStateModel" "tokenWorth") ∈ lw_all := lw_g (lw_at lw_m7 86 rfl) rfl
theorem q1692 : (Jvm.Cond.lays "WoodStateModel" "WoodStateModel" "here" "I") ∈ lw_all := lw_g (lw_at lw_m7 87 rfl) rfl
theorem q1693 : (Jvm.Cond.soleField "WoodStateModel" "here") ∈ lw_all := lw_g (lw_at lw_m7 88 rfl) rfl
theorem q1694 : (Jvm.Cond.lays "WoodStateModel" "WoodStateModel" "open" "I") ∈ lw_all := lw_g (lw_at lw_m7 89 rfl) rfl
theorem q1695 : (Jvm.Cond.soleField "WoodStateModel" "open") ∈ lw_all := lw_g (lw_at lw_m7 90 rfl) rfl
theorem q1696 : (Jvm.Cond.lays "WoodStateModel" "WoodStateModel" "bad" "Z") ∈ lw_all := lw_g (lw_at lw_m7 91 rfl) rfl
theorem q1697 : (Jvm.Cond.soleField "WoodStateModel" "bad") ∈ lw_all := lw_g (lw_at lw_m7 92 rfl) rfl
theorem q1698 : (Jvm.Cond.lays "WoodStateModel" "WoodStateModel" "fault" "I") ∈ lw_all := lw_g (lw_at lw_m7 93 rfl) rfl
theorem q1699 : (Jvm.Cond.soleField "WoodStateModel" "fault") ∈ lw_all := lw_g (lw_at lw_m7 94 rfl) rfl
theorem q1700 : (Jvm.Cond.lays "WoodStateModel" "WoodStateModel" "about" "I") ∈ lw_all := lw_g (lw_at lw_m7 95 rfl) rfl
theorem q1701 : (Jvm.Cond.soleField "WoodStateModel" "about") ∈ lw_all := lw_g (lw_at lw_m7 96 rfl) rfl
theorem q1702 : (Jvm.Cond.lays "WoodStateModel" "WoodStateModel" "asked" "I") ∈ lw_all := lw_g (lw_at lw_m7 97 rfl) rfl
theorem q1703 : (Jvm.Cond.soleField "WoodStateModel" "asked") ∈ lw_all := lw_g (lw_at lw_m7 98 rfl) rfl
theorem q1704 : (Jvm.Cond.lays "WoodStateModel" "WoodStateModel" "oldAs" "I") ∈ lw_all := lw_g (lw_at lw_m7 99 rfl) rfl
theorem q1705 : (Jvm.Cond.soleField "WoodStateModel" "oldAs") ∈ lw_all := lw_g (lw_at lw_m7 100 rfl) rfl
theorem q1706 : (Jvm.Cond.lays "WoodStateModel" "WoodStateModel" "key" "I") ∈ lw_all := lw_g (lw_at lw_m7 101 rfl) rfl
theorem q1707 : (Jvm.Cond.soleField "WoodStateModel" "key") ∈ lw_all := lw_g (lw_at lw_m7 102 rfl) rfl
theorem q1708 : (Jvm.Cond.lays "WoodStateModel" "WoodStateModel" "said" "I") ∈ lw_all := lw_g (lw_at lw_m7 103 rfl) rfl
theorem q1709 : (Jvm.Cond.soleField "WoodStateModel" "said") ∈ lw_all := lw_g (lw_at lw_m7 104 rfl) rfl
theorem q1710 : (Jvm.Cond.lays "WoodStateModel" "WoodStateModel" "isSo" "Z") ∈ lw_all := lw_g (lw_at lw_m7 105 rfl) rfl
theorem q1711 : (Jvm.Cond.soleField "WoodStateModel" "isSo") ∈ lw_all := lw_g (lw_at lw_m7 106 rfl) rfl
theorem q1712 : (Jvm.Cond.laysFinal "WoodStateModel" "WoodStateModel" "kept" "[I") ∈ lw_all := lw_g (lw_at lw_m7 107 rfl) rfl
theorem q1713 : (Jvm.Cond.soleField "WoodStateModel" "kept") ∈ lw_all := lw_g (lw_at lw_m7 108 rfl) rfl
theorem q1714 : (Jvm.Cond.lays "WoodStateModel" "WoodStateModel" "many" "I") ∈ lw_all := lw_g (lw_at lw_m7 109 rfl) rfl
theorem q1715 : (Jvm.Cond.soleField "WoodStateModel" "many") ∈ lw_all := lw_g (lw_at lw_m7 110 rfl) rfl
theorem q1716 : (Jvm.Cond.lays "WoodStateModel" "WoodStateModel" "tens" "I") ∈ lw_all := lw_g (lw_at lw_m7 111 rfl) rfl
theorem q1717 : (Jvm.Cond.soleField "WoodStateModel" "tens") ∈ lw_all := lw_g (lw_at lw_m7 112 rfl) rfl
theorem q1718 : (Jvm.Cond.laysFinal "WoodStateModel" "WoodStateModel" "who" "[I") ∈ lw_all := lw_g (lw_at lw_m7 113 rfl) rfl
theorem q1719 : (Jvm.Cond.soleField "WoodStateModel" "who") ∈ lw_all := lw_g (lw_at lw_m7 114 rfl) rfl
theorem q1720 : (Jvm.Cond.laysFinal "WoodStateModel" "WoodStateModel" "ten" "[I") ∈ lw_all := lw_g (lw_at lw_m7 115 rfl) rfl
theorem q1721 : (Jvm.Cond.soleField "WoodStateModel" "ten") ∈ lw_all := lw_g (lw_at lw_m7 116 rfl) rfl
theorem q1722 : (Jvm.Cond.laysFinal "WoodStateModel" "WoodStateModel" "bestTen" "[I") ∈ lw_all := lw_g (lw_at lw_m7 117 rfl) rfl
theorem q1723 : (Jvm.Cond.soleField "WoodStateModel" "bestTen") ∈ lw_all := lw_g (lw_at lw_m7 118 rfl) rfl
theorem q1724 : (Jvm.Cond.laysFinal "WoodStateModel" "WoodStateModel" "woodThen" "[I") ∈ lw_all := lw_g (lw_at lw_m7 119 rfl) rfl
theorem q1725 : (Jvm.Cond.soleField "WoodStateModel" "woodThen") ∈ lw_all := lw_g (lw_at lw_m7 120 rfl) rfl
theorem q1726 : (Jvm.Cond.laysFinal "WoodStateModel" "WoodStateModel" "oldThen" "[Z") ∈ lw_all := lw_g (lw_at lw_m7 121 rfl) rfl
theorem q1727 : (Jvm.Cond.soleField "WoodStateModel" "oldThen") ∈ lw_all := lw_g (lw_at lw_m7 122 rfl) rfl
theorem q1728 : (Jvm.Cond.laysFinal "WoodStateModel" "WoodStateModel" "mayBeNear" "[Z") ∈ lw_all := lw_g (lw_at lw_m7 123 rfl) rfl
theorem q1729 : (Jvm.Cond.soleField "WoodStateModel" "mayBeNear") ∈ lw_all := lw_g (lw_at lw_m7 124 rfl) rfl
theorem q1730 : (Jvm.Cond.laysFinal "WoodStateModel" "WoodStateModel" "areas" "[I") ∈ lw_all := lw_g (lw_at lw_m7 125 rfl) rfl
theorem q1731 : (Jvm.Cond.soleField "WoodStateModel" "areas") ∈ lw_all := lw_g (lw_at lw_m7 126 rfl) rfl
theorem q1732 : (Jvm.Cond.lays "WoodStateModel" "WoodStateModel" "least" "J") ∈ lw_all := lw_g (lw_at lw_m7 127 rfl) rfl
theorem q1733 : (Jvm.Cond.soleField "WoodStateModel" "least") ∈ lw_all := lw_g (lw_at lw_m7 128 rfl) rfl
theorem q1734 : (Jvm.Cond.lays "WoodStateModel" "WoodStateModel" "all" "J") ∈ lw_all := lw_g (lw_at lw_m7 129 rfl) rfl
theorem q1735 : (Jvm.Cond.soleField "WoodStateModel" "all") ∈ lw_all := lw_g (lw_at lw_m7 130 rfl) rfl
theorem q1736 : (Jvm.Cond.laysFinal "WoodStateModel" "WoodStateModel" "image" "[I") ∈ lw_all := lw_g (lw_at lw_m7 131 rfl) rfl
theorem q1737 : (Jvm.Cond.soleField "WoodStateModel" "image") ∈ lw_all := lw_g (lw_at lw_m7 132 rfl) rfl
theorem q1738 : (Jvm.Cond.laysFinal "WoodStateModel" "WoodStateModel" "imageBooks" "[J") ∈ lw_all := lw_g (lw_at lw_m7 133 rfl) rfl
theorem q1739 : (Jvm.Cond.soleField "WoodStateModel" "imageBooks") ∈ lw_all := lw_g (lw_at lw_m7 134 rfl) rfl
theorem q1740 : (Jvm.Cond.lays "WoodStateModel" "WoodStateModel" "hasImage" "Z") ∈ lw_all := lw_g (lw_at lw_m7 135 rfl) rfl
theorem q1741 : (Jvm.Cond.soleField "WoodStateModel" "hasImage") ∈ lw_all := lw_g (lw_at lw_m7 136 rfl) rfl
theorem q1742 : (Jvm.Cond.laysFinal "WoodStateModel" "WoodStateModel" "tried" "[I") ∈ lw_all := lw_g (lw_at lw_m7 137 rfl) rfl
theorem q1743 : (Jvm.Cond.soleField "WoodStateModel" "tried") ∈ lw_all := lw_g (lw_at lw_m7 138 rfl) rfl
theorem q1744 : (Jvm.Cond.laysFinal "WoodStateModel" "WoodStateModel" "triedBooks" "[J") ∈ lw_all := lw_g (lw_at lw_m7 139 rfl) rfl
theorem q1745 : (Jvm.Cond.soleField "WoodStateModel" "triedBooks") ∈ lw_all := lw_g (lw_at lw_m7 140 rfl) rfl
theorem q1746 : (Jvm.Cond.laysFinal "WoodStateModel" "WoodStateModel" "row" "[I") ∈ lw_all := lw_g (lw_at lw_m7 141 rfl) rfl
theorem q1747 : (Jvm.Cond.soleField "WoodStateModel" "row") ∈ lw_all := lw_g (lw_at lw_m7 142 rfl) rfl
theorem q1748 : (Jvm.Cond.lays "WoodStateModel" "WoodStateModel" "rowSize" "I") ∈ lw_all := lw_g (lw_at lw_m7 143 rfl) rfl
theorem q1749 : (Jvm.Cond.soleField "WoodStateModel" "rowSize") ∈ lw_all := lw_g (lw_at lw_m7 144 rfl) rfl
theorem q1750 : (Jvm.Cond.lays "WoodStateModel" "WoodStateModel" "isRow" "Z") ∈ lw_all := lw_g (lw_at lw_m7 145 rfl) rfl
theorem q1751 : (Jvm.Cond.soleField "WoodStateModel" "isRow") ∈ lw_all := lw_g (lw_at lw_m7 146 rfl) rfl
theorem q1752 : (Jvm.Cond.superclass "WoodStateModel" "java/lang/Object") ∈ lw_all := lw_g (lw_at lw_m7 147 rfl) rfl
theorem q1754 : (Jvm.Cond.instanceMethod ({ cls := "WoodStateModel", name := "status", desc := "(I)I" } : Jvm.MethodName)) ∈ lw_all := lw_g (lw_at lw_m7 149 rfl) rfl
theorem q1755 : (Jvm.Cond.selects "WoodStateModel" ({ cls := "WoodStateModel", name := "status", desc := "(I)I" } : Jvm.MethodName) ({ cls := "WoodStateModel", name := "status", desc := "(I)I" } : Jvm.MethodName)) ∈ lw_all := lw_g (lw_at lw_m7 150 rfl) rfl
theorem q1756 : (Jvm.Cond.code ({ cls := "WoodStateModel", name := "status", desc := "(I)I" } : Jvm.MethodName) prog_19_method_6_code (2 : Nat) (Option.some Jvm.ClassFile.FieldType.int)) ∈ lw_all := lw_g (lw_at lw_m7 151 rfl) rfl
theorem q1757 : (Jvm.Cond.methodLink "WoodStateModel" (76 : Nat) ({ cls := "WoodStateModel", name := "in", desc := "(III)Z" } : Jvm.MethodName)) ∈ lw_all := lw_g (lw_at lw_m7 152 rfl) rfl
theorem q1758 : (Jvm.Cond.static ({ cls := "WoodStateModel", name := "in", desc := "(III)Z" } : Jvm.MethodName)) ∈ lw_all := lw_g (lw_at lw_m7 153 rfl) rfl
theorem q1759 : (Jvm.Cond.code ({ cls := "WoodStateModel", name := "in", desc := "(III)Z" } : Jvm.MethodName) prog_19_method_2_code (3 : Nat) (Option.some Jvm.ClassFile.FieldType.boolean)) ∈ lw_all := lw_g (lw_at lw_m7 154 rfl) rfl
theorem q1760 : (Jvm.Cond.methodLink "WoodStateModel" (80 : Nat) ({ cls := "WoodStateModel", name := "refuse", desc := "(I)I" } : Jvm.MethodName)) ∈ lw_all := lw_g (lw_at lw_m7 155 rfl) rfl
theorem q1761 : (Jvm.Cond.privateMethod ({ cls := "WoodStateModel", name := "refuse", desc := "(I)I" } : Jvm.MethodName)) ∈ lw_tbl := lw_at lw_m7 156 rfl
theorem q1762 : (Jvm.Cond.instanceMethod ({ cls := "WoodStateModel", name := "refuse", desc := "(I)I" } : Jvm.MethodName)) ∈ lw_all := lw_g (lw_at lw_m7 157 rfl) rfl
theorem q1763 : (Jvm.Cond.code ({ cls := "WoodStateModel", name := "refuse", desc := "(I)I" } : Jvm.MethodName) prog_19_method_4_code (2 : Nat) (Option.some Jvm.ClassFile.FieldType.int)) ∈ lw_all := lw_g (lw_at lw_m7 158 rfl) rfl
theorem q1765 : (Jvm.Cond.instanceMethod ({ cls := "WoodStateModel", name := "stand", desc := "(IIII)I" } : Jvm.MethodName)) ∈ lw_all := lw_g (lw_at lw_m7 160 rfl) rfl
theorem q1766 : (Jvm.Cond.selects "WoodStateModel" ({ cls := "WoodStateModel", name := "stand", desc := "(IIII)I" } : Jvm.MethodName) ({ cls := "WoodStateModel", name := "stand", desc := "(IIII)I" } : Jvm.MethodName)) ∈ lw_all := lw_g (lw_at lw_m7 161 rfl) rfl
theorem q1767 : (Jvm.Cond.code ({ cls := "WoodStateModel", name := "stand", desc := "(IIII)I" } : Jvm.MethodName) prog_19_method_16_code (7 : Nat) (Option.some Jvm.ClassFile.FieldType.int)) ∈ lw_all := lw_g (lw_at lw_m7 162 rfl) rfl
theorem q1769 : (Jvm.Cond.instanceMethod ({ cls := "WoodStateModel", name := "neighbours", desc := "(II)I" } : Jvm.MethodName)) ∈ lw_all := lw_g (lw_at lw_m7 164 rfl) rfl
theorem q1770 : (Jvm.Cond.selects "WoodStateModel" ({ cls := "WoodStateModel", name := "neighbours", desc := "(II)I" } : Jvm.MethodName) ({ cls := "WoodStateModel", name := "neighbours", desc := "(II)I" } : Jvm.MethodName)) ∈ lw_all := lw_g (lw_at lw_m7 165 rfl) rfl
theorem q1771 : (Jvm.Cond.code ({ cls := "WoodStateModel", name := "neighbours", desc := "(II)I" } : Jvm.MethodName) prog_19_method_17_code (3 : Nat) (Option.some Jvm.ClassFile.FieldType.int)) ∈ lw_all := lw_g (lw_at lw_m7 166 rfl) rfl
theorem q1772 : (Jvm.Cond.methodLink "WoodStateModel" (118 : Nat) ({ cls := "WoodStateModel", name := "isStand", desc := "(I)Z" } : Jvm.MethodName)) ∈ lw_all := lw_g (lw_at lw_m7 167 rfl) rfl
theorem q1773 : (Jvm.Cond.privateMethod ({ cls := "WoodStateModel", name := "isStand", desc := "(I)Z" } : Jvm.MethodName)) ∈ lw_tbl := lw_at lw_m7 168 rfl
theorem q1774 : (Jvm.Cond.instanceMethod ({ cls := "WoodStateModel", name := "isStand", desc := "(I)Z" } : Jvm.MethodName)) ∈ lw_all := lw_g (lw_at lw_m7 169 rfl) rfl
theorem q1775 : (Jvm.Cond.code ({ cls := "WoodStateModel", name := "isStand", desc := "(I)Z" } : Jvm.MethodName) prog_19_method_8_code (2 : Nat) (Option.some Jvm.ClassFile.FieldType.boolean)) ∈ lw_all := lw_g (lw_at lw_m7 170 rfl) rfl
theorem q1776 : (Jvm.Cond.methodLink "WoodStateModel" (122 : Nat) ({ cls := "WoodStateModel", name := "areNear", desc := "(II)Z" } : Jvm.MethodName)) ∈ lw_all := lw_g (lw_at lw_m7 171 rfl) rfl
theorem q1777 : (Jvm.Cond.privateMethod ({ cls := "WoodStateModel", name := "areNear", desc := "(II)Z" } : Jvm.MethodName)) ∈ lw_tbl := lw_at lw_m7 172 rfl
theorem q1778 : (Jvm.Cond.instanceMethod ({ cls := "WoodStateModel", name := "areNear", desc := "(II)Z" } : Jvm.MethodName)) ∈ lw_all := lw_g (lw_at lw_m7 173 rfl) rfl
theorem q1779 : (Jvm.Cond.code ({ cls := "WoodStateModel", name := "areNear", desc := "(II)Z" } : Jvm.MethodName) prog_19_method_11_code (3 : Nat) (Option.some Jvm.ClassFile.FieldType.boolean)) ∈ lw_all := lw_g (lw_at lw_m7 174 rfl) rfl
theorem q1781 : (Jvm.Cond.instanceMethod ({ cls := "WoodStateModel", name := "look", desc := "(II)I" } : Jvm.MethodName)) ∈ lw_all := lw_g (lw_at lw_m7 176 rfl) rfl
theorem q1782 : (Jvm.Cond.selects "WoodStateModel" ({ cls := "WoodStateModel", name := "look", desc := "(II)I" } : Jvm.MethodName) ({ cls := "WoodStateModel", name := "look", desc := "(II)I" } : Jvm.MethodName)) ∈ lw_all := lw_g (lw_at lw_m7 177 rfl) rfl
theorem q1783 : (Jvm.Cond.code ({ cls := "WoodStateModel", name := "look", desc := "(II)I" } : Jvm.MethodName) prog_19_method_19_code (3 : Nat) (Option.some Jvm.ClassFile.FieldType.int)) ∈ lw_all := lw_g (lw_at lw_m7 178 rfl) rfl
theorem q1784 : (Jvm.Cond.methodLink "WoodStateModel" (84 : Nat) ({ cls := "WoodStateModel", name := "st", desc := "(II)I" } : Jvm.MethodName)) ∈ lw_all := lw_g (lw_at lw_m7 179 rfl) rfl
theorem q1785 : (Jvm.Cond.privateMethod ({ cls := "WoodStateModel", name := "st", desc := "(II)I" } : Jvm.MethodName)) ∈ lw_tbl := lw_at lw_m7 180 rfl
theorem q1786 : (Jvm.Cond.instanceMethod ({ cls := "WoodStateModel", name := "st", desc := "(II)I" } : Jvm.MethodName)) ∈ lw_all := lw_g (lw_at lw_m7 181 rfl) rfl
theorem q1787 : (Jvm.Cond.code ({ cls := "WoodStateModel", name := "st", desc := "(II)I" } : Jvm.MethodName) prog_19_method_7_code (3 : Nat) (Option.some Jvm.ClassFile.FieldType.int)) ∈ lw_all := lw_g (lw_at lw_m7 182 rfl) rfl
theorem q1788 : (Jvm.Cond.methodLink "WoodStateModel" (115 : Nat) ({ cls := "WoodStateModel", name := "wood", desc := "(I)I" } : Jvm.MethodName)) ∈ lw_all := lw_g (lw_at lw_m7 183 rfl) rfl
theorem q1789 : (Jvm.Cond.privateMethod ({ cls := "WoodStateModel", name := "wood", desc := "(I)I" } : Jvm.MethodName)) ∈ lw_tbl := lw_at lw_m7 184 rfl
theorem q1790 : (Jvm.Cond.instanceMethod ({ cls := "WoodStateModel", name := "wood", desc := "(I)I" } : Jvm.MethodName)) ∈ lw_all := lw_g (lw_at lw_m7 185 rfl) rfl
theorem q1791 : (Jvm.Cond.code ({ cls := "WoodStateModel", name := "wood", desc := "(I)I" } : Jvm.MethodName) prog_19_method_14_code (2 : Nat) (Option.some Jvm.ClassFile.FieldType.int)) ∈ lw_all := lw_g (lw_at lw_m7 186 rfl) rfl
theorem q1792 : (Jvm.Cond.methodLink "WoodStateModel" (112 : Nat) ({ cls := "WoodStateModel", name := "woodWith", desc := "(III)I" } : Jvm.MethodName)) ∈ lw_all := lw_g (lw_at lw_m7 187 rfl) rfl
theorem q1793 : (Jvm.Cond.privateMethod ({ cls := "WoodStateModel", name := "woodWith", desc := "(III)I" } : Jvm.MethodName)) ∈ lw_tbl := lw_at lw_m7 188 rfl
theorem q1794 : (Jvm.Cond.instanceMethod ({ cls := "WoodStateModel", name := "woodWith", desc := "(III)I" } : Jvm.MethodName)) ∈ lw_all := lw_g (lw_at lw_m7 189 rfl) rfl
theorem q1795 : (Jvm.Cond.code ({ cls := "WoodStateModel", name := "woodWith", desc := "(III)I" } : Jvm.MethodName) prog_19_method_13_code (4 : Nat) (Option.some Jvm.ClassFile.FieldType.int)) ∈ lw_all := lw_g (lw_at lw_m7 190 rfl) rfl
theorem q1796 : (Jvm.Cond.methodLink "WoodStateModel" (106 : Nat) ({ cls := "WoodStateModel", name := "feetOf", desc := "(III)I" } : Jvm.MethodName)) ∈ lw_all := lw_g (lw_at lw_m7 191 rfl) rfl
theorem q1797 : (Jvm.Cond.static ({ cls := "WoodStateModel", name := "feetOf", desc := "(III)I" } : Jvm.MethodName)) ∈ lw_all := lw_g (lw_at lw_m7 192 rfl) rfl
theorem q1798 : (Jvm.Cond.code ({ cls := "WoodStateModel", name := "feetOf", desc := "(III)I" } : Jvm.MethodName) prog_19_method_12_code (9 : Nat) (Option.some Jvm.ClassFile.FieldType.int)) ∈ lw_all := lw_g (lw_at lw_m7 193 rfl) rfl
theorem q1799 : (Jvm.Cond.constantLong "WoodStateModel" (88 : Nat) (2 : Int64)) ∈ lw_all := lw_g (lw_at lw_m7 194 rfl) rfl
theorem q1800 : (Jvm.Cond.constantLong "WoodStateModel" (90 : Nat) (900 : Int64)) ∈ lw_all := lw_g (lw_at lw_m7 195 rfl) rfl
theorem q1801 : (Jvm.Cond.constantLong "WoodStateModel" (92 : Nat) (700 : Int64)) ∈ lw_all := lw_g (lw_at lw_m7 196 rfl) rfl
theorem q1802 : (Jvm.Cond.constantLong "WoodStateModel" (94 : Nat) (600 : Int64)) ∈ lw_all := lw_g (lw_at lw_m7 197 rfl) rfl
theorem q1803 : (Jvm.Cond.constantLong "WoodStateModel" (96 : Nat) (500 : Int64)) ∈ lw_all := lw_g (lw_at lw_m7 198 rfl) rfl
theorem q1804 : (Jvm.Cond.constantLong "WoodStateModel" (98 : Nat) (50 : Int64)) ∈ lw_all := lw_g (lw_at lw_m7 199 rfl) rfl
theorem q1805 : (Jvm.Cond.constantLong "WoodStateModel" (100 : Nat) (55 : Int64)) ∈ lw_all := lw_g (lw_at lw_m7 200 rfl) rfl
theorem q1806 : (Jvm.Cond.constantLong "WoodStateModel" (102 : Nat) (70 : Int64)) ∈ lw_all := lw_g (lw_at lw_m7 201 rfl) rfl
theorem q1807 : (Jvm.Cond.constantLong "WoodStateModel" (104 : Nat) (90 : Int64)) ∈ lw_all := lw_g (lw_at lw_m7 202 rfl) rfl
theorem q1808 : (Jvm.Cond.constantLong "WoodStateModel" (110 : Nat) (100 : Int64)) ∈ lw_all := lw_g (lw_at lw_m7 203 rfl) rfl
theorem q1809 : (Jvm.Cond.methodLink "WoodStateModel" (133 : Nat) ({ cls := "WoodStateModel", name := "isLate", desc := "(I)Z" } : Jvm.MethodName)) ∈ lw_all := lw_g (lw_at lw_m7 204 rfl) rfl
theorem q1810 : (Jvm.Cond.privateMethod ({ cls := "WoodStateModel", name := "isLate", desc := "(I)Z" } : Jvm.MethodName)) ∈ lw_tbl := lw_at lw_m7 205 rfl
theorem q1811 : (Jvm.Cond.instanceMethod ({ cls := "WoodStateModel", name := "isLate", desc := "(I)Z" } : Jvm.MethodName)) ∈ lw_all := lw_g (lw_at lw_m7 206 rfl) rfl
theorem q1812 : (Jvm.Cond.code ({ cls := "WoodStateModel", name := "isLate", desc := "(I)Z" } : Jvm.MethodName) prog_19_method_18_code (2 : Nat) (Option.some Jvm.ClassFile.FieldType.boolean)) ∈ lw_all := lw_g (lw_at lw_m7 207 rfl) rfl
theorem q1813 : (Jvm.Cond.methodLink "WoodStateModel" (126 : Nat) ({ cls := "WoodStateModel", name := "isBare", desc := "(I)Z" } : Jvm.MethodName)) ∈ lw_all := lw_g (lw_at lw_m7 208 rfl) rfl
theorem q1814 : (Jvm.Cond.privateMethod ({ cls := "WoodStateModel", name := "isBare", desc := "(I)Z" } : Jvm.MethodName)) ∈ lw_tbl := lw_at lw_m7 209 rfl
theorem q1815 : (Jvm.Cond.instanceMethod ({ cls := "WoodStateModel", name := "isBare", desc := "(I)Z" } : Jvm.MethodName)) ∈ lw_all := lw_g (lw_at lw_m7 210 rfl) rfl
theorem q1816 : (Jvm.Cond.code ({ cls := "WoodStateModel", name := "isBare", desc := "(I)Z" } : Jvm.MethodName) prog_19_method_10_code (2 : Nat) (Option.some Jvm.ClassFile.FieldType.boolean)) ∈ lw_all := lw_g (lw_at lw_m7 211 rfl) rfl
theorem q1817 : (Jvm.Cond.methodLink "WoodStateModel" (129 : Nat) ({ cls := "WoodStateModel", name := "ruled", desc := "(IIII)I" } : Jvm.MethodName)) ∈ lw_all := lw_g (lw_at lw_m7 212 rfl) rfl
theorem q1818 : (Jvm.Cond.privateMethod ({ cls := "WoodStateModel", name := "ruled", desc := "(IIII)I" } : Jvm.MethodName)) ∈ lw_tbl := lw_at lw_m7 213 rfl
theorem q1819 : (Jvm.Cond.instanceMethod ({ cls := "WoodStateModel", name := "ruled", desc := "(IIII)I" } : Jvm.MethodName)) ∈ lw_all := lw_g (lw_at lw_m7 214 rfl) rfl
theorem q1820 : (Jvm.Cond.code ({ cls := "WoodStateModel", name := "ruled", desc := "(IIII)I" } : Jvm.MethodName) prog_19_method_56_code (5 : Nat) (Option.some Jvm.ClassFile.FieldType.int)) ∈ lw_all := lw_g (lw_at lw_m7 215 rfl) rfl
theorem q1821 : (Jvm.Cond.methodLink "WoodStateModel" (323 : Nat) ({ cls := "WoodStateModel", name := "rules", desc := "(III)I" } : Jvm.MethodName)) ∈ lw_all := lw_g (lw_at lw_m7 216 rfl) rfl
theorem q1822 : (Jvm.Cond.privateMethod ({ cls := "WoodStateModel", name := "rules", desc := "(III)I" } : Jvm.MethodName)) ∈ lw_tbl := lw_at lw_m7 217 rfl
theorem q1823 : (Jvm.Cond.instanceMethod ({ cls := "WoodStateModel", name := "rules", desc := "(III)I" } : Jvm.MethodName)) ∈ lw_all := lw_g (lw_at lw_m7 218 rfl) rfl
theorem q1824 : (Jvm.Cond.code ({ cls := "WoodStateModel", name := "rules", desc := "(III)I" } : Jvm.MethodName) prog_19_method_55_code (7 : Nat) (Option.some Jvm.ClassFile.FieldType.int)) ∈ lw_all := lw_g (lw_at lw_m7 219 rfl) rfl
theorem q1825 : (Jvm.Cond.methodLink "WoodStateModel" (319 : Nat) ({ cls := "WoodStateModel", name := "readLine", desc := "(II)V" } : Jvm.MethodName)) ∈ lw_all := lw_g (lw_at lw_m7 220 rfl) rfl
theorem q1826 : (Jvm.Cond.privateMethod ({ cls := "WoodStateModel", name := "readLine", desc := "(II)V" } : Jvm.MethodName)) ∈ lw_tbl := lw_at lw_m7 221 rfl
theorem q1827 : (Jvm.Cond.instanceMethod ({ cls := "WoodStateModel", name := "readLine", desc := "(II)V" } : Jvm.MethodName)) ∈ lw_all := lw_g (lw_at lw_m7 222 rfl) rfl
theorem q1828 : (Jvm.Cond.code ({ cls := "WoodStateModel", name := "readLine", desc := "(II)V" } : Jvm.MethodName) prog_19_method_54_code (3 : Nat) (Option.none : Option Jvm.ClassFile.FieldType)) ∈ lw_all := lw_g (lw_at lw_m7 223 rfl) rfl
theorem q1829 : (Jvm.Cond.methodLink "WoodStateModel" (210 : Nat) ({ cls := "WoodStateModel", name := "next", desc := "()V" } : Jvm.MethodName)) ∈ lw_all := lw_g (lw_at lw_m7 224 rfl) rfl
theorem q1830 : (Jvm.Cond.privateMethod ({ cls := "WoodStateModel", name := "next", desc := "()V" } : Jvm.MethodName)) ∈ lw_tbl := lw_at lw_m7 225 rfl
theorem q1831 : (Jvm.Cond.instanceMethod ({ cls := "WoodStateModel", name := "next", desc := "()V" } : Jvm.MethodName)) ∈ lw_all := lw_g (lw_at lw_m7 226 rfl) rfl
theorem q1832 : (Jvm.Cond.code ({ cls := "WoodStateModel", name := "next", desc := "()V" } : Jvm.MethodName) prog_19_method_41_code (3 : Nat) (Option.none : Option Jvm.ClassFile.FieldType)) ∈ lw_all := lw_g (lw_at lw_m7 227 rfl) rfl
theorem q1833 : (Jvm.Cond.methodLink "WoodStateModel" (174 : Nat) ({ cls := "WoodStateModel", name := "byteAt", desc := "(I)I" } : Jvm.MethodName)) ∈ lw_all := lw_g (lw_at lw_m7 228 rfl) rfl
theorem q1834 : (Jvm.Cond.privateMethod ({ cls := "WoodStateModel", name := "byteAt", desc := "(I)I" } : Jvm.MethodName)) ∈ lw_tbl := lw_at lw_m7 229 rfl
theorem q1835 : (Jvm.Cond.instanceMethod ({ cls := "WoodStateModel", name := "byteAt", desc := "(I)I" } : Jvm.MethodName)) ∈ lw_all := lw_g (lw_at lw_m7 230 rfl) rfl
theorem q1836 : (Jvm.Cond.code ({ cls := "WoodStateModel", name := "byteAt", desc := "(I)I" } : Jvm.MethodName) prog_19_method_40_code (2 : Nat) (Option.some Jvm.ClassFile.FieldType.int)) ∈ lw_all := lw_g (lw_at lw_m7 231 rfl) rfl
theorem q1837 : (Jvm.Cond.constantLong "WoodStateModel" (187 : Nat) (27 : Int64)) ∈ lw_all := lw_g (lw_at lw_m7 232 rfl) rfl
theorem q1838 : (Jvm.Cond.constantLong "WoodStateModel" (189 : Nat) (96 : Int64)) ∈ lw_all := lw_g (lw_at lw_m7 233 rfl) rfl
theorem q1839 : (Jvm.Cond.constantLong "WoodStateModel" (191 : Nat) (-1 : Int64)) ∈ lw_all := lw_g (lw_at lw_m7 234 rfl) rfl
theorem q1840 : (Jvm.Cond.constantLong "WoodStateModel" (193 : Nat) (10 : Int64)) ∈ lw_all := lw_g (lw_at lw_m7 235 rfl) rfl
theorem q1841 : (Jvm.Cond.constantLong "WoodStateModel" (195 : Nat) (48 : Int64)) ∈ lw_all := lw_g (lw_at lw_m7 236 rfl) rfl
theorem q1842 : (Jvm.Cond.methodLink "WoodStateModel" (305 : Nat) ({ cls := "WoodStateModel", name := "keyHere", desc := "()I" } : Jvm.MethodName)) ∈ lw_all := lw_g (lw_at lw_m7 237 rfl) rfl
theorem q1843 : (Jvm.Cond.privateMethod ({ cls := "WoodStateModel", name := "keyHere", desc := "()I" } : Jvm.MethodName)) ∈ lw_tbl := lw_at lw_m7 238 rfl
theorem q1844 : (Jvm.Cond.instanceMethod ({ cls := "WoodStateModel", name := "keyHere", desc := "()I" } : Jvm.MethodName)) ∈ lw_all := lw_g (lw_at lw_m7 239 rfl) rfl
theorem q1845 : (Jvm.Cond.code ({ cls := "WoodStateModel", name := "keyHere", desc := "()I" } : Jvm.MethodName) prog_19_method_53_code (1 : Nat) (Option.some Jvm.ClassFile.FieldType.int)) ∈ lw_all := lw_g (lw_at lw_m8 0 rfl) rfl
theorem q1846 : (Jvm.Cond.constantLong "WoodStateModel" (287 : Nat) (923 : Int64)) ∈ lw_all := lw_g (lw_at lw_m8 1 rfl) rfl
theorem q1847 : (Jvm.Cond.methodLink "WoodStateModel" (218 : Nat) ({ cls := "WoodStateModel", name := "isWord", desc := "(J)Z" } : Jvm.MethodName)) ∈ lw_all := lw_g (lw_at lw_m8 2 rfl) rfl
theorem q1848 : (Jvm.Cond.privateMethod ({ cls := "WoodStateModel", name := "isWord", desc := "(J)Z" } : Jvm.MethodName)) ∈ lw_tbl := lw_at lw_m8 3 rfl
theorem q1849 : (Jvm.Cond.instanceMethod ({ cls := "WoodStateModel", name := "isWord", desc := "(J)Z" } : Jvm.MethodName)) ∈ lw_all := lw_g (lw_at lw_m8 4 rfl) rfl
theorem q1850 : (Jvm.Cond.code ({ cls := "WoodStateModel", name := "isWord", desc := "(J)Z" } : Jvm.MethodName) prog_19_method_43_code (3 : Nat) (Option.some Jvm.ClassFile.FieldType.boolean)) ∈ lw_all := lw_g (lw_at lw_m8 5 rfl) rfl
theorem q1851 : (Jvm.Cond.constantLong "WoodStateModel" (289 : Nat) (32941 : Int64)) ∈ lw_all := lw_g (lw_at lw_m8 6 rfl) rfl
theorem q1852 : (Jvm.Cond.constantLong "WoodStateModel" (291 : Nat) (279252 : Int64)) ∈ lw_all := lw_g (lw_at lw_m8 7 rfl) rfl
theorem q1853 : (Jvm.Cond.constantLong "WoodStateModel" (293 : Nat) (220309 : Int64)) ∈ lw_all := lw_g (lw_at lw_m8 8 rfl) rfl
theorem q1854 : (Jvm.Cond.constantLong "WoodStateModel" (295 : Nat) (464053 : Int64)) ∈ lw_all := lw_g (lw_at lw_m8 9 rfl) rfl
theorem q1855 : (Jvm.Cond.constantLong "WoodStateModel" (297 : Nat) (321697 : Int64)) ∈ lw_all := lw_g (lw_at lw_m8 10 rfl) rfl
theorem q1856 : (Jvm.Cond.constantLong "WoodStateModel" (299 : Nat) (125042 : Int64)) ∈ lw_all := lw_g (lw_at lw_m8 11 rfl) rfl
theorem q1857 : (Jvm.Cond.constantLong "WoodStateModel" (301 : Nat) (8740379 : Int64)) ∈ lw_all := lw_g (lw_at lw_m8 12 rfl) rfl
theorem q1858 : (Jvm.Cond.constantLong "WoodStateModel" (303 : Nat) (283619210 : Int64)) ∈ lw_all := lw_g (lw_at lw_m8 13 rfl) rfl
theorem q1859 : (Jvm.Cond.methodLink "WoodStateModel" (207 : Nat) ({ cls := "WoodStateModel", name := "fail", desc := "()V" } : Jvm.MethodName)) ∈ lw_all := lw_g (lw_at lw_m8 14 rfl) rfl
theorem q1860 : (Jvm.Cond.privateMethod ({ cls := "WoodStateModel", name := "fail", desc := "()V" } : Jvm.MethodName)) ∈ lw_tbl := lw_at lw_m8 15 rfl
theorem q1861 : (Jvm.Cond.instanceMethod ({ cls := "WoodStateModel", name := "fail", desc := "()V" } : Jvm.MethodName)) ∈ lw_all := lw_g (lw_at lw_m8 16 rfl) rfl
theorem q1862 : (Jvm.Cond.code ({ cls := "WoodStateModel", name := "fail", desc := "()V" } : Jvm.MethodName) prog_19_method_42_code (1 : Nat) (Option.none : Option Jvm.ClassFile.FieldType)) ∈ lw_all := lw_g (lw_at lw_m8 17 rfl) rfl
theorem q1863 : (Jvm.Cond.methodLink "WoodStateModel" (253 : Nat) ({ cls := "WoodStateModel", name := "either", desc := "()I" } : Jvm.MethodName)) ∈ lw_all := lw_g (lw_at lw_m8 18 rfl) rfl
theorem q1864 : (Jvm.Cond.privateMethod ({ cls := "WoodStateModel", name := "either", desc := "()I" } : Jvm.MethodName)) ∈ lw_tbl := lw_at lw_m8 19 rfl
theorem q1865 : (Jvm.Cond.instanceMethod ({ cls := "WoodStateModel", name := "either", desc := "()I" } : Jvm.MethodName)) ∈ lw_all := lw_g (lw_at lw_m8 20 rfl) rfl
theorem q1866 : (Jvm.Cond.code ({ cls := "WoodStateModel", name := "either", desc := "()I" } : Jvm.MethodName) prog_19_method_52_code (3 : Nat) (Option.some Jvm.ClassFile.FieldType.int)) ∈ lw_all := lw_g (lw_at lw_m8 21 rfl) rfl
theorem q1867 : (Jvm.Cond.methodLink "WoodStateModel" (282 : Nat) ({ cls := "WoodStateModel", name := "both", desc := "()I" } : Jvm.MethodName)) ∈ lw_all := lw_g (lw_at lw_m8 22 rfl) rfl
theorem q1868 : (Jvm.Cond.privateMethod ({ cls := "WoodStateModel", name := "both", desc := "()I" } : Jvm.MethodName)) ∈ lw_tbl := lw_at lw_m8 23 rfl
theorem q1869 : (Jvm.Cond.instanceMethod ({ cls := "WoodStateModel", name := "both", desc := "()I" } : Jvm.MethodName)) ∈ lw_all := lw_g (lw_at lw_m8 24 rfl) rfl
theorem q1870 : (Jvm.Cond.code ({ cls := "WoodStateModel", name := "both", desc := "()I" } : Jvm.MethodName) prog_19_method_51_code (3 : Nat) (Option.some Jvm.ClassFile.FieldType.int)) ∈ lw_all := lw_g (lw_at lw_m8 25 rfl) rfl
theorem q1871 : (Jvm.Cond.methodLink "WoodStateModel" (270 : Nat) ({ cls := "WoodStateModel", name := "not", desc := "()I" } : Jvm.MethodName)) ∈ lw_all := lw_g (lw_at lw_m8 26 rfl) rfl
theorem q1872 : (Jvm.Cond.privateMethod ({ cls := "WoodStateModel", name := "not", desc := "()I" } : Jvm.MethodName)) ∈ lw_tbl := lw_at lw_m8 27 rfl
theorem q1873 : (Jvm.Cond.instanceMethod ({ cls := "WoodStateModel", name := "not", desc := "()I" } : Jvm.MethodName)) ∈ lw_all := lw_g (lw_at lw_m8 28 rfl) rfl
theorem q1874 : (Jvm.Cond.code ({ cls := "WoodStateModel", name := "not", desc := "()I" } : Jvm.MethodName) prog_19_method_50_code (5 : Nat) (Option.some Jvm.ClassFile.FieldType.int)) ∈ lw_all := lw_g (lw_at lw_m8 29 rfl) rfl
theorem q1875 : (Jvm.Cond.constantLong "WoodStateModel" (268 : Nat) (10631 : Int64)) ∈ lw_all := lw_g (lw_at lw_m8 30 rfl) rfl
theorem q1876 : (Jvm.Cond.methodLink "WoodStateModel" (246 : Nat) ({ cls := "WoodStateModel", name := "opens", desc := "()Z" } : Jvm.MethodName)) ∈ lw_all := lw_g (lw_at lw_m8 31 rfl) rfl
theorem q1877 : (Jvm.Cond.privateMethod ({ cls := "WoodStateModel", name := "opens", desc := "()Z" } : Jvm.MethodName)) ∈ lw_tbl := lw_at lw_m8 32 rfl
theorem q1878 : (Jvm.Cond.instanceMethod ({ cls := "WoodStateModel", name := "opens", desc := "()Z" } : Jvm.MethodName)) ∈ lw_all := lw_g (lw_at lw_m8 33 rfl) rfl
theorem q1879 : (Jvm.Cond.code ({ cls := "WoodStateModel", name := "opens", desc := "()Z" } : Jvm.MethodName) prog_19_method_45_code (1 : Nat) (Option.some Jvm.ClassFile.FieldType.boolean)) ∈ lw_all := lw_g (lw_at lw_m8 34 rfl) rfl
theorem q1880 : (Jvm.Cond.methodLink "WoodStateModel" (273 : Nat) ({ cls := "WoodStateModel", name := "added", desc := "()I" } : Jvm.MethodName)) ∈ lw_all := lw_g (lw_at lw_m8 35 rfl) rfl
theorem q1881 : (Jvm.Cond.privateMethod ({ cls := "WoodStateModel", name := "added", desc := "()I" } : Jvm.MethodName)) ∈ lw_tbl := lw_at lw_m8 36 rfl
theorem q1882 : (Jvm.Cond.instanceMethod ({ cls := "WoodStateModel", name := "added", desc := "()I" } : Jvm.MethodName)) ∈ lw_all := lw_g (lw_at lw_m8 37 rfl) rfl
theorem q1883 : (Jvm.Cond.code ({ cls := "WoodStateModel", name := "added", desc := "()I" } : Jvm.MethodName) prog_19_method_49_code (4 : Nat) (Option.some Jvm.ClassFile.FieldType.int)) ∈ lw_all := lw_g (lw_at lw_m8 38 rfl) rfl
theorem q1884 : (Jvm.Cond.methodLink "WoodStateModel" (263 : Nat) ({ cls := "WoodStateModel", name := "term", desc := "()I" } : Jvm.MethodName)) ∈ lw_all := lw_g (lw_at lw_m8 39 rfl) rfl
theorem q1885 : (Jvm.Cond.privateMethod ({ cls := "WoodStateModel", name := "term", desc := "()I" } : Jvm.MethodName)) ∈ lw_tbl := lw_at lw_m8 40 rfl
theorem q1886 : (Jvm.Cond.instanceMethod ({ cls := "WoodStateModel", name := "term", desc := "()I" } : Jvm.MethodName)) ∈ lw_all := lw_g (lw_at lw_m8 41 rfl) rfl
theorem q1887 : (Jvm.Cond.code ({ cls := "WoodStateModel", name := "term", desc := "()I" } : Jvm.MethodName) prog_19_method_48_code (5 : Nat) (Option.some Jvm.ClassFile.FieldType.int)) ∈ lw_all := lw_g (lw_at lw_m8 42 rfl) rfl
theorem q1888 : (Jvm.Cond.methodLink "WoodStateModel" (250 : Nat) ({ cls := "WoodStateModel", name := "one", desc := "()I" } : Jvm.MethodName)) ∈ lw_all := lw_g (lw_at lw_m8 43 rfl) rfl
theorem q1889 : (Jvm.Cond.privateMethod ({ cls := "WoodStateModel", name := "one", desc := "()I" } : Jvm.MethodName)) ∈ lw_tbl := lw_at lw_m8 44 rfl
theorem q1890 : (Jvm.Cond.instanceMethod ({ cls := "WoodStateModel", name := "one", desc := "()I" } : Jvm.MethodName)) ∈ lw_all := lw_g (lw_at lw_m8 45 rfl) rfl
theorem q1891 : (Jvm.Cond.code ({ cls := "WoodStateModel", name := "one", desc := "()I" } : Jvm.MethodName) prog_19_method_47_code (2 : Nat) (Option.some Jvm.ClassFile.FieldType.int)) ∈ lw_all := lw_g (lw_at lw_m8 46 rfl) rfl
theorem q1892 : (Jvm.Cond.methodLink "WoodStateModel" (243 : Nat) ({ cls := "WoodStateModel", name := "isSign", desc := "(I)Z" } : Jvm.MethodName)) ∈ lw_all := lw_g (lw_at lw_m8 47 rfl) rfl
theorem q1893 : (Jvm.Cond.privateMethod ({ cls := "WoodStateModel", name := "isSign", desc := "(I)Z" } : Jvm.MethodName)) ∈ lw_tbl := lw_at lw_m8 48 rfl
theorem q1894 : (Jvm.Cond.instanceMethod ({ cls := "WoodStateModel", name := "isSign", desc := "(I)Z" } : Jvm.MethodName)) ∈ lw_all := lw_g (lw_at lw_m8 49 rfl) rfl
theorem q1895 : (Jvm.Cond.code ({ cls := "WoodStateModel", name := "isSign", desc := "(I)Z" } : Jvm.MethodName) prog_19_method_44_code (2 : Nat) (Option.some Jvm.ClassFile.FieldType.boolean)) ∈ lw_all := lw_g (lw_at lw_m8 50 rfl) rfl
theorem q1896 : (Jvm.Cond.methodLink "WoodStateModel" (256 : Nat) ({ cls := "WoodStateModel", name := "name", desc := "()I" } : Jvm.MethodName)) ∈ lw_all := lw_g (lw_at lw_m8 51 rfl) rfl
theorem q1897 : (Jvm.Cond.privateMethod ({ cls := "WoodStateModel", name := "name", desc := "()I" } : Jvm.MethodName)) ∈ lw_tbl := lw_at lw_m8 52 rfl
theorem q1898 : (Jvm.Cond.instanceMethod ({ cls := "WoodStateModel", name := "name", desc := "()I" } : Jvm.MethodName)) ∈ lw_all := lw_g (lw_at lw_m8 53 rfl) rfl
theorem q1899 : (Jvm.Cond.code ({ cls := "WoodStateModel", name := "name", desc := "()I" } : Jvm.MethodName) prog_19_method_46_code (4 : Nat) (Option.some Jvm.ClassFile.FieldType.int)) ∈ lw_all := lw_g (lw_at lw_m8 54 rfl) rfl
theorem q1900 : (Jvm.Cond.constantLong "WoodStateModel" (216 : Nat) (495765 : Int64)) ∈ lw_all := lw_g (lw_at lw_m8 55 rfl) rfl
theorem q1901 : (Jvm.Cond.constantLong "WoodStateModel" (225 : Nat) (1310105 : Int64)) ∈ lw_all := lw_g (lw_at lw_m8 56 rfl) rfl
theorem q1902 : (Jvm.Cond.constantLong "WoodStateModel" (227 : Nat) (3172008997 : Int64)) ∈ lw_all := lw_g (lw_at lw_m8 57 rfl) rfl
theorem q1903 : (Jvm.Cond.constantLong "WoodStateModel" (229 : Nat) (4350799 : Int64)) ∈ lw_all := lw_g (lw_at lw_m8 58 rfl) rfl
theorem q1904 : (Jvm.Cond.constantLong "WoodStateModel" (231 : Nat) (223456 : Int64)) ∈ lw_all := lw_g (lw_at lw_m8 59 rfl) rfl
theorem q1905 : (Jvm.Cond.constantLong "WoodStateModel" (233 : Nat) (381083 : Int64)) ∈ lw_all := lw_g (lw_at lw_m8 60 rfl) rfl
theorem q1906 : (Jvm.Cond.constantLong "WoodStateModel" (235 : Nat) (10494835 : Int64)) ∈ lw_all := lw_g (lw_at lw_m8 61 rfl) rfl
theorem q1907 : (Jvm.Cond.constantLong "WoodStateModel" (237 : Nat) (11263 : Int64)) ∈ lw_all := lw_g (lw_at lw_m8 62 rfl) rfl
theorem q1908 : (Jvm.Cond.constantLong "WoodStateModel" (239 : Nat) (133743 : Int64)) ∈ lw_all := lw_g (lw_at lw_m8 63 rfl) rfl
theorem q1909 : (Jvm.Cond.constantLong "WoodStateModel" (241 : Nat) (603766 : Int64)) ∈ lw_all := lw_g (lw_at lw_m8 64 rfl) rfl
theorem q1910 : (Jvm.Cond.constantLong "WoodStateModel" (259 : Nat) (42 : Int64)) ∈ lw_all := lw_g (lw_at lw_m8 65 rfl) rfl
theorem q1911 : (Jvm.Cond.constantLong "WoodStateModel" (261 : Nat) (47 : Int64)) ∈ lw_all := lw_g (lw_at lw_m8 66 rfl) rfl
theorem q1912 : (Jvm.Cond.constantLong "WoodStateModel" (266 : Nat) (43 : Int64)) ∈ lw_all := lw_g (lw_at lw_m8 67 rfl) rfl
theorem q1913 : (Jvm.Cond.constantLong "WoodStateModel" (276 : Nat) (60 : Int64)) ∈ lw_all := lw_g (lw_at lw_m8 68 rfl) rfl
theorem q1914 : (Jvm.Cond.constantLong "WoodStateModel" (278 : Nat) (61 : Int64)) ∈ lw_all := lw_g (lw_at lw_m8 69 rfl) rfl
theorem q1915 : (Jvm.Cond.constantLong "WoodStateModel" (280 : Nat) (1111 : Int64)) ∈ lw_all := lw_g (lw_at lw_m8 70 rfl) rfl
theorem q1916 : (Jvm.Cond.constantLong "WoodStateModel" (285 : Nat) (423 : Int64)) ∈ lw_all := lw_g (lw_at lw_m8 71 rfl) rfl
theorem q1917 : (Jvm.Cond.constantLong "WoodStateModel" (317 : Nat) (249 : Int64)) ∈ lw_all := lw_g (lw_at lw_m8 72 rfl) rfl
theorem q1919 : (Jvm.Cond.instanceMethod ({ cls := "WoodStateModel", name := "feet", desc := "(III)I" } : Jvm.MethodName)) ∈ lw_all := lw_g (lw_at lw_m8 74 rfl) rfl
theorem q1920 : (Jvm.Cond.selects "WoodStateModel" ({ cls := "WoodStateModel", name := "feet", desc := "(III)I" } : Jvm.MethodName) ({ cls := "WoodStateModel", name := "feet", desc := "(III)I" } : Jvm.MethodName)) ∈ lw_all := lw_g (lw_at lw_m8 75 rfl) rfl
theorem q1921 : (Jvm.Cond.code ({ cls := "WoodStateModel", name := "feet", desc := "(III)I" } : Jvm.MethodName) prog_19_method_20_code (4 : Nat) (Option.some Jvm.ClassFile.FieldType.int)) ∈ lw_all := lw_g (lw_at lw_m8 76 rfl) rfl
theorem q1923 : (Jvm.Cond.instanceMethod ({ cls := "WoodStateModel", name := "road", desc := "(III)I" } : Jvm.MethodName)) ∈ lw_all := lw_g (lw_at lw_m8 78 rfl) rfl
theorem q1924 : (Jvm.Cond.selects "WoodStateModel" ({ cls := "WoodStateModel", name := "road", desc := "(III)I" } : Jvm.MethodName) ({ cls := "WoodStateModel", name := "road", desc := "(III)I" } : Jvm.MethodName)) ∈ lw_all := lw_g (lw_at lw_m8 79 rfl) rfl
theorem q1925 : (Jvm.Cond.code ({ cls := "WoodStateModel", name := "road", desc := "(III)I" } : Jvm.MethodName) prog_19_method_22_code (5 : Nat) (Option.some Jvm.ClassFile.FieldType.int)) ∈ lw_all := lw_g (lw_at lw_m8 80 rfl) rfl
theorem q1926 : (Jvm.Cond.methodLink "WoodStateModel" (137 : Nat) ({ cls := "WoodStateModel", name := "isBlock", desc := "(I)Z" } : Jvm.MethodName)) ∈ lw_all := lw_g (lw_at lw_m8 81 rfl) rfl
theorem q1927 : (Jvm.Cond.static ({ cls := "WoodStateModel", name := "isBlock", desc := "(I)Z" } : Jvm.MethodName)) ∈ lw_all := lw_g (lw_at lw_m8 82 rfl) rfl
theorem q1928 : (Jvm.Cond.code ({ cls := "WoodStateModel", name := "isBlock", desc := "(I)Z" } : Jvm.MethodName) prog_19_method_9_code (1 : Nat) (Option.some Jvm.ClassFile.FieldType.boolean)) ∈ lw_all := lw_g (lw_at lw_m8 83 rfl) rfl
theorem q1930 : (Jvm.Cond.instanceMethod ({ cls := "WoodStateModel", name := "haul", desc := "(I)I" } : Jvm.MethodName)) ∈ lw_all := lw_g (lw_at lw_m8 85 rfl) rfl
theorem q1931 : (Jvm.Cond.selects "WoodStateModel" ({ cls := "WoodStateModel", name := "haul", desc := "(I)I" } : Jvm.MethodName) ({ cls := "WoodStateModel", name := "haul", desc := "(I)I" } : Jvm.MethodName)) ∈ lw_all := lw_g (lw_at lw_m8 86 rfl) rfl
theorem q1932 : (Jvm.Cond.code ({ cls := "WoodStateModel", name := "haul", desc := "(I)I" } : Jvm.MethodName) prog_19_method_23_code (2 : Nat) (Option.some Jvm.ClassFile.FieldType.int)) ∈ lw_all := lw_g (lw_at lw_m8 87 rfl) rfl
theorem q1934 : (Jvm.Cond.instanceMethod ({ cls := "WoodStateModel", name := "village", desc := "(III)I" } : Jvm.MethodName)) ∈ lw_all := lw_g (lw_at lw_m8 89 rfl) rfl
theorem q1935 : (Jvm.Cond.selects "WoodStateModel" ({ cls := "WoodStateModel", name := "village", desc := "(III)I" } : Jvm.MethodName) ({ cls := "WoodStateModel", name := "village", desc := "(III)I" } : Jvm.MethodName)) ∈ lw_all := lw_g (lw_at lw_m8 90 rfl) rfl
theorem q1936 : (Jvm.Cond.code ({ cls := "WoodStateModel", name := "village", desc := "(III)I" } : Jvm.MethodName) prog_19_method_25_code (5 : Nat) (Option.some Jvm.ClassFile.FieldType.int)) ∈ lw_all := lw_g (lw_at lw_m8 91 rfl) rfl
theorem q1938 : (Jvm.Cond.instanceMethod ({ cls := "WoodStateModel", name := "people", desc := "(III)I" } : Jvm.MethodName)) ∈ lw_all := lw_g (lw_at lw_m8 93 rfl) rfl
theorem q1939 : (Jvm.Cond.selects "WoodStateModel" ({ cls := "WoodStateModel", name := "people", desc := "(III)I" } : Jvm.MethodName) ({ cls := "WoodStateModel", name := "people", desc := "(III)I" } : Jvm.MethodName)) ∈ lw_all := lw_g (lw_at lw_m8 94 rfl) rfl
theorem q1940 : (Jvm.Cond.code ({ cls := "WoodStateModel", name := "people", desc := "(III)I" } : Jvm.MethodName) prog_19_method_26_code (5 : Nat) (Option.some Jvm.ClassFile.FieldType.int)) ∈ lw_all := lw_g (lw_at lw_m8 95 rfl) rfl
theorem q1941 : (Jvm.Cond.methodLink "WoodStateModel" (140 : Nat) ({ cls := "WoodStateModel", name := "isVillage", desc := "(I)Z" } : Jvm.MethodName)) ∈ lw_all := lw_g (lw_at lw_m8 96 rfl) rfl
theorem q1942 : (Jvm.Cond.privateMethod ({ cls := "WoodStateModel", name := "isVillage", desc := "(I)Z" } : Jvm.MethodName)) ∈ lw_tbl := lw_at lw_m8 97 rfl
theorem q1943 : (Jvm.Cond.instanceMethod ({ cls := "WoodStateModel", name := "isVillage", desc := "(I)Z" } : Jvm.MethodName)) ∈ lw_all := lw_g (lw_at lw_m8 98 rfl) rfl
theorem q1944 : (Jvm.Cond.code ({ cls := "WoodStateModel", name := "isVillage", desc := "(I)Z" } : Jvm.MethodName) prog_19_method_24_code (2 : Nat) (Option.some Jvm.ClassFile.FieldType.boolean)) ∈ lw_all := lw_g (lw_at lw_m8 99 rfl) rfl
theorem q1946 : (Jvm.Cond.instanceMethod ({ cls := "WoodStateModel", name := "of", desc := "(II)I" } : Jvm.MethodName)) ∈ lw_all := lw_g (lw_at lw_m8 101 rfl) rfl
theorem q1947 : (Jvm.Cond.selects "WoodStateModel" ({ cls := "WoodStateModel", name := "of", desc := "(II)I" } : Jvm.MethodName) ({ cls := "WoodStateModel", name := "of", desc := "(II)I" } : Jvm.MethodName)) ∈ lw_all := lw_g (lw_at lw_m8 102 rfl) rfl
theorem q1948 : (Jvm.Cond.code ({ cls := "WoodStateModel", name := "of", desc := "(II)I" } : Jvm.MethodName) prog_19_method_29_code (3 : Nat) (Option.some Jvm.ClassFile.FieldType.int)) ∈ lw_all := lw_g (lw_at lw_m8 103 rfl) rfl
theorem q1949 : (Jvm.Cond.methodLink "WoodStateModel" (146 : Nat) ({ cls := "WoodStateModel", name := "mast", desc := "(I)I" } : Jvm.MethodName)) ∈ lw_all := lw_g (lw_at lw_m8 104 rfl) rfl
theorem q1950 : (Jvm.Cond.privateMethod ({ cls := "WoodStateModel", name := "mast", desc := "(I)I" } : Jvm.MethodName)) ∈ lw_tbl := lw_at lw_m8 105 rfl
theorem q1951 : (Jvm.Cond.instanceMethod ({ cls := "WoodStateModel", name := "mast", desc := "(I)I" } : Jvm.MethodName)) ∈ lw_all := lw_g (lw_at lw_m8 106 rfl) rfl
theorem q1952 : (Jvm.Cond.code ({ cls := "WoodStateModel", name := "mast", desc := "(I)I" } : Jvm.MethodName) prog_19_method_28_code (6 : Nat) (Option.some Jvm.ClassFile.FieldType.int)) ∈ lw_all := lw_g (lw_at lw_m8 107 rfl) rfl
theorem q1953 : (Jvm.Cond.methodLink "WoodStateModel" (143 : Nat) ({ cls := "WoodStateModel", name := "within", desc := "(III)I" } : Jvm.MethodName)) ∈ lw_all := lw_g (lw_at lw_m8 108 rfl) rfl
theorem q1954 : (Jvm.Cond.static ({ cls := "WoodStateModel", name := "within", desc := "(III)I" } : Jvm.MethodName)) ∈ lw_all := lw_g (lw_at lw_m8 109 rfl) rfl
theorem q1955 : (Jvm.Cond.code ({ cls := "WoodStateModel", name := "within", desc := "(III)I" } : Jvm.MethodName) prog_19_method_27_code (3 : Nat) (Option.some Jvm.ClassFile.FieldType.int)) ∈ lw_all := lw_g (lw_at lw_m8 110 rfl) rfl
theorem q1957 : (Jvm.Cond.instanceMethod ({ cls := "WoodStateModel", name := "parcel", desc := "(II)I" } : Jvm.MethodName)) ∈ lw_all := lw_g (lw_at lw_m8 112 rfl) rfl
theorem q1958 : (Jvm.Cond.selects "WoodStateModel" ({ cls := "WoodStateModel", name := "parcel", desc := "(II)I" } : Jvm.MethodName) ({ cls := "WoodStateModel", name := "parcel", desc := "(II)I" } : Jvm.MethodName)) ∈ lw_all := lw_g (lw_at lw_m8 113 rfl) rfl
theorem q1959 : (Jvm.Cond.code ({ cls := "WoodStateModel", name := "parcel", desc := "(II)I" } : Jvm.MethodName) prog_19_method_34_code (3 : Nat) (Option.some Jvm.ClassFile.FieldType.int)) ∈ lw_all := lw_g (lw_at lw_m8 114 rfl) rfl
theorem q1960 : (Jvm.Cond.methodLink "WoodStateModel" (156 : Nat) ({ cls := "WoodStateModel", name := "isParcel", desc := "(I)Z" } : Jvm.MethodName)) ∈ lw_all := lw_g (lw_at lw_m8 115 rfl) rfl
theorem q1961 : (Jvm.Cond.privateMethod ({ cls := "WoodStateModel", name := "isParcel", desc := "(I)Z" } : Jvm.MethodName)) ∈ lw_tbl := lw_at lw_m8 116 rfl
theorem q1962 : (Jvm.Cond.instanceMethod ({ cls := "WoodStateModel", name := "isParcel", desc := "(I)Z" } : Jvm.MethodName)) ∈ lw_all := lw_g (lw_at lw_m8 117 rfl) rfl
theorem q1963 : (Jvm.Cond.code ({ cls := "WoodStateModel", name := "isParcel", desc := "(I)Z" } : Jvm.MethodName) prog_19_method_31_code (2 : Nat) (Option.some Jvm.ClassFile.FieldType.boolean)) ∈ lw_all := lw_g (lw_at lw_m8 118 rfl) rfl
theorem q1964 : (Jvm.Cond.methodLink "WoodStateModel" (149 : Nat) ({ cls := "WoodStateModel", name := "pc", desc := "(II)I" } : Jvm.MethodName)) ∈ lw_all := lw_g (lw_at lw_m8 119 rfl) rfl
theorem q1965 : (Jvm.Cond.privateMethod ({ cls := "WoodStateModel", name := "pc", desc := "(II)I" } : Jvm.MethodName)) ∈ lw_tbl := lw_at lw_m8 120 rfl
theorem q1966 : (Jvm.Cond.instanceMethod ({ cls := "WoodStateModel", name := "pc", desc := "(II)I" } : Jvm.MethodName)) ∈ lw_all := lw_g (lw_at lw_m8 121 rfl) rfl
theorem q1967 : (Jvm.Cond.code ({ cls := "WoodStateModel", name := "pc", desc := "(II)I" } : Jvm.MethodName) prog_19_method_30_code (3 : Nat) (Option.some Jvm.ClassFile.FieldType.int)) ∈ lw_all := lw_g (lw_at lw_m8 122 rfl) rfl
theorem q1969 : (Jvm.Cond.instanceMethod ({ cls := "WoodStateModel", name := "sell", desc := "(II)I" } : Jvm.MethodName)) ∈ lw_all := lw_g (lw_at lw_m8 124 rfl) rfl
theorem q1970 : (Jvm.Cond.selects "WoodStateModel" ({ cls := "WoodStateModel", name := "sell", desc := "(II)I" } : Jvm.MethodName) ({ cls := "WoodStateModel", name := "sell", desc := "(II)I" } : Jvm.MethodName)) ∈ lw_all := lw_g (lw_at lw_m8 125 rfl) rfl
theorem q1971 : (Jvm.Cond.code ({ cls := "WoodStateModel", name := "sell", desc := "(II)I" } : Jvm.MethodName) prog_19_method_35_code (5 : Nat) (Option.some Jvm.ClassFile.FieldType.int)) ∈ lw_all := lw_g (lw_at lw_m8 126 rfl) rfl
theorem q1973 : (Jvm.Cond.instanceMethod ({ cls := "WoodStateModel", name := "fetch", desc := "(I)I" } : Jvm.MethodName)) ∈ lw_all := lw_g (lw_at lw_m8 128 rfl) rfl
theorem q1974 : (Jvm.Cond.selects "WoodStateModel" ({ cls := "WoodStateModel", name := "fetch", desc := "(I)I" } : Jvm.MethodName) ({ cls := "WoodStateModel", name := "fetch", desc := "(I)I" } : Jvm.MethodName)) ∈ lw_all := lw_g (lw_at lw_m8 129 rfl) rfl
theorem q1975 : (Jvm.Cond.code ({ cls := "WoodStateModel", name := "fetch", desc := "(I)I" } : Jvm.MethodName) prog_19_method_36_code (2 : Nat) (Option.some Jvm.ClassFile.FieldType.int)) ∈ lw_all := lw_g (lw_at lw_m8 130 rfl) rfl
theorem q1977 : (Jvm.Cond.instanceMethod ({ cls := "WoodStateModel", name := "loss", desc := "(I)I" } : Jvm.MethodName)) ∈ lw_all := lw_g (lw_at lw_m8 132 rfl) rfl
theorem q1978 : (Jvm.Cond.selects "WoodStateModel" ({ cls := "WoodStateModel", name := "loss", desc := "(I)I" } : Jvm.MethodName) ({ cls := "WoodStateModel", name := "loss", desc := "(I)I" } : Jvm.MethodName)) ∈ lw_all := lw_g (lw_at lw_m8 133 rfl) rfl
theorem q1979 : (Jvm.Cond.code ({ cls := "WoodStateModel", name := "loss", desc := "(I)I" } : Jvm.MethodName) prog_19_method_37_code (3 : Nat) (Option.some Jvm.ClassFile.FieldType.int)) ∈ lw_all := lw_g (lw_at lw_m8 134 rfl) rfl
theorem q1980 : (Jvm.Cond.methodLink "WoodStateModel" (159 : Nat) ({ cls := "WoodStateModel", name := "lackOf", desc := "(I)I" } : Jvm.MethodName)) ∈ lw_all := lw_g (lw_at lw_m8 135 rfl) rfl
theorem q1981 : (Jvm.Cond.privateMethod ({ cls := "WoodStateModel", name := "lackOf", desc := "(I)I" } : Jvm.MethodName)) ∈ lw_tbl := lw_at lw_m8 136 rfl
theorem q1982 : (Jvm.Cond.instanceMethod ({ cls := "WoodStateModel", name := "lackOf", desc := "(I)I" } : Jvm.MethodName)) ∈ lw_all := lw_g (lw_at lw_m8 137 rfl) rfl
theorem q1983 : (Jvm.Cond.code ({ cls := "WoodStateModel", name := "lackOf", desc := "(I)I" } : Jvm.MethodName) prog_19_method_94_code (3 : Nat) (Option.some Jvm.ClassFile.FieldType.int)) ∈ lw_all := lw_g (lw_at lw_m8 138 rfl) rfl
theorem q1984 : (Jvm.Cond.methodLink "WoodStateModel" (397 : Nat) ({ cls := "WoodStateModel", name := "grown", desc := "(II)I" } : Jvm.MethodName)) ∈ lw_all := lw_g (lw_at lw_m8 139 rfl) rfl
theorem q1985 : (Jvm.Cond.privateMethod ({ cls := "WoodStateModel", name := "grown", desc := "(II)I" } : Jvm.MethodName)) ∈ lw_tbl := lw_at lw_m8 140 rfl
theorem q1986 : (Jvm.Cond.instanceMethod ({ cls := "WoodStateModel", name := "grown", desc := "(II)I" } : Jvm.MethodName)) ∈ lw_all := lw_g (lw_at lw_m8 141 rfl) rfl
theorem q1987 : (Jvm.Cond.code ({ cls := "WoodStateModel", name := "grown", desc := "(II)I" } : Jvm.MethodName) prog_19_method_93_code (5 : Nat) (Option.some Jvm.ClassFile.FieldType.int)) ∈ lw_all := lw_g (lw_at lw_m8 142 rfl) rfl
theorem q1988 : (Jvm.Cond.methodLink "WoodStateModel" (152 : Nat) ({ cls := "WoodStateModel", name := "free", desc := "()I" } : Jvm.MethodName)) ∈ lw_all := lw_g (lw_at lw_m8 143 rfl) rfl
theorem q1989 : (Jvm.Cond.privateMethod ({ cls := "WoodStateModel", name := "free", desc := "()I" } : Jvm.MethodName)) ∈ lw_tbl := lw_at lw_m8 144 rfl
theorem q1990 : (Jvm.Cond.instanceMethod ({ cls := "WoodStateModel", name := "free", desc := "()I" } : Jvm.MethodName)) ∈ lw_all := lw_g (lw_at lw_m8 145 rfl) rfl
theorem q1991 : (Jvm.Cond.code ({ cls := "WoodStateModel", name := "free", desc := "()I" } : Jvm.MethodName) prog_19_method_32_code (2 : Nat) (Option.some Jvm.ClassFile.FieldType.int)) ∈ lw_all := lw_g (lw_at lw_m8 146 rfl) rfl
theorem q1992 : (Jvm.Cond.methodLink "WoodStateModel" (162 : Nat) ({ cls := "WoodStateModel", name := "makes", desc := "(IIII)I" } : Jvm.MethodName)) ∈ lw_all := lw_g (lw_at lw_m8 147 rfl) rfl
theorem q1993 : (Jvm.Cond.privateMethod ({ cls := "WoodStateModel", name := "makes", desc := "(IIII)I" } : Jvm.MethodName)) ∈ lw_tbl := lw_at lw_m8 148 rfl
theorem q1994 : (Jvm.Cond.instanceMethod ({ cls := "WoodStateModel", name := "makes", desc := "(IIII)I" } : Jvm.MethodName)) ∈ lw_all := lw_g (lw_at lw_m8 149 rfl) rfl
theorem q1995 : (Jvm.Cond.code ({ cls := "WoodStateModel", name := "makes", desc := "(IIII)I" } : Jvm.MethodName) prog_19_method_33_code (7 : Nat) (Option.some Jvm.ClassFile.FieldType.int)) ∈ lw_all := lw_g (lw_at lw_m8 150 rfl) rfl
theorem q1997 : (Jvm.Cond.instanceMethod ({ cls := "WoodStateModel", name := "settle", desc := "(IZ)I" } : Jvm.MethodName)) ∈ lw_all := lw_g (lw_at lw_m8 152 rfl) rfl
theorem q1998 : (Jvm.Cond.selects "WoodStateModel" ({ cls := "WoodStateModel", name := "settle", desc := "(IZ)I" } : Jvm.MethodName) ({ cls := "WoodStateModel", name := "settle", desc := "(IZ)I" } : Jvm.MethodName)) ∈ lw_all := lw_g (lw_at lw_m8 153 rfl) rfl
theorem q1999 : (Jvm.Cond.code ({ cls := "WoodStateModel", name := "settle", desc := "(IZ)I" } : Jvm.MethodName) prog_19_method_38_code (4 : Nat) (Option.some Jvm.ClassFile.FieldType.int)) ∈ lw_all := lw_g (lw_at lw_m8 154 rfl) rfl
theorem q2001 : (Jvm.Cond.instanceMethod ({ cls := "WoodStateModel", name := "book", desc := "(I)J" } : Jvm.MethodName)) ∈ lw_all := lw_g (lw_at lw_m8 156 rfl) rfl
theorem q2002 : (Jvm.Cond.selects "WoodStateModel" ({ cls := "WoodStateModel", name := "book", desc := "(I)J" } : Jvm.MethodName) ({ cls := "WoodStateModel", name := "book", desc := "(I)J" } : Jvm.MethodName)) ∈ lw_all := lw_g (lw_at lw_m8 157 rfl) rfl
theorem q2003 : (Jvm.Cond.code ({ cls := "WoodStateModel", name := "book", desc := "(I)J" } : Jvm.MethodName) prog_19_method_39_code (2 : Nat) (Option.some Jvm.ClassFile.FieldType.long)) ∈ lw_all := lw_g (lw_at lw_m8 158 rfl) rfl
theorem q2004 : (Jvm.Cond.methodLink "WoodStateModel" (165 : Nat) ({ cls := "WoodStateModel", name := "hush", desc := "(I)I" } : Jvm.MethodName)) ∈ lw_all := lw_g (lw_at lw_m8 159 rfl) rfl
theorem q2005 : (Jvm.Cond.privateMethod ({ cls := "WoodStateModel", name := "hush", desc := "(I)I" } : Jvm.MethodName)) ∈ lw_tbl := lw_at lw_m8 160 rfl
theorem q2006 : (Jvm.Cond.instanceMethod ({ cls := "WoodStateModel", name := "hush", desc := "(I)I" } : Jvm.MethodName)) ∈ lw_all := lw_g (lw_at lw_m8 161 rfl) rfl
theorem q2007 : (Jvm.Cond.code ({ cls := "WoodStateModel", name := "hush", desc := "(I)I" } : Jvm.MethodName) prog_19_method_5_code (2 : Nat) (Option.some Jvm.ClassFile.FieldType.int)) ∈ lw_all := lw_g (lw_at lw_m8 162 rfl) rfl
theorem q2009 : (Jvm.Cond.instanceMethod ({ cls := "WoodStateModel", name := "feed", desc := "(II)I" } : Jvm.MethodName)) ∈ lw_all := lw_g (lw_at lw_m8 164 rfl) rfl
theorem q2010 : (Jvm.Cond.selects "WoodStateModel" ({ cls := "WoodStateModel", name := "feed", desc := "(II)I" } : Jvm.MethodName) ({ cls := "WoodStateModel", name := "feed", desc := "(II)I" } : Jvm.MethodName)) ∈ lw_all := lw_g (lw_at lw_m8 165 rfl) rfl
theorem q2011 : (Jvm.Cond.code ({ cls := "WoodStateModel", name := "feed", desc := "(II)I" } : Jvm.MethodName) prog_19_method_57_code (4 : Nat) (Option.some Jvm.ClassFile.FieldType.int)) ∈ lw_all := lw_g (lw_at lw_m8 166 rfl) rfl
theorem q2013 : (Jvm.Cond.instanceMethod ({ cls := "WoodStateModel", name := "wipe", desc := "()I" } : Jvm.MethodName)) ∈ lw_all := lw_g (lw_at lw_m8 168 rfl) rfl
theorem q2014 : (Jvm.Cond.selects "WoodStateModel" ({ cls := "WoodStateModel", name := "wipe", desc := "()I" } : Jvm.MethodName) ({ cls := "WoodStateModel", name := "wipe", desc := "()I" } : Jvm.MethodName)) ∈ lw_all := lw_g (lw_at lw_m8 169 rfl) rfl
theorem q2015 : (Jvm.Cond.code ({ cls := "WoodStateModel", name := "wipe", desc := "()I" } : Jvm.MethodName) prog_19_method_58_code (2 : Nat) (Option.some Jvm.ClassFile.FieldType.int)) ∈ lw_all := lw_g (lw_at lw_m8 170 rfl) rfl
theorem q2017 : (Jvm.Cond.instanceMethod ({ cls := "WoodStateModel", name := "line", desc := "()I" } : Jvm.MethodName)) ∈ lw_all := lw_g (lw_at lw_m8 172 rfl) rfl
theorem q2018 : (Jvm.Cond.selects "WoodStateModel" ({ cls := "WoodStateModel", name := "line", desc := "()I" } : Jvm.MethodName) ({ cls := "WoodStateModel", name := "line", desc := "()I" } : Jvm.MethodName)) ∈ lw_all := lw_g (lw_at lw_m8 173 rfl) rfl
theorem q2019 : (Jvm.Cond.code ({ cls := "WoodStateModel", name := "line", desc := "()I" } : Jvm.MethodName) prog_19_method_59_code (4 : Nat) (Option.some Jvm.ClassFile.FieldType.int)) ∈ lw_all := lw_g (lw_at lw_m8 174 rfl) rfl
theorem q2021 : (Jvm.Cond.instanceMethod ({ cls := "WoodStateModel", name := "lineOf", desc := "(II)I" } : Jvm.MethodName)) ∈ lw_all := lw_g (lw_at lw_m8 176 rfl) rfl
theorem q2022 : (Jvm.Cond.selects "WoodStateModel" ({ cls := "WoodStateModel", name := "lineOf", desc := "(II)I" } : Jvm.MethodName) ({ cls := "WoodStateModel", name := "lineOf", desc := "(II)I" } : Jvm.MethodName)) ∈ lw_all := lw_g (lw_at lw_m8 177 rfl) rfl
theorem q2023 : (Jvm.Cond.code ({ cls := "WoodStateModel", name := "lineOf", desc := "(II)I" } : Jvm.MethodName) prog_19_method_60_code (3 : Nat) (Option.some Jvm.ClassFile.FieldType.int)) ∈ lw_all := lw_g (lw_at lw_m8 178 rfl) rfl
theorem q2025 : (Jvm.Cond.instanceMethod ({ cls := "WoodStateModel", name := "says", desc := "(III)I" } : Jvm.MethodName)) ∈ lw_all := lw_g (lw_at lw_m8 180 rfl) rfl
theorem q2026 : (Jvm.Cond.selects "WoodStateModel" ({ cls := "WoodStateModel", name := "says", desc := "(III)I" } : Jvm.MethodName) ({ cls := "WoodStateModel", name := "says", desc := "(III)I" } : Jvm.MethodName)) ∈ lw_all := lw_g (lw_at lw_m8 181 rfl) rfl
theorem q2027 : (Jvm.Cond.code ({ cls := "WoodStateModel", name := "says", desc := "(III)I" } : Jvm.MethodName) prog_19_method_63_code (5 : Nat) (Option.some Jvm.ClassFile.FieldType.int)) ∈ lw_all := lw_g (lw_at lw_m8 182 rfl) rfl
theorem q2028 : (Jvm.Cond.methodLink "WoodStateModel" (329 : Nat) ({ cls := "WoodStateModel", name := "noWho", desc := "(III)I" } : Jvm.MethodName)) ∈ lw_all := lw_g (lw_at lw_m8 183 rfl) rfl
theorem q2029 : (Jvm.Cond.privateMethod ({ cls := "WoodStateModel", name := "noWho", desc := "(III)I" } : Jvm.MethodName)) ∈ lw_tbl := lw_at lw_m8 184 rfl
theorem q2030 : (Jvm.Cond.instanceMethod ({ cls := "WoodStateModel", name := "noWho", desc := "(III)I" } : Jvm.MethodName)) ∈ lw_all := lw_g (lw_at lw_m8 185 rfl) rfl
theorem q2031 : (Jvm.Cond.code ({ cls := "WoodStateModel", name := "noWho", desc := "(III)I" } : Jvm.MethodName) prog_19_method_61_code (4 : Nat) (Option.some Jvm.ClassFile.FieldType.int)) ∈ lw_all := lw_g (lw_at lw_m8 186 rfl) rfl
theorem q2032 : (Jvm.Cond.methodLink "WoodStateModel" (332 : Nat) ({ cls := "WoodStateModel", name := "defaultOf", desc := "(I)I" } : Jvm.MethodName)) ∈ lw_all := lw_g (lw_at lw_m8 187 rfl) rfl
theorem q2033 : (Jvm.Cond.static ({ cls := "WoodStateModel", name := "defaultOf", desc := "(I)I" } : Jvm.MethodName)) ∈ lw_all := lw_g (lw_at lw_m8 188 rfl) rfl
theorem q2034 : (Jvm.Cond.code ({ cls := "WoodStateModel", name := "defaultOf", desc := "(I)I" } : Jvm.MethodName) prog_19_method_62_code (1 : Nat) (Option.some Jvm.ClassFile.FieldType.int)) ∈ lw_all := lw_g (lw_at lw_m8 189 rfl) rfl
theorem q2036 : (Jvm.Cond.instanceMethod ({ cls := "WoodStateModel", name := "why", desc := "(III)I" } : Jvm.MethodName)) ∈ lw_all := lw_g (lw_at lw_m8 191 rfl) rfl
theorem q2037 : (Jvm.Cond.selects "WoodStateModel" ({ cls := "WoodStateModel", name := "why", desc := "(III)I" } : Jvm.MethodName) ({ cls := "WoodStateModel", name := "why", desc := "(III)I" } : Jvm.MethodName)) ∈ lw_all := lw_g (lw_at lw_m8 192 rfl) rfl
theorem q2038 : (Jvm.Cond.code ({ cls := "WoodStateModel", name := "why", desc := "(III)I" } : Jvm.MethodName) prog_19_method_64_code (5 : Nat) (Option.some Jvm.ClassFile.FieldType.int)) ∈ lw_all := lw_g (lw_at lw_m8 193 rfl) rfl
theorem q2040 : (Jvm.Cond.instanceMethod ({ cls := "WoodStateModel", name := "may", desc := "(III)I" } : Jvm.MethodName)) ∈ lw_all := lw_g (lw_at lw_m8 195 rfl) rfl
theorem q2041 : (Jvm.Cond.selects "WoodStateModel" ({ cls := "WoodStateModel", name := "may", desc := "(III)I" } : Jvm.MethodName) ({ cls := "WoodStateModel", name := "may", desc := "(III)I" } : Jvm.MethodName)) ∈ lw_all := lw_g (lw_at lw_m8 196 rfl) rfl
theorem q2042 : (Jvm.Cond.code ({ cls := "WoodStateModel", name := "may", desc := "(III)I" } : Jvm.MethodName) prog_19_method_72_code (5 : Nat) (Option.some Jvm.ClassFile.FieldType.int)) ∈ lw_all := lw_g (lw_at lw_m8 197 rfl) rfl
theorem q2043 : (Jvm.Cond.methodLink "WoodStateModel" (350 : Nat) ({ cls := "WoodStateModel", name := "noOrder", desc := "(III)I" } : Jvm.MethodName)) ∈ lw_all := lw_g (lw_at lw_m8 198 rfl) rfl
theorem q2044 : (Jvm.Cond.privateMethod ({ cls := "WoodStateModel", name := "noOrder", desc := "(III)I" } : Jvm.MethodName)) ∈ lw_tbl := lw_at lw_m8 199 rfl
theorem q2045 : (Jvm.Cond.instanceMethod ({ cls := "WoodStateModel", name := "noOrder", desc := "(III)I" } : Jvm.MethodName)) ∈ lw_all := lw_g (lw_at lw_m8 200 rfl) rfl
theorem q2046 : (Jvm.Cond.code ({ cls := "WoodStateModel", name := "noOrder", desc := "(III)I" } : Jvm.MethodName) prog_19_method_70_code (4 : Nat) (Option.some Jvm.ClassFile.FieldType.int)) ∈ lw_all := lw_g (lw_at lw_m8 201 rfl) rfl
theorem q2047 : (Jvm.Cond.methodLink "WoodStateModel" (353 : Nat) ({ cls := "WoodStateModel", name := "mayBe", desc := "(III)I" } : Jvm.MethodName)) ∈ lw_all := lw_g (lw_at lw_m8 202 rfl) rfl
theorem q2048 : (Jvm.Cond.privateMethod ({ cls := "WoodStateModel", name := "mayBe", desc := "(III)I" } : Jvm.MethodName)) ∈ lw_tbl := lw_at lw_m8 203 rfl
theorem q2049 : (Jvm.Cond.instanceMethod ({ cls := "WoodStateModel", name := "mayBe", desc := "(III)I" } : Jvm.MethodName)) ∈ lw_all := lw_g (lw_at lw_m8 204 rfl) rfl
theorem q2050 : (Jvm.Cond.code ({ cls := "WoodStateModel", name := "mayBe", desc := "(III)I" } : Jvm.MethodName) prog_19_method_71_code (4 : Nat) (Option.some Jvm.ClassFile.FieldType.int)) ∈ lw_all := lw_g (lw_at lw_m8 205 rfl) rfl
theorem q2051 : (Jvm.Cond.methodLink "WoodStateModel" (341 : Nat) ({ cls := "WoodStateModel", name := "mayCut", desc := "(I)I" } : Jvm.MethodName)) ∈ lw_all := lw_g (lw_at lw_m8 206 rfl) rfl
theorem q2052 : (Jvm.Cond.privateMethod ({ cls := "WoodStateModel", name := "mayCut", desc := "(I)I" } : Jvm.MethodName)) ∈ lw_tbl := lw_at lw_m8 207 rfl
theorem q2053 : (Jvm.Cond.instanceMethod ({ cls := "WoodStateModel", name := "mayCut", desc := "(I)I" } : Jvm.MethodName)) ∈ lw_all := lw_g (lw_at lw_m8 208 rfl) rfl
theorem q2054 : (Jvm.Cond.code ({ cls := "WoodStateModel", name := "mayCut", desc := "(I)I" } : Jvm.MethodName) prog_19_method_67_code (6 : Nat) (Option.some Jvm.ClassFile.FieldType.int)) ∈ lw_all := lw_g (lw_at lw_m8 209 rfl) rfl
theorem q2055 : (Jvm.Cond.methodLink "WoodStateModel" (335 : Nat) ({ cls := "WoodStateModel", name := "od", desc := "(II)I" } : Jvm.MethodName)) ∈ lw_all := lw_g (lw_at lw_m8 210 rfl) rfl
theorem q2056 : (Jvm.Cond.privateMethod ({ cls := "WoodStateModel", name := "od", desc := "(II)I" } : Jvm.MethodName)) ∈ lw_tbl := lw_at lw_m8 211 rfl
theorem q2057 : (Jvm.Cond.instanceMethod ({ cls := "WoodStateModel", name := "od", desc := "(II)I" } : Jvm.MethodName)) ∈ lw_all := lw_g (lw_at lw_m8 212 rfl) rfl
theorem q2058 : (Jvm.Cond.code ({ cls := "WoodStateModel", name := "od", desc := "(II)I" } : Jvm.MethodName) prog_19_method_65_code (3 : Nat) (Option.some Jvm.ClassFile.FieldType.int)) ∈ lw_all := lw_g (lw_at lw_m8 213 rfl) rfl
theorem q2059 : (Jvm.Cond.methodLink "WoodStateModel" (338 : Nat) ({ cls := "WoodStateModel", name := "isOrdered", desc := "(II)Z" } : Jvm.MethodName)) ∈ lw_all := lw_g (lw_at lw_m8 214 rfl) rfl
theorem q2060 : (Jvm.Cond.privateMethod ({ cls := "WoodStateModel", name := "isOrdered", desc := "(II)Z" } : Jvm.MethodName)) ∈ lw_tbl := lw_at lw_m8 215 rfl
theorem q2061 : (Jvm.Cond.instanceMethod ({ cls := "WoodStateModel", name := "isOrdered", desc := "(II)Z" } : Jvm.MethodName)) ∈ lw_all := lw_g (lw_at lw_m8 216 rfl) rfl
theorem q2062 : (Jvm.Cond.code ({ cls := "WoodStateModel", name := "isOrdered", desc := "(II)Z" } : Jvm.MethodName) prog_19_method_66_code (4 : Nat) (Option.some Jvm.ClassFile.FieldType.boolean)) ∈ lw_all := lw_g (lw_at lw_m8 217 rfl) rfl
theorem q2063 : (Jvm.Cond.methodLink "WoodStateModel" (344 : Nat) ({ cls := "WoodStateModel", name := "mayThin", desc := "(II)I" } : Jvm.MethodName)) ∈ lw_all := lw_g (lw_at lw_m8 218 rfl) rfl
theorem q2064 : (Jvm.Cond.privateMethod ({ cls := "WoodStateModel", name := "mayThin", desc := "(II)I" } : Jvm.MethodName)) ∈ lw_tbl := lw_at lw_m8 219 rfl
theorem q2065 : (Jvm.Cond.instanceMethod ({ cls := "WoodStateModel", name := "mayThin", desc := "(II)I" } : Jvm.MethodName)) ∈ lw_all := lw_g (lw_at lw_m8 220 rfl) rfl
theorem q2066 : (Jvm.Cond.code ({ cls := "WoodStateModel", name := "mayThin", desc := "(II)I" } : Jvm.MethodName) prog_19_method_68_code (3 : Nat) (Option.some Jvm.ClassFile.FieldType.int)) ∈ lw_all := lw_g (lw_at lw_m8 221 rfl) rfl
theorem q2067 : (Jvm.Cond.methodLink "WoodStateModel" (347 : Nat) ({ cls := "WoodStateModel", name := "mayPlant", desc := "(II)I" } : Jvm.MethodName)) ∈ lw_all := lw_g (lw_at lw_m8 222 rfl) rfl
theorem q2068 : (Jvm.Cond.privateMethod ({ cls := "WoodStateModel", name := "mayPlant", desc := "(II)I" } : Jvm.MethodName)) ∈ lw_tbl := lw_at lw_m8 223 rfl
theorem q2069 : (Jvm.Cond.instanceMethod ({ cls := "WoodStateModel", name := "mayPlant", desc := "(II)I" } : Jvm.MethodName)) ∈ lw_all := lw_g (lw_at lw_m8 224 rfl) rfl
theorem q2070 : (Jvm.Cond.code ({ cls := "WoodStateModel", name := "mayPlant", desc := "(II)I" } : Jvm.MethodName) prog_19_method_69_code (5 : Nat) (Option.some Jvm.ClassFile.FieldType.int)) ∈ lw_all := lw_g (lw_at lw_m8 225 rfl) rfl
theorem q2072 : (Jvm.Cond.instanceMethod ({ cls := "WoodStateModel", name := "order", desc := "(III)I" } : Jvm.MethodName)) ∈ lw_all := lw_g (lw_at lw_m8 227 rfl) rfl
theorem q2073 : (Jvm.Cond.selects "WoodStateModel" ({ cls := "WoodStateModel", name := "order", desc := "(III)I" } : Jvm.MethodName) ({ cls := "WoodStateModel", name := "order", desc := "(III)I" } : Jvm.MethodName)) ∈ lw_all := lw_g (lw_at lw_m8 228 rfl) rfl
theorem q2074 : (Jvm.Cond.code ({ cls := "WoodStateModel", name := "order", desc := "(III)I" } : Jvm.MethodName) prog_19_method_73_code (6 : Nat) (Option.some Jvm.ClassFile.FieldType.int)) ∈ lw_all := lw_g (lw_at lw_m8 229 rfl) rfl
theorem q2076 : (Jvm.Cond.instanceMethod ({ cls := "WoodStateModel", name := "cancel", desc := "(I)I" } : Jvm.MethodName)) ∈ lw_all := lw_g (lw_at lw_m8 231 rfl) rfl
theorem q2077 : (Jvm.Cond.selects "WoodStateModel" ({ cls := "WoodStateModel", name := "cancel", desc := "(I)I" } : Jvm.MethodName) ({ cls := "WoodStateModel", name := "cancel", desc := "(I)I" } : Jvm.MethodName)) ∈ lw_all := lw_g (lw_at lw_m8 232 rfl) rfl
theorem q2078 : (Jvm.Cond.code ({ cls := "WoodStateModel", name := "cancel", desc := "(I)I" } : Jvm.MethodName) prog_19_method_74_code (3 : Nat) (Option.some Jvm.ClassFile.FieldType.int)) ∈ lw_all := lw_g (lw_at lw_m8 233 rfl) rfl
theorem q2080 : (Jvm.Cond.instanceMethod ({ cls := "WoodStateModel", name := "ordered", desc := "(II)I" } : Jvm.MethodName)) ∈ lw_all := lw_g (lw_at lw_m8 235 rfl) rfl
theorem q2081 : (Jvm.Cond.selects "WoodStateModel" ({ cls := "WoodStateModel", name := "ordered", desc := "(II)I" } : Jvm.MethodName) ({ cls := "WoodStateModel", name := "ordered", desc := "(II)I" } : Jvm.MethodName)) ∈ lw_all := lw_g (lw_at lw_m8 236 rfl) rfl
theorem q2082 : (Jvm.Cond.code ({ cls := "WoodStateModel", name := "ordered", desc := "(II)I" } : Jvm.MethodName) prog_19_method_75_code (3 : Nat) (Option.some Jvm.ClassFile.FieldType.int)) ∈ lw_all := lw_g (lw_at lw_m8 237 rfl) rfl
theorem q2084 : (Jvm.Cond.instanceMethod ({ cls := "WoodStateModel", name := "sow", desc := "(II)I" } : Jvm.MethodName)) ∈ lw_all := lw_g (lw_at lw_m8 239 rfl) rfl
theorem q2085 : (Jvm.Cond.selects "WoodStateModel" ({ cls := "WoodStateModel", name := "sow", desc := "(II)I" } : Jvm.MethodName) ({ cls := "WoodStateModel", name := "sow", desc := "(II)I" } : Jvm.MethodName)) ∈ lw_all := lw_g (lw_at lw_m9 0 rfl) rfl
theorem q2086 : (Jvm.Cond.code ({ cls := "WoodStateModel", name := "sow", desc := "(II)I" } : Jvm.MethodName) prog_19_method_76_code (5 : Nat) (Option.some Jvm.ClassFile.FieldType.int)) ∈ lw_all := lw_g (lw_at lw_m9 1 rfl) rfl
theorem q2088 : (Jvm.Cond.instanceMethod ({ cls := "WoodStateModel", name := "nursery", desc := "(II)I" } : Jvm.MethodName)) ∈ lw_all := lw_g (lw_at lw_m9 3 rfl) rfl
theorem q2089 : (Jvm.Cond.selects "WoodStateModel" ({ cls := "WoodStateModel", name := "nursery", desc := "(II)I" } : Jvm.MethodName) ({ cls := "WoodStateModel", name := "nursery", desc := "(II)I" } : Jvm.MethodName)) ∈ lw_all := lw_g (lw_at lw_m9 4 rfl) rfl
theorem q2090 : (Jvm.Cond.code ({ cls := "WoodStateModel", name := "nursery", desc := "(II)I" } : Jvm.MethodName) prog_19_method_77_code (3 : Nat) (Option.some Jvm.ClassFile.FieldType.int)) ∈ lw_all := lw_g (lw_at lw_m9 5 rfl) rfl
theorem q2092 : (Jvm.Cond.instanceMethod ({ cls := "WoodStateModel", name := "wind", desc := "(II)I" } : Jvm.MethodName)) ∈ lw_all := lw_g (lw_at lw_m9 7 rfl) rfl
theorem q2093 : (Jvm.Cond.selects "WoodStateModel" ({ cls := "WoodStateModel", name := "wind", desc := "(II)I" } : Jvm.MethodName) ({ cls := "WoodStateModel", name := "wind", desc := "(II)I" } : Jvm.MethodName)) ∈ lw_all := lw_g (lw_at lw_m9 8 rfl) rfl
theorem q2094 : (Jvm.Cond.code ({ cls := "WoodStateModel", name := "wind", desc := "(II)I" } : Jvm.MethodName) prog_19_method_78_code (4 : Nat) (Option.some Jvm.ClassFile.FieldType.int)) ∈ lw_all := lw_g (lw_at lw_m9 9 rfl) rfl
theorem q2096 : (Jvm.Cond.instanceMethod ({ cls := "WoodStateModel", name := "read", desc := "()I" } : Jvm.MethodName)) ∈ lw_all := lw_g (lw_at lw_m9 11 rfl) rfl
theorem q2097 : (Jvm.Cond.selects "WoodStateModel" ({ cls := "WoodStateModel", name := "read", desc := "()I" } : Jvm.MethodName) ({ cls := "WoodStateModel", name := "read", desc := "()I" } : Jvm.MethodName)) ∈ lw_all := lw_g (lw_at lw_m9 12 rfl) rfl
theorem q2098 : (Jvm.Cond.code ({ cls := "WoodStateModel", name := "read", desc := "()I" } : Jvm.MethodName) prog_19_method_79_code (4 : Nat) (Option.some Jvm.ClassFile.FieldType.int)) ∈ lw_all := lw_g (lw_at lw_m9 13 rfl) rfl
theorem q2100 : (Jvm.Cond.instanceMethod ({ cls := "WoodStateModel", name := "watch", desc := "(III)I" } : Jvm.MethodName)) ∈ lw_all := lw_g (lw_at lw_m9 15 rfl) rfl
theorem q2101 : (Jvm.Cond.selects "WoodStateModel" ({ cls := "WoodStateModel", name := "watch", desc := "(III)I" } : Jvm.MethodName) ({ cls := "WoodStateModel", name := "watch", desc := "(III)I" } : Jvm.MethodName)) ∈ lw_all := lw_g (lw_at lw_m9 16 rfl) rfl
theorem q2102 : (Jvm.Cond.code ({ cls := "WoodStateModel", name := "watch", desc := "(III)I" } : Jvm.MethodName) prog_19_method_80_code (5 : Nat) (Option.some Jvm.ClassFile.FieldType.int)) ∈ lw_all := lw_g (lw_at lw_m9 17 rfl) rfl
theorem q2104 : (Jvm.Cond.instanceMethod ({ cls := "WoodStateModel", name := "run", desc := "(I)I" } : Jvm.MethodName)) ∈ lw_all := lw_g (lw_at lw_m9 19 rfl) rfl
theorem q2105 : (Jvm.Cond.selects "WoodStateModel" ({ cls := "WoodStateModel", name := "run", desc := "(I)I" } : Jvm.MethodName) ({ cls := "WoodStateModel", name := "run", desc := "(I)I" } : Jvm.MethodName)) ∈ lw_all := lw_g (lw_at lw_m9 20 rfl) rfl
theorem q2106 : (Jvm.Cond.code ({ cls := "WoodStateModel", name := "run", desc := "(I)I" } : Jvm.MethodName) prog_19_method_90_code (3 : Nat) (Option.some Jvm.ClassFile.FieldType.int)) ∈ lw_all := lw_g (lw_at lw_m9 21 rfl) rfl
theorem q2107 : (Jvm.Cond.methodLink "WoodStateModel" (387 : Nat) ({ cls := "WoodStateModel", name := "close", desc := "()V" } : Jvm.MethodName)) ∈ lw_all := lw_g (lw_at lw_m9 22 rfl) rfl
theorem q2108 : (Jvm.Cond.privateMethod ({ cls := "WoodStateModel", name := "close", desc := "()V" } : Jvm.MethodName)) ∈ lw_tbl := lw_at lw_m9 23 rfl
theorem q2109 : (Jvm.Cond.instanceMethod ({ cls := "WoodStateModel", name := "close", desc := "()V" } : Jvm.MethodName)) ∈ lw_all := lw_g (lw_at lw_m9 24 rfl) rfl
theorem q2110 : (Jvm.Cond.code ({ cls := "WoodStateModel", name := "close", desc := "()V" } : Jvm.MethodName) prog_19_method_88_code (3 : Nat) (Option.none : Option Jvm.ClassFile.FieldType)) ∈ lw_all := lw_g (lw_at lw_m9 25 rfl) rfl
theorem q2111 : (Jvm.Cond.methodLink "WoodStateModel" (368 : Nat) ({ cls := "WoodStateModel", name := "rights", desc := "()V" } : Jvm.MethodName)) ∈ lw_all := lw_g (lw_at lw_m9 26 rfl) rfl
theorem q2112 : (Jvm.Cond.privateMethod ({ cls := "WoodStateModel", name := "rights", desc := "()V" } : Jvm.MethodName)) ∈ lw_tbl := lw_at lw_m9 27 rfl
theorem q2113 : (Jvm.Cond.instanceMethod ({ cls := "WoodStateModel", name := "rights", desc := "()V" } : Jvm.MethodName)) ∈ lw_all := lw_g (lw_at lw_m9 28 rfl) rfl
theorem q2114 : (Jvm.Cond.code ({ cls := "WoodStateModel", name := "rights", desc := "()V" } : Jvm.MethodName) prog_19_method_81_code (7 : Nat) (Option.none : Option Jvm.ClassFile.FieldType)) ∈ lw_all := lw_g (lw_at lw_m9 29 rfl) rfl
theorem q2115 : (Jvm.Cond.methodLink "WoodStateModel" (371 : Nat) ({ cls := "WoodStateModel", name := "obey", desc := "()V" } : Jvm.MethodName)) ∈ lw_all := lw_g (lw_at lw_m9 30 rfl) rfl
theorem q2116 : (Jvm.Cond.privateMethod ({ cls := "WoodStateModel", name := "obey", desc := "()V" } : Jvm.MethodName)) ∈ lw_tbl := lw_at lw_m9 31 rfl
theorem q2117 : (Jvm.Cond.instanceMethod ({ cls := "WoodStateModel", name := "obey", desc := "()V" } : Jvm.MethodName)) ∈ lw_all := lw_g (lw_at lw_m9 32 rfl) rfl
theorem q2118 : (Jvm.Cond.code ({ cls := "WoodStateModel", name := "obey", desc := "()V" } : Jvm.MethodName) prog_19_method_83_code (4 : Nat) (Option.none : Option Jvm.ClassFile.FieldType)) ∈ lw_all := lw_g (lw_at lw_m9 33 rfl) rfl
theorem q2119 : (Jvm.Cond.methodLink "WoodStateModel" (362 : Nat) ({ cls := "WoodStateModel", name := "thins", desc := "(II)I" } : Jvm.MethodName)) ∈ lw_all := lw_g (lw_at lw_m9 34 rfl) rfl
theorem q2120 : (Jvm.Cond.privateMethod ({ cls := "WoodStateModel", name := "thins", desc := "(II)I" } : Jvm.MethodName)) ∈ lw_tbl := lw_at lw_m9 35 rfl
theorem q2121 : (Jvm.Cond.instanceMethod ({ cls := "WoodStateModel", name := "thins", desc := "(II)I" } : Jvm.MethodName)) ∈ lw_all := lw_g (lw_at lw_m9 36 rfl) rfl
theorem q2122 : (Jvm.Cond.code ({ cls := "WoodStateModel", name := "thins", desc := "(II)I" } : Jvm.MethodName) prog_19_method_15_code (4 : Nat) (Option.some Jvm.ClassFile.FieldType.int)) ∈ lw_all := lw_g (lw_at lw_m9 37 rfl) rfl
theorem q2123 : (Jvm.Cond.methodLink "WoodStateModel" (365 : Nat) ({ cls := "WoodStateModel", name := "lots", desc := "(II)V" } : Jvm.MethodName)) ∈ lw_all := lw_g (lw_at lw_m9 38 rfl) rfl
theorem q2124 : (Jvm.Cond.privateMethod ({ cls := "WoodStateModel", name := "lots", desc := "(II)V" } : Jvm.MethodName)) ∈ lw_tbl := lw_at lw_m9 39 rfl
theorem q2125 : (Jvm.Cond.instanceMethod ({ cls := "WoodStateModel", name := "lots", desc := "(II)V" } : Jvm.MethodName)) ∈ lw_all := lw_g (lw_at lw_m9 40 rfl) rfl
theorem q2126 : (Jvm.Cond.code ({ cls := "WoodStateModel", name := "lots", desc := "(II)V" } : Jvm.MethodName) prog_19_method_82_code (4 : Nat) (Option.none : Option Jvm.ClassFile.FieldType)) ∈ lw_all := lw_g (lw_at lw_m9 41 rfl) rfl
theorem q2127 : (Jvm.Cond.methodLink "WoodStateModel" (374 : Nat) ({ cls := "WoodStateModel", name := "blows", desc := "()V" } : Jvm.MethodName)) ∈ lw_all := lw_g (lw_at lw_m9 42 rfl) rfl
theorem q2128 : (Jvm.Cond.privateMethod ({ cls := "WoodStateModel", name := "blows", desc := "()V" } : Jvm.MethodName)) ∈ lw_tbl := lw_at lw_m9 43 rfl
theorem q2129 : (Jvm.Cond.instanceMethod ({ cls := "WoodStateModel", name := "blows", desc := "()V" } : Jvm.MethodName)) ∈ lw_all := lw_g (lw_at lw_m9 44 rfl) rfl
theorem q2130 : (Jvm.Cond.code ({ cls := "WoodStateModel", name := "blows", desc := "()V" } : Jvm.MethodName) prog_19_method_84_code (5 : Nat) (Option.none : Option Jvm.ClassFile.FieldType)) ∈ lw_all := lw_g (lw_at lw_m9 45 rfl) rfl
theorem q2131 : (Jvm.Cond.methodLink "WoodStateModel" (377 : Nat) ({ cls := "WoodStateModel", name := "eats", desc := "()V" } : Jvm.MethodName)) ∈ lw_all := lw_g (lw_at lw_m9 46 rfl) rfl
theorem q2132 : (Jvm.Cond.privateMethod ({ cls := "WoodStateModel", name := "eats", desc := "()V" } : Jvm.MethodName)) ∈ lw_tbl := lw_at lw_m9 47 rfl
theorem q2133 : (Jvm.Cond.instanceMethod ({ cls := "WoodStateModel", name := "eats", desc := "()V" } : Jvm.MethodName)) ∈ lw_all := lw_g (lw_at lw_m9 48 rfl) rfl
theorem q2134 : (Jvm.Cond.code ({ cls := "WoodStateModel", name := "eats", desc := "()V" } : Jvm.MethodName) prog_19_method_85_code (4 : Nat) (Option.none : Option Jvm.ClassFile.FieldType)) ∈ lw_all := lw_g (lw_at lw_m9 49 rfl) rfl
theorem q2135 : (Jvm.Cond.methodLink "WoodStateModel" (380 : Nat) ({ cls := "WoodStateModel", name := "rotsAndGrows", desc := "()V" } : Jvm.MethodName)) ∈ lw_all := lw_g (lw_at lw_m9 50 rfl) rfl
theorem q2136 : (Jvm.Cond.privateMethod ({ cls := "WoodStateModel", name := "rotsAndGrows", desc := "()V" } : Jvm.MethodName)) ∈ lw_tbl := lw_at lw_m9 51 rfl
theorem q2137 : (Jvm.Cond.instanceMethod ({ cls := "WoodStateModel", name := "rotsAndGrows", desc := "()V" } : Jvm.MethodName)) ∈ lw_all := lw_g (lw_at lw_m9 52 rfl) rfl
theorem q2138 : (Jvm.Cond.code ({ cls := "WoodStateModel", name := "rotsAndGrows", desc := "()V" } : Jvm.MethodName) prog_19_method_86_code (3 : Nat) (Option.none : Option Jvm.ClassFile.FieldType)) ∈ lw_all := lw_g (lw_at lw_m9 53 rfl) rfl
theorem q2139 : (Jvm.Cond.methodLink "WoodStateModel" (383 : Nat) ({ cls := "WoodStateModel", name := "steals", desc := "(I)V" } : Jvm.MethodName)) ∈ lw_all := lw_g (lw_at lw_m9 54 rfl) rfl
theorem q2140 : (Jvm.Cond.privateMethod ({ cls := "WoodStateModel", name := "steals", desc := "(I)V" } : Jvm.MethodName)) ∈ lw_tbl := lw_at lw_m9 55 rfl
theorem q2141 : (Jvm.Cond.instanceMethod ({ cls := "WoodStateModel", name := "steals", desc := "(I)V" } : Jvm.MethodName)) ∈ lw_all := lw_g (lw_at lw_m9 56 rfl) rfl
theorem q2142 : (Jvm.Cond.code ({ cls := "WoodStateModel", name := "steals", desc := "(I)V" } : Jvm.MethodName) prog_19_method_87_code (5 : Nat) (Option.none : Option Jvm.ClassFile.FieldType)) ∈ lw_all := lw_g (lw_at lw_m9 57 rfl) rfl
theorem q2143 : (Jvm.Cond.methodLink "WoodStateModel" (390 : Nat) ({ cls := "WoodStateModel", name := "bareMany", desc := "()I" } : Jvm.MethodName)) ∈ lw_all := lw_g (lw_at lw_m9 58 rfl) rfl
theorem q2144 : (Jvm.Cond.privateMethod ({ cls := "WoodStateModel", name := "bareMany", desc := "()I" } : Jvm.MethodName)) ∈ lw_tbl := lw_at lw_m9 59 rfl
theorem q2145 : (Jvm.Cond.instanceMethod ({ cls := "WoodStateModel", name := "bareMany", desc := "()I" } : Jvm.MethodName)) ∈ lw_all := lw_g (lw_at lw_m9 60 rfl) rfl
theorem q2146 : (Jvm.Cond.code ({ cls := "WoodStateModel", name := "bareMany", desc := "()I" } : Jvm.MethodName) prog_19_method_89_code (3 : Nat) (Option.some Jvm.ClassFile.FieldType.int)) ∈ lw_all := lw_g (lw_at lw_m9 61 rfl) rfl
theorem q2148 : (Jvm.Cond.instanceMethod ({ cls := "WoodStateModel", name := "count", desc := "(II)I" } : Jvm.MethodName)) ∈ lw_all := lw_g (lw_at lw_m9 63 rfl) rfl
theorem q2149 : (Jvm.Cond.selects "WoodStateModel" ({ cls := "WoodStateModel", name := "count", desc := "(II)I" } : Jvm.MethodName) ({ cls := "WoodStateModel", name := "count", desc := "(II)I" } : Jvm.MethodName)) ∈ lw_all := lw_g (lw_at lw_m9 64 rfl) rfl
theorem q2150 : (Jvm.Cond.code ({ cls := "WoodStateModel", name := "count", desc := "(II)I" } : Jvm.MethodName) prog_19_method_92_code (11 : Nat) (Option.some Jvm.ClassFile.FieldType.int)) ∈ lw_all := lw_g (lw_at lw_m9 65 rfl) rfl
theorem q2151 : (Jvm.Cond.methodLink "WoodStateModel" (394 : Nat) ({ cls := "WoodStateModel", name := "draw", desc := "(I)I" } : Jvm.MethodName)) ∈ lw_all := lw_g (lw_at lw_m9 66 rfl) rfl
theorem q2152 : (Jvm.Cond.privateMethod ({ cls := "WoodStateModel", name := "draw", desc := "(I)I" } : Jvm.MethodName)) ∈ lw_tbl := lw_at lw_m9 67 rfl
theorem q2153 : (Jvm.Cond.instanceMethod ({ cls := "WoodStateModel", name := "draw", desc := "(I)I" } : Jvm.MethodName)) ∈ lw_all := lw_g (lw_at lw_m9 68 rfl) rfl
theorem q2154 : (Jvm.Cond.code ({ cls := "WoodStateModel", name := "draw", desc := "(I)I" } : Jvm.MethodName) prog_19_method_91_code (2 : Nat) (Option.some Jvm.ClassFile.FieldType.int)) ∈ lw_all := lw_g (lw_at lw_m9 69 rfl) rfl
theorem q2155 : (Jvm.Cond.constant "WoodStateModel" (393 : Nat) (1103515245 : Int32)) ∈ lw_all := lw_g (lw_at lw_m9 70 rfl) rfl
theorem q2157 : (Jvm.Cond.instanceMethod ({ cls := "WoodStateModel", name := "counted", desc := "(III)I" } : Jvm.MethodName)) ∈ lw_all := lw_g (lw_at lw_m9 72 rfl) rfl
theorem q2158 : (Jvm.Cond.selects "WoodStateModel" ({ cls := "WoodStateModel", name := "counted", desc := "(III)I" } : Jvm.MethodName) ({ cls := "WoodStateModel", name := "counted", desc := "(III)I" } : Jvm.MethodName)) ∈ lw_all := lw_g (lw_at lw_m9 73 rfl) rfl
theorem q2159 : (Jvm.Cond.code ({ cls := "WoodStateModel", name := "counted", desc := "(III)I" } : Jvm.MethodName) prog_19_method_95_code (4 : Nat) (Option.some Jvm.ClassFile.FieldType.int)) ∈ lw_all := lw_g (lw_at lw_m9 74 rfl) rfl
theorem q2161 : (Jvm.Cond.instanceMethod ({ cls := "WoodStateModel", name := "lack", desc := "(I)I" } : Jvm.MethodName)) ∈ lw_all := lw_g (lw_at lw_m9 76 rfl) rfl
theorem q2162 : (Jvm.Cond.selects "WoodStateModel" ({ cls := "WoodStateModel", name := "lack", desc := "(I)I" } : Jvm.MethodName) ({ cls := "WoodStateModel", name := "lack", desc := "(I)I" } : Jvm.MethodName)) ∈ lw_all := lw_g (lw_at lw_m9 77 rfl) rfl
theorem q2163 : (Jvm.Cond.code ({ cls := "WoodStateModel", name := "lack", desc := "(I)I" } : Jvm.MethodName) prog_19_method_96_code (2 : Nat) (Option.some Jvm.ClassFile.FieldType.int)) ∈ lw_all := lw_g (lw_at lw_m9 78 rfl) rfl
theorem q2165 : (Jvm.Cond.instanceMethod ({ cls := "WoodStateModel", name := "plan", desc := "(II)J" } : Jvm.MethodName)) ∈ lw_all := lw_g (lw_at lw_m9 80 rfl) rfl
theorem q2166 : (Jvm.Cond.selects "WoodStateModel" ({ cls := "WoodStateModel", name := "plan", desc := "(II)J" } : Jvm.MethodName) ({ cls := "WoodStateModel", name := "plan", desc := "(II)J" } : Jvm.MethodName)) ∈ lw_all := lw_g (lw_at lw_m9 81 rfl) rfl
theorem q2167 : (Jvm.Cond.code ({ cls := "WoodStateModel", name := "plan", desc := "(II)J" } : Jvm.MethodName) prog_19_method_103_code (10 : Nat) (Option.some Jvm.ClassFile.FieldType.long)) ∈ lw_all := lw_g (lw_at lw_m9 82 rfl) rfl
theorem q2168 : (Jvm.Cond.methodLink "WoodStateModel" (412 : Nat) ({ cls := "WoodStateModel", name := "noSet", desc := "(II)I" } : Jvm.MethodName)) ∈ lw_all := lw_g (lw_at lw_m9 83 rfl) rfl
theorem q2169 : (Jvm.Cond.privateMethod ({ cls := "WoodStateModel", name := "noSet", desc := "(II)I" } : Jvm.MethodName)) ∈ lw_tbl := lw_at lw_m9 84 rfl
theorem q2170 : (Jvm.Cond.instanceMethod ({ cls := "WoodStateModel", name := "noSet", desc := "(II)I" } : Jvm.MethodName)) ∈ lw_all := lw_g (lw_at lw_m9 85 rfl) rfl
theorem q2171 : (Jvm.Cond.code ({ cls := "WoodStateModel", name := "noSet", desc := "(II)I" } : Jvm.MethodName) prog_19_method_97_code (5 : Nat) (Option.some Jvm.ClassFile.FieldType.int)) ∈ lw_all := lw_g (lw_at lw_m9 86 rfl) rfl
theorem q2172 : (Jvm.Cond.methodLink "WoodStateModel" (415 : Nat) ({ cls := "WoodStateModel", name := "layOut", desc := "(II)V" } : Jvm.MethodName)) ∈ lw_all := lw_g (lw_at lw_m9 87 rfl) rfl
theorem q2173 : (Jvm.Cond.privateMethod ({ cls := "WoodStateModel", name := "layOut", desc := "(II)V" } : Jvm.MethodName)) ∈ lw_tbl := lw_at lw_m9 88 rfl
theorem q2174 : (Jvm.Cond.instanceMethod ({ cls := "WoodStateModel", name := "layOut", desc := "(II)V" } : Jvm.MethodName)) ∈ lw_all := lw_g (lw_at lw_m9 89 rfl) rfl
theorem q2175 : (Jvm.Cond.code ({ cls := "WoodStateModel", name := "layOut", desc := "(II)V" } : Jvm.MethodName) prog_19_method_98_code (7 : Nat) (Option.none : Option Jvm.ClassFile.FieldType)) ∈ lw_all := lw_g (lw_at lw_m9 90 rfl) rfl
theorem q2176 : (Jvm.Cond.methodLink "WoodStateModel" (418 : Nat) ({ cls := "WoodStateModel", name := "isAllowed", desc := "()Z" } : Jvm.MethodName)) ∈ lw_all := lw_g (lw_at lw_m9 91 rfl) rfl
theorem q2177 : (Jvm.Cond.privateMethod ({ cls := "WoodStateModel", name := "isAllowed", desc := "()Z" } : Jvm.MethodName)) ∈ lw_tbl := lw_at lw_m9 92 rfl
theorem q2178 : (Jvm.Cond.instanceMethod ({ cls := "WoodStateModel", name := "isAllowed", desc := "()Z" } : Jvm.MethodName)) ∈ lw_all := lw_g (lw_at lw_m9 93 rfl) rfl
theorem q2179 : (Jvm.Cond.code ({ cls := "WoodStateModel", name := "isAllowed", desc := "()Z" } : Jvm.MethodName) prog_19_method_99_code (6 : Nat) (Option.some Jvm.ClassFile.FieldType.boolean)) ∈ lw_all := lw_g (lw_at lw_m9 94 rfl) rfl
theorem q2180 : (Jvm.Cond.methodLink "WoodStateModel" (421 : Nat) ({ cls := "WoodStateModel", name := "weigh", desc := "()V" } : Jvm.MethodName)) ∈ lw_all := lw_g (lw_at lw_m9 95 rfl) rfl
theorem q2181 : (Jvm.Cond.privateMethod ({ cls := "WoodStateModel", name := "weigh", desc := "()V" } : Jvm.MethodName)) ∈ lw_tbl := lw_at lw_m9 96 rfl
theorem q2182 : (Jvm.Cond.instanceMethod ({ cls := "WoodStateModel", name := "weigh", desc := "()V" } : Jvm.MethodName)) ∈ lw_all := lw_g (lw_at lw_m9 97 rfl) rfl
theorem q2183 : (Jvm.Cond.code ({ cls := "WoodStateModel", name := "weigh", desc := "()V" } : Jvm.MethodName) prog_19_method_100_code (5 : Nat) (Option.none : Option Jvm.ClassFile.FieldType)) ∈ lw_all := lw_g (lw_at lw_m9 98 rfl) rfl
theorem q2184 : (Jvm.Cond.methodLink "WoodStateModel" (424 : Nat) ({ cls := "WoodStateModel", name := "goesUp", desc := "()Z" } : Jvm.MethodName)) ∈ lw_all := lw_g (lw_at lw_m9 99 rfl) rfl
theorem q2185 : (Jvm.Cond.privateMethod ({ cls := "WoodStateModel", name := "goesUp", desc := "()Z" } : Jvm.MethodName)) ∈ lw_tbl := lw_at lw_m9 100 rfl
theorem q2186 : (Jvm.Cond.instanceMethod ({ cls := "WoodStateModel", name := "goesUp", desc := "()Z" } : Jvm.MethodName)) ∈ lw_all := lw_g (lw_at lw_m9 101 rfl) rfl
theorem q2187 : (Jvm.Cond.code ({ cls := "WoodStateModel", name := "goesUp", desc := "()Z" } : Jvm.MethodName) prog_19_method_101_code (2 : Nat) (Option.some Jvm.ClassFile.FieldType.boolean)) ∈ lw_all := lw_g (lw_at lw_m9 102 rfl) rfl
theorem q2188 : (Jvm.Cond.methodLink "WoodStateModel" (427 : Nat) ({ cls := "WoodStateModel", name := "keeps", desc := "(I)V" } : Jvm.MethodName)) ∈ lw_all := lw_g (lw_at lw_m9 103 rfl) rfl
theorem q2189 : (Jvm.Cond.privateMethod ({ cls := "WoodStateModel", name := "keeps", desc := "(I)V" } : Jvm.MethodName)) ∈ lw_tbl := lw_at lw_m9 104 rfl
theorem q2190 : (Jvm.Cond.instanceMethod ({ cls := "WoodStateModel", name := "keeps", desc := "(I)V" } : Jvm.MethodName)) ∈ lw_all := lw_g (lw_at lw_m9 105 rfl) rfl
theorem q2191 : (Jvm.Cond.code ({ cls := "WoodStateModel", name := "keeps", desc := "(I)V" } : Jvm.MethodName) prog_19_method_102_code (3 : Nat) (Option.none : Option Jvm.ClassFile.FieldType)) ∈ lw_all := lw_g (lw_at lw_m9 106 rfl) rfl
theorem q2193 : (Jvm.Cond.instanceMethod ({ cls := "WoodStateModel", name := "anew", desc := "(IIJ)I" } : Jvm.MethodName)) ∈ lw_all := lw_g (lw_at lw_m9 108 rfl) rfl
theorem q2194 : (Jvm.Cond.selects "WoodStateModel" ({ cls := "WoodStateModel", name := "anew", desc := "(IIJ)I" } : Jvm.MethodName) ({ cls := "WoodStateModel", name := "anew", desc := "(IIJ)I" } : Jvm.MethodName)) ∈ lw_all := lw_g (lw_at lw_m9 109 rfl) rfl
theorem q2195 : (Jvm.Cond.code ({ cls := "WoodStateModel", name := "anew", desc := "(IIJ)I" } : Jvm.MethodName) prog_19_method_105_code (10 : Nat) (Option.some Jvm.ClassFile.FieldType.int)) ∈ lw_all := lw_g (lw_at lw_m9 110 rfl) rfl
theorem q2196 : (Jvm.Cond.methodLink "WoodStateModel" (430 : Nat) ({ cls := "WoodStateModel", name := "differing", desc := "()I" } : Jvm.MethodName)) ∈ lw_all := lw_g (lw_at lw_m9 111 rfl) rfl
theorem q2197 : (Jvm.Cond.privateMethod ({ cls := "WoodStateModel", name := "differing", desc := "()I" } : Jvm.MethodName)) ∈ lw_tbl := lw_at lw_m9 112 rfl
theorem q2198 : (Jvm.Cond.instanceMethod ({ cls := "WoodStateModel", name := "differing", desc := "()I" } : Jvm.MethodName)) ∈ lw_all := lw_g (lw_at lw_m9 113 rfl) rfl
theorem q2199 : (Jvm.Cond.code ({ cls := "WoodStateModel", name := "differing", desc := "()I" } : Jvm.MethodName) prog_19_method_104_code (4 : Nat) (Option.some Jvm.ClassFile.FieldType.int)) ∈ lw_all := lw_g (lw_at lw_m9 114 rfl) rfl
theorem q2201 : (Jvm.Cond.instanceMethod ({ cls := "WoodStateModel", name := "planned", desc := "(I)I" } : Jvm.MethodName)) ∈ lw_all := lw_g (lw_at lw_m9 116 rfl) rfl
theorem q2202 : (Jvm.Cond.selects "WoodStateModel" ({ cls := "WoodStateModel", name := "planned", desc := "(I)I" } : Jvm.MethodName) ({ cls := "WoodStateModel", name := "planned", desc := "(I)I" } : Jvm.MethodName)) ∈ lw_all := lw_g (lw_at lw_m9 117 rfl) rfl
theorem q2203 : (Jvm.Cond.code ({ cls := "WoodStateModel", name := "planned", desc := "(I)I" } : Jvm.MethodName) prog_19_method_106_code (2 : Nat) (Option.some Jvm.ClassFile.FieldType.int)) ∈ lw_all := lw_g (lw_at lw_m9 118 rfl) rfl
theorem q2205 : (Jvm.Cond.instanceMethod ({ cls := "WoodStateModel", name := "judge", desc := "(II)I" } : Jvm.MethodName)) ∈ lw_all := lw_g (lw_at lw_m9 120 rfl) rfl
theorem q2206 : (Jvm.Cond.selects "WoodStateModel" ({ cls := "WoodStateModel", name := "judge", desc := "(II)I" } : Jvm.MethodName) ({ cls := "WoodStateModel", name := "judge", desc := "(II)I" } : Jvm.MethodName)) ∈ lw_all := lw_g (lw_at lw_m9 121 rfl) rfl
theorem q2207 : (Jvm.Cond.code ({ cls := "WoodStateModel", name := "judge", desc := "(II)I" } : Jvm.MethodName) prog_19_method_109_code (4 : Nat) (Option.some Jvm.ClassFile.FieldType.int)) ∈ lw_all := lw_g (lw_at lw_m9 122 rfl) rfl
theorem q2208 : (Jvm.Cond.methodLink "WoodStateModel" (433 : Nat) ({ cls := "WoodStateModel", name := "noRow", desc := "(II)I" } : Jvm.MethodName)) ∈ lw_all := lw_g (lw_at lw_m9 123 rfl) rfl
theorem q2209 : (Jvm.Cond.privateMethod ({ cls := "WoodStateModel", name := "noRow", desc := "(II)I" } : Jvm.MethodName)) ∈ lw_tbl := lw_at lw_m9 124 rfl
theorem q2210 : (Jvm.Cond.instanceMethod ({ cls := "WoodStateModel", name := "noRow", desc := "(II)I" } : Jvm.MethodName)) ∈ lw_all := lw_g (lw_at lw_m9 125 rfl) rfl
theorem q2211 : (Jvm.Cond.code ({ cls := "WoodStateModel", name := "noRow", desc := "(II)I" } : Jvm.MethodName) prog_19_method_107_code (4 : Nat) (Option.some Jvm.ClassFile.FieldType.int)) ∈ lw_all := lw_g (lw_at lw_m9 126 rfl) rfl
theorem q2212 : (Jvm.Cond.methodLink "WoodStateModel" (436 : Nat) ({ cls := "WoodStateModel", name := "takesRow", desc := "()Z" } : Jvm.MethodName)) ∈ lw_all := lw_g (lw_at lw_m9 127 rfl) rfl
theorem q2213 : (Jvm.Cond.privateMethod ({ cls := "WoodStateModel", name := "takesRow", desc := "()Z" } : Jvm.MethodName)) ∈ lw_tbl := lw_at lw_m9 128 rfl
theorem q2214 : (Jvm.Cond.instanceMethod ({ cls := "WoodStateModel", name := "takesRow", desc := "()Z" } : Jvm.MethodName)) ∈ lw_all := lw_g (lw_at lw_m9 129 rfl) rfl
theorem q2215 : (Jvm.Cond.code ({ cls := "WoodStateModel", name := "takesRow", desc := "()Z" } : Jvm.MethodName) prog_19_method_108_code (3 : Nat) (Option.some Jvm.ClassFile.FieldType.boolean)) ∈ lw_all := lw_g (lw_at lw_m9 130 rfl) rfl
theorem q2217 : (Jvm.Cond.instanceMethod ({ cls := "WoodStateModel", name := "worth", desc := "(IIZ)J" } : Jvm.MethodName)) ∈ lw_all := lw_g (lw_at lw_m9 132 rfl) rfl
theorem q2218 : (Jvm.Cond.selects "WoodStateModel" ({ cls := "WoodStateModel", name := "worth", desc := "(IIZ)J" } : Jvm.MethodName) ({ cls := "WoodStateModel", name := "worth", desc := "(IIZ)J" } : Jvm.MethodName)) ∈ lw_all := lw_g (lw_at lw_m9 133 rfl) rfl
theorem q2219 : (Jvm.Cond.code ({ cls := "WoodStateModel", name := "worth", desc := "(IIZ)J" } : Jvm.MethodName) prog_19_method_110_code (5 : Nat) (Option.some Jvm.ClassFile.FieldType.long)) ∈ lw_all := lw_g (lw_at lw_m9 134 rfl) rfl
theorem q2221 : (Jvm.Cond.instanceMethod ({ cls := "WoodStateModel", name := "attempt", desc := "(II)J" } : Jvm.MethodName)) ∈ lw_all := lw_g (lw_at lw_m9 136 rfl) rfl
theorem q2222 : (Jvm.Cond.selects "WoodStateModel" ({ cls := "WoodStateModel", name := "attempt", desc := "(II)J" } : Jvm.MethodName) ({ cls := "WoodStateModel", name := "attempt", desc := "(II)J" } : Jvm.MethodName)) ∈ lw_all := lw_g (lw_at lw_m9 137 rfl) rfl
theorem q2223 : (Jvm.Cond.code ({ cls := "WoodStateModel", name := "attempt", desc := "(II)J" } : Jvm.MethodName) prog_19_method_113_code (6 : Nat) (Option.some Jvm.ClassFile.FieldType.long)) ∈ lw_all := lw_g (lw_at lw_m9 138 rfl) rfl
theorem q2224 : (Jvm.Cond.methodLink "WoodStateModel" (443 : Nat) ({ cls := "WoodStateModel", name := "outcome", desc := "(I)J" } : Jvm.MethodName)) ∈ lw_all := lw_g (lw_at lw_m9 139 rfl) rfl
theorem q2225 : (Jvm.Cond.privateMethod ({ cls := "WoodStateModel", name := "outcome", desc := "(I)J" } : Jvm.MethodName)) ∈ lw_tbl := lw_at lw_m9 140 rfl
theorem q2226 : (Jvm.Cond.instanceMethod ({ cls := "WoodStateModel", name := "outcome", desc := "(I)J" } : Jvm.MethodName)) ∈ lw_all := lw_g (lw_at lw_m9 141 rfl) rfl
theorem q2227 : (Jvm.Cond.code ({ cls := "WoodStateModel", name := "outcome", desc := "(I)J" } : Jvm.MethodName) prog_19_method_112_code (5 : Nat) (Option.some Jvm.ClassFile.FieldType.long)) ∈ lw_all := lw_g (lw_at lw_m9 142 rfl) rfl
theorem q2228 : (Jvm.Cond.methodLink "WoodStateModel" (439 : Nat) ({ cls := "WoodStateModel", name := "sum", desc := "(I)J" } : Jvm.MethodName)) ∈ lw_all := lw_g (lw_at lw_m9 143 rfl) rfl
theorem q2229 : (Jvm.Cond.privateMethod ({ cls := "WoodStateModel", name := "sum", desc := "(I)J" } : Jvm.MethodName)) ∈ lw_tbl := lw_at lw_m9 144 rfl
theorem q2230 : (Jvm.Cond.instanceMethod ({ cls := "WoodStateModel", name := "sum", desc := "(I)J" } : Jvm.MethodName)) ∈ lw_all := lw_g (lw_at lw_m9 145 rfl) rfl
theorem q2231 : (Jvm.Cond.code ({ cls := "WoodStateModel", name := "sum", desc := "(I)J" } : Jvm.MethodName) prog_19_method_111_code (5 : Nat) (Option.some Jvm.ClassFile.FieldType.long)) ∈ lw_all := lw_g (lw_at lw_m9 146 rfl) rfl
theorem q2233 : (Jvm.Cond.instanceMethod ({ cls := "WoodStateModel", name := "image", desc := "()I" } : Jvm.MethodName)) ∈ lw_all := lw_g (lw_at lw_m9 148 rfl) rfl
theorem q2234 : (Jvm.Cond.selects "WoodStateModel" ({ cls := "WoodStateModel", name := "image", desc := "()I" } : Jvm.MethodName) ({ cls := "WoodStateModel", name := "image", desc := "()I" } : Jvm.MethodName)) ∈ lw_all := lw_g (lw_at lw_m9 149 rfl) rfl
theorem q2235 : (Jvm.Cond.code ({ cls := "WoodStateModel", name := "image", desc := "()I" } : Jvm.MethodName) prog_19_method_114_code (2 : Nat) (Option.some Jvm.ClassFile.FieldType.int)) ∈ lw_all := lw_g (lw_at lw_m9 150 rfl) rfl
theorem q2237 : (Jvm.Cond.instanceMethod ({ cls := "WoodStateModel", name := "back", desc := "()I" } : Jvm.MethodName)) ∈ lw_all := lw_g (lw_at lw_m9 152 rfl) rfl
theorem q2238 : (Jvm.Cond.selects "WoodStateModel" ({ cls := "WoodStateModel", name := "back", desc := "()I" } : Jvm.MethodName) ({ cls := "WoodStateModel", name := "back", desc := "()I" } : Jvm.MethodName)) ∈ lw_all := lw_g (lw_at lw_m9 153 rfl) rfl
theorem q2239 : (Jvm.Cond.code ({ cls := "WoodStateModel", name := "back", desc := "()I" } : Jvm.MethodName) prog_19_method_115_code (2 : Nat) (Option.some Jvm.ClassFile.FieldType.int)) ∈ lw_all := lw_g (lw_at lw_m9 154 rfl) rfl
theorem q2241 : (Jvm.Cond.instanceMethod ({ cls := "WoodStateModel", name := "tally", desc := "(I)I" } : Jvm.MethodName)) ∈ lw_all := lw_g (lw_at lw_m9 156 rfl) rfl
theorem q2242 : (Jvm.Cond.selects "WoodStateModel" ({ cls := "WoodStateModel", name := "tally", desc := "(I)I" } : Jvm.MethodName) ({ cls := "WoodStateModel", name := "tally", desc := "(I)I" } : Jvm.MethodName)) ∈ lw_all := lw_g (lw_at lw_m9 157 rfl) rfl
theorem q2243 : (Jvm.Cond.code ({ cls := "WoodStateModel", name := "tally", desc := "(I)I" } : Jvm.MethodName) prog_19_method_116_code (4 : Nat) (Option.some Jvm.ClassFile.FieldType.int)) ∈ lw_all := lw_g (lw_at lw_m9 158 rfl) rfl
theorem q2245 : (Jvm.Cond.instanceMethod ({ cls := "WoodStateModel", name := "lay", desc := "(I)I" } : Jvm.MethodName)) ∈ lw_all := lw_g (lw_at lw_m9 160 rfl) rfl
theorem q2246 : (Jvm.Cond.selects "WoodStateModel" ({ cls := "WoodStateModel", name := "lay", desc := "(I)I" } : Jvm.MethodName) ({ cls := "WoodStateModel", name := "lay", desc := "(I)I" } : Jvm.MethodName)) ∈ lw_all := lw_g (lw_at lw_m9 161 rfl) rfl
theorem q2247 : (Jvm.Cond.code ({ cls := "WoodStateModel", name := "lay", desc := "(I)I" } : Jvm.MethodName) prog_19_method_117_code (3 : Nat) (Option.some Jvm.ClassFile.FieldType.int)) ∈ lw_all := lw_g (lw_at lw_m9 162 rfl) rfl
theorem q2249 : (Jvm.Cond.instanceMethod ({ cls := "WoodStateModel", name := "set", desc := "(II)I" } : Jvm.MethodName)) ∈ lw_all := lw_g (lw_at lw_m9 164 rfl) rfl
theorem q2250 : (Jvm.Cond.selects "WoodStateModel" ({ cls := "WoodStateModel", name := "set", desc := "(II)I" } : Jvm.MethodName) ({ cls := "WoodStateModel", name := "set", desc := "(II)I" } : Jvm.MethodName)) ∈ lw_all := lw_g (lw_at lw_m9 165 rfl) rfl
theorem q2251 : (Jvm.Cond.code ({ cls := "WoodStateModel", name := "set", desc := "(II)I" } : Jvm.MethodName) prog_19_method_118_code (4 : Nat) (Option.some Jvm.ClassFile.FieldType.int)) ∈ lw_all := lw_g (lw_at lw_m9 166 rfl) rfl
theorem q2253 : (Jvm.Cond.instanceMethod ({ cls := "WoodStateModel", name := "tear", desc := "()I" } : Jvm.MethodName)) ∈ lw_all := lw_g (lw_at lw_m9 168 rfl) rfl
theorem q2254 : (Jvm.Cond.selects "WoodStateModel" ({ cls := "WoodStateModel", name := "tear", desc := "()I" } : Jvm.MethodName) ({ cls := "WoodStateModel", name := "tear", desc := "()I" } : Jvm.MethodName)) ∈ lw_all := lw_g (lw_at lw_m9 169 rfl) rfl
theorem q2255 : (Jvm.Cond.code ({ cls := "WoodStateModel", name := "tear", desc := "()I" } : Jvm.MethodName) prog_19_method_119_code (2 : Nat) (Option.some Jvm.ClassFile.FieldType.int)) ∈ lw_all := lw_g (lw_at lw_m9 170 rfl) rfl
theorem q2257 : (Jvm.Cond.instanceMethod ({ cls := "WoodStateModel", name := "row", desc := "(I)I" } : Jvm.MethodName)) ∈ lw_all := lw_g (lw_at lw_m9 172 rfl) rfl
theorem q2258 : (Jvm.Cond.selects "WoodStateModel" ({ cls := "WoodStateModel", name := "row", desc := "(I)I" } : Jvm.MethodName) ({ cls := "WoodStateModel", name := "row", desc := "(I)I" } : Jvm.MethodName)) ∈ lw_all := lw_g (lw_at lw_m9 173 rfl) rfl
theorem q2259 : (Jvm.Cond.code ({ cls := "WoodStateModel", name := "row", desc := "(I)I" } : Jvm.MethodName) prog_19_method_120_code (2 : Nat) (Option.some Jvm.ClassFile.FieldType.int)) ∈ lw_all := lw_g (lw_at lw_m9 174 rfl) rfl
theorem q2261 : (Jvm.Cond.instanceMethod ({ cls := "WoodStateModel", name := "copy", desc := "(III)I" } : Jvm.MethodName)) ∈ lw_all := lw_g (lw_at lw_m9 176 rfl) rfl
theorem q2262 : (Jvm.Cond.selects "WoodStateModel" ({ cls := "WoodStateModel", name := "copy", desc := "(III)I" } : Jvm.MethodName) ({ cls := "WoodStateModel", name := "copy", desc := "(III)I" } : Jvm.MethodName)) ∈ lw_all := lw_g (lw_at lw_m9 177 rfl) rfl
theorem q2263 : (Jvm.Cond.code ({ cls := "WoodStateModel", name := "copy", desc := "(III)I" } : Jvm.MethodName) prog_19_method_121_code (5 : Nat) (Option.some Jvm.ClassFile.FieldType.int)) ∈ lw_all := lw_g (lw_at lw_m9 178 rfl) rfl
theorem in_X7 : ∀ w ∈ wsX70, w ∈ lw_all := lw_in wsX70 [1670, 1672, 1674, 1676, 1678, 1680, 1682, 1684, 1686, 1688, 1690, 1692, 1694, 1696, 1698, 1700, 1702, 1704, 1706, 1708, 1710, 1712, 1714, 1716, 1718, 1720, 1722, 1724, 1726, 1728, 1730, 1732, 1734, 1736, 1738, 1740, 1742, 1744, 1746, 1748, 1750] (by decide +kernel) (by decide +kernel)

theorem q180 : (Jvm.Cond.initialized "WoodState$Lot") ∈ lw_all := lw_g (lw_at lw_m1 15 rfl) rfl
theorem q848 : (Jvm.Cond.instanceMethod ({ cls := "WoodState$Lot", name := "kind", desc := "()I" } : Jvm.MethodName)) ∈ lw_all := lw_g (lw_at lw_m3 203 rfl) rfl
theorem q849 : (Jvm.Cond.selects "WoodState$Lot" ({ cls := "WoodState$Lot", name := "kind", desc := "()I" } : Jvm.MethodName) ({ cls := "WoodState$Lot", name := "kind", desc := "()I" } : Jvm.MethodName)) ∈ lw_all := lw_g (lw_at lw_m3 204 rfl) rfl
theorem q850 : (Jvm.Cond.sameMethod "WoodState$Lot" "WoodState$Lot" "kind" "()I") ∈ lw_all := lw_g (lw_at lw_m3 205 rfl) rfl
theorem q861 : (Jvm.Cond.code ({ cls := "WoodState$Lot", name := "kind", desc := "()I" } : Jvm.MethodName) prog_8_method_2_code (1 : Nat) (Option.some Jvm.ClassFile.FieldType.int)) ∈ lw_all := lw_g (lw_at lw_m3 216 rfl) rfl
theorem q863 : (Jvm.Cond.instanceMethod ({ cls := "WoodState$Lot", name := "whose", desc := "()I" } : Jvm.MethodName)) ∈ lw_all := lw_g (lw_at lw_m3 218 rfl) rfl
theorem q864 : (Jvm.Cond.selects "WoodState$Lot" ({ cls := "WoodState$Lot", name := "whose", desc := "()I" } : Jvm.MethodName) ({ cls := "WoodState$Lot", name := "whose", desc := "()I" } : Jvm.MethodName)) ∈ lw_all := lw_g (lw_at lw_m3 219 rfl) rfl
theorem q865 : (Jvm.Cond.sameMethod "WoodState$Lot" "WoodState$Lot" "whose" "()I") ∈ lw_all := lw_g (lw_at lw_m3 220 rfl) rfl
theorem q870 : (Jvm.Cond.code ({ cls := "WoodState$Lot", name := "whose", desc := "()I" } : Jvm.MethodName) prog_8_method_3_code (1 : Nat) (Option.some Jvm.ClassFile.FieldType.int)) ∈ lw_all := lw_g (lw_at lw_m3 225 rfl) rfl
theorem q889 : (Jvm.Cond.instanceMethod ({ cls := "WoodState$Lot", name := "ends", desc := "()I" } : Jvm.MethodName)) ∈ lw_all := lw_g (lw_at lw_m4 4 rfl) rfl
theorem q890 : (Jvm.Cond.selects "WoodState$Lot" ({ cls := "WoodState$Lot", name := "ends", desc := "()I" } : Jvm.MethodName) ({ cls := "WoodState$Lot", name := "ends", desc := "()I" } : Jvm.MethodName)) ∈ lw_all := lw_g (lw_at lw_m4 5 rfl) rfl
theorem q891 : (Jvm.Cond.sameMethod "WoodState$Lot" "WoodState$Lot" "ends" "()I") ∈ lw_all := lw_g (lw_at lw_m4 6 rfl) rfl
theorem q899 : (Jvm.Cond.code ({ cls := "WoodState$Lot", name := "ends", desc := "()I" } : Jvm.MethodName) prog_8_method_4_code (1 : Nat) (Option.some Jvm.ClassFile.FieldType.int)) ∈ lw_all := lw_g (lw_at lw_m4 14 rfl) rfl
theorem q958 : (Jvm.Cond.instanceMethod ({ cls := "WoodState$Lot", name := "<init>", desc := "()V" } : Jvm.MethodName)) ∈ lw_all := lw_g (lw_at lw_m4 73 rfl) rfl
theorem q959 : (Jvm.Cond.code ({ cls := "WoodState$Lot", name := "<init>", desc := "()V" } : Jvm.MethodName) prog_8_method_1_code (1 : Nat) (Option.none : Option Jvm.ClassFile.FieldType)) ∈ lw_all := lw_g (lw_at lw_m4 74 rfl) rfl
theorem q960 : (Jvm.Cond.methodLink "WoodState$Lot" (3 : Nat) ({ cls := "java/lang/Object", name := "<init>", desc := "()V" } : Jvm.MethodName)) ∈ lw_all := lw_g (lw_at lw_m4 75 rfl) rfl
theorem q961 : (Jvm.Cond.fieldLink "WoodState$Lot" (9 : Nat) "WoodState$Lot" "feet" "I") ∈ lw_all := lw_g (lw_at lw_m4 76 rfl) rfl
theorem q966 : (Jvm.Cond.fieldLink "WoodState$Lot" (15 : Nat) "WoodState$Lot" "stand" "I") ∈ lw_all := lw_g (lw_at lw_m4 81 rfl) rfl
theorem q971 : (Jvm.Cond.fieldLink "WoodState$Lot" (18 : Nat) "WoodState$Lot" "year" "I") ∈ lw_all := lw_g (lw_at lw_m4 86 rfl) rfl
theorem q975 : (Jvm.Cond.soleField "WoodState$Lot" "feet") ∈ lw_all := lw_g (lw_at lw_m4 90 rfl) rfl
theorem q977 : (Jvm.Cond.soleField "WoodState$Lot" "stand") ∈ lw_all := lw_g (lw_at lw_m4 92 rfl) rfl
theorem q979 : (Jvm.Cond.soleField "WoodState$Lot" "year") ∈ lw_all := lw_g (lw_at lw_m4 94 rfl) rfl
theorem q1332 : (Jvm.Cond.instantiable "WoodState$Lot" (3 : Nat)) ∈ lw_all := lw_g (lw_at lw_m5 207 rfl) rfl
theorem q1334 : (Jvm.Cond.lays "WoodState$Lot" "WoodState$Lot" "feet" "I") ∈ lw_all := lw_g (lw_at lw_m5 209 rfl) rfl
theorem q1335 : (Jvm.Cond.lays "WoodState$Lot" "WoodState$Lot" "stand" "I") ∈ lw_all := lw_g (lw_at lw_m5 210 rfl) rfl
theorem q1336 : (Jvm.Cond.lays "WoodState$Lot" "WoodState$Lot" "year" "I") ∈ lw_all := lw_g (lw_at lw_m5 211 rfl) rfl
theorem q1337 : (Jvm.Cond.superclass "WoodState$Lot" "java/lang/Object") ∈ lw_all := lw_g (lw_at lw_m5 212 rfl) rfl
theorem q1523 : (Jvm.Cond.instanceMethod ({ cls := "WoodState$Lot", name := "another", desc := "()LWoodState$Lot;" } : Jvm.MethodName)) ∈ lw_all := lw_g (lw_at lw_m6 158 rfl) rfl
theorem q1524 : (Jvm.Cond.selects "WoodState$Lot" ({ cls := "WoodState$Lot", name := "another", desc := "()LWoodState$Lot;" } : Jvm.MethodName) ({ cls := "WoodState$Lot", name := "another", desc := "()LWoodState$Lot;" } : Jvm.MethodName)) ∈ lw_all := lw_g (lw_at lw_m6 159 rfl) rfl
theorem q1525 : (Jvm.Cond.sameMethod "WoodState$Lot" "WoodState$Lot" "another" "()LWoodState$Lot;") ∈ lw_all := lw_g (lw_at lw_m6 160 rfl) rfl
theorem q1536 : (Jvm.Cond.code ({ cls := "WoodState$Lot", name := "another", desc := "()LWoodState$Lot;" } : Jvm.MethodName) prog_8_method_6_code (1 : Nat) (Option.some (Jvm.ClassFile.FieldType.object "WoodState$Lot"))) ∈ lw_all := lw_g (lw_at lw_m6 171 rfl) rfl
theorem q1537 : (Jvm.Cond.classLink "WoodState$Lot" (10 : Nat) "WoodState$Lot") ∈ lw_all := lw_g (lw_at lw_m6 172 rfl) rfl
theorem q1538 : (Jvm.Cond.methodLink "WoodState$Lot" (21 : Nat) ({ cls := "WoodState$Lot", name := "<init>", desc := "()V" } : Jvm.MethodName)) ∈ lw_all := lw_g (lw_at lw_m6 173 rfl) rfl
theorem q1540 : (Jvm.Cond.instanceMethod ({ cls := "WoodState$Lot", name := "as", desc := "(LWoodState$Lot;)V" } : Jvm.MethodName)) ∈ lw_all := lw_g (lw_at lw_m6 175 rfl) rfl
theorem q1541 : (Jvm.Cond.selects "WoodState$Lot" ({ cls := "WoodState$Lot", name := "as", desc := "(LWoodState$Lot;)V" } : Jvm.MethodName) ({ cls := "WoodState$Lot", name := "as", desc := "(LWoodState$Lot;)V" } : Jvm.MethodName)) ∈ lw_all := lw_g (lw_at lw_m6 176 rfl) rfl
theorem q1542 : (Jvm.Cond.sameMethod "WoodState$Lot" "WoodState$Lot" "as" "(LWoodState$Lot;)V") ∈ lw_all := lw_g (lw_at lw_m6 177 rfl) rfl
theorem q1548 : (Jvm.Cond.code ({ cls := "WoodState$Lot", name := "as", desc := "(LWoodState$Lot;)V" } : Jvm.MethodName) prog_8_method_5_code (2 : Nat) (Option.none : Option Jvm.ClassFile.FieldType)) ∈ lw_all := lw_g (lw_at lw_m6 183 rfl) rfl
theorem in_X8 : ∀ w ∈ wsX80, w ∈ lw_all := lw_in wsX80 [1334, 1335, 1336] (by decide +kernel) (by decide +kernel)

theorem q181 : (Jvm.Cond.initialized "WoodState$Loss") ∈ lw_all := lw_g (lw_at lw_m1 16 rfl) rfl
theorem q856 : (Jvm.Cond.selects "WoodState$Loss" ({ cls := "WoodState$Lot", name := "kind", desc := "()I" } : Jvm.MethodName) ({ cls := "WoodState$Loss", name := "kind", desc := "()I" } : Jvm.MethodName)) ∈ lw_all := lw_g (lw_at lw_m3 211 rfl) rfl
theorem q857 : (Jvm.Cond.instanceMethod ({ cls := "WoodState$Loss", name := "kind", desc := "()I" } : Jvm.MethodName)) ∈ lw_all := lw_g (lw_at lw_m3 212 rfl) rfl
theorem q858 : (Jvm.Cond.code ({ cls := "WoodState$Loss", name := "kind", desc := "()I" } : Jvm.MethodName) prog_7_method_2_code (1 : Nat) (Option.some Jvm.ClassFile.FieldType.int)) ∈ lw_all := lw_g (lw_at lw_m3 213 rfl) rfl
theorem q859 : (Jvm.Cond.methodLink "WoodState$Loss" (9 : Nat) ({ cls := "WoodState$Lot", name := "kind", desc := "()I" } : Jvm.MethodName)) ∈ lw_all := lw_g (lw_at lw_m3 214 rfl) rfl
theorem q860 : (Jvm.Cond.superclass "WoodState$Loss" "WoodState$Lot") ∈ lw_all := lw_g (lw_at lw_m3 215 rfl) rfl
theorem q869 : (Jvm.Cond.selects "WoodState$Loss" ({ cls := "WoodState$Lot", name := "whose", desc := "()I" } : Jvm.MethodName) ({ cls := "WoodState$Lot", name := "whose", desc := "()I" } : Jvm.MethodName)) ∈ lw_all := lw_g (lw_at lw_m3 224 rfl) rfl
theorem q896 : (Jvm.Cond.selects "WoodState$Loss" ({ cls := "WoodState$Lot", name := "ends", desc := "()I" } : Jvm.MethodName) ({ cls := "WoodState$Loss", name := "ends", desc := "()I" } : Jvm.MethodName)) ∈ lw_all := lw_g (lw_at lw_m4 11 rfl) rfl
theorem q897 : (Jvm.Cond.instanceMethod ({ cls := "WoodState$Loss", name := "ends", desc := "()I" } : Jvm.MethodName)) ∈ lw_all := lw_g (lw_at lw_m4 12 rfl) rfl
theorem q898 : (Jvm.Cond.code ({ cls := "WoodState$Loss", name := "ends", desc := "()I" } : Jvm.MethodName) prog_7_method_3_code (1 : Nat) (Option.some Jvm.ClassFile.FieldType.int)) ∈ lw_all := lw_g (lw_at lw_m4 13 rfl) rfl
theorem q953 : (Jvm.Cond.instantiable "WoodState$Loss" (3 : Nat)) ∈ lw_all := lw_g (lw_at lw_m4 68 rfl) rfl
theorem q955 : (Jvm.Cond.instanceMethod ({ cls := "WoodState$Loss", name := "<init>", desc := "()V" } : Jvm.MethodName)) ∈ lw_all := lw_g (lw_at lw_m4 70 rfl) rfl
theorem q956 : (Jvm.Cond.code ({ cls := "WoodState$Loss", name := "<init>", desc := "()V" } : Jvm.MethodName) prog_7_method_1_code (1 : Nat) (Option.none : Option Jvm.ClassFile.FieldType)) ∈ lw_all := lw_g (lw_at lw_m4 71 rfl) rfl
theorem q957 : (Jvm.Cond.methodLinkNest "WoodState$Loss" (3 : Nat) ({ cls := "WoodState$Lot", name := "<init>", desc := "()V" } : Jvm.MethodName) "WoodState") ∈ lw_tbl := lw_at lw_m4 72 rfl
theorem q965 : (Jvm.Cond.sameField "WoodState$Loss" "WoodState$Lot" "feet" "I") ∈ lw_all := lw_g (lw_at lw_m4 80 rfl) rfl
theorem q970 : (Jvm.Cond.sameField "WoodState$Loss" "WoodState$Lot" "stand" "I") ∈ lw_all := lw_g (lw_at lw_m4 85 rfl) rfl
theorem q974 : (Jvm.Cond.lays "WoodState$Loss" "WoodState$Lot" "feet" "I") ∈ lw_all := lw_g (lw_at lw_m4 89 rfl) rfl
theorem q976 : (Jvm.Cond.lays "WoodState$Loss" "WoodState$Lot" "stand" "I") ∈ lw_all := lw_g (lw_at lw_m4 91 rfl) rfl
theorem q978 : (Jvm.Cond.lays "WoodState$Loss" "WoodState$Lot" "year" "I") ∈ lw_all := lw_g (lw_at lw_m4 93 rfl) rfl
theorem q1531 : (Jvm.Cond.selects "WoodState$Loss" ({ cls := "WoodState$Lot", name := "another", desc := "()LWoodState$Lot;" } : Jvm.MethodName) ({ cls := "WoodState$Loss", name := "another", desc := "()LWoodState$Lot;" } : Jvm.MethodName)) ∈ lw_all := lw_g (lw_at lw_m6 166 rfl) rfl
theorem q1532 : (Jvm.Cond.instanceMethod ({ cls := "WoodState$Loss", name := "another", desc := "()LWoodState$Lot;" } : Jvm.MethodName)) ∈ lw_all := lw_g (lw_at lw_m6 167 rfl) rfl
theorem q1533 : (Jvm.Cond.code ({ cls := "WoodState$Loss", name := "another", desc := "()LWoodState$Lot;" } : Jvm.MethodName) prog_7_method_4_code (1 : Nat) (Option.some (Jvm.ClassFile.FieldType.object "WoodState$Lot"))) ∈ lw_all := lw_g (lw_at lw_m6 168 rfl) rfl
theorem q1534 : (Jvm.Cond.classLink "WoodState$Loss" (13 : Nat) "WoodState$Loss") ∈ lw_all := lw_g (lw_at lw_m6 169 rfl) rfl
theorem q1535 : (Jvm.Cond.methodLink "WoodState$Loss" (15 : Nat) ({ cls := "WoodState$Loss", name := "<init>", desc := "()V" } : Jvm.MethodName)) ∈ lw_all := lw_g (lw_at lw_m6 170 rfl) rfl
theorem q1547 : (Jvm.Cond.selects "WoodState$Loss" ({ cls := "WoodState$Lot", name := "as", desc := "(LWoodState$Lot;)V" } : Jvm.MethodName) ({ cls := "WoodState$Lot", name := "as", desc := "(LWoodState$Lot;)V" } : Jvm.MethodName)) ∈ lw_all := lw_g (lw_at lw_m6 182 rfl) rfl
theorem q2267 : (Jvm.Cond.castable "WoodState$Loss" "WoodState$Lot") ∈ lw_tbl := lw_at lw_m9 182 rfl
theorem in_X9 : ∀ w ∈ wsX90, w ∈ lw_all := lw_in wsX90 [974, 976, 978] (by decide +kernel) (by decide +kernel)

theorem q182 : (Jvm.Cond.initialized "WoodState$Part") ∈ lw_all := lw_g (lw_at lw_m1 17 rfl) rfl
theorem q756 : (Jvm.Cond.declares ({ cls := "WoodState$Part", name := "worth", desc := "(LWoodState$Forest;II)I" } : Jvm.MethodName)) ∈ lw_tbl := lw_at lw_m3 111 rfl
theorem q757 : (Jvm.Cond.sameMethod "WoodState$Part" "WoodState$Part" "worth" "(LWoodState$Forest;II)I") ∈ lw_all := lw_g (lw_at lw_m3 112 rfl) rfl
theorem q1085 : (Jvm.Cond.instanceMethod ({ cls := "WoodState$Part", name := "<init>", desc := "()V" } : Jvm.MethodName)) ∈ lw_all := lw_g (lw_at lw_m4 200 rfl) rfl
theorem q1086 : (Jvm.Cond.code ({ cls := "WoodState$Part", name := "<init>", desc := "()V" } : Jvm.MethodName) prog_14_method_1_code (1 : Nat) (Option.none : Option Jvm.ClassFile.FieldType)) ∈ lw_all := lw_g (lw_at lw_m4 201 rfl) rfl
theorem q1087 : (Jvm.Cond.methodLink "WoodState$Part" (1 : Nat) ({ cls := "java/lang/Object", name := "<init>", desc := "()V" } : Jvm.MethodName)) ∈ lw_all := lw_g (lw_at lw_m4 202 rfl) rfl

theorem q183 : (Jvm.Cond.initialized "WoodState$Not") ∈ lw_all := lw_g (lw_at lw_m1 18 rfl) rfl
theorem q768 : (Jvm.Cond.instanceMethod ({ cls := "WoodState$Not", name := "worth", desc := "(LWoodState$Forest;II)I" } : Jvm.MethodName)) ∈ lw_all := lw_g (lw_at lw_m3 123 rfl) rfl
theorem q769 : (Jvm.Cond.code ({ cls := "WoodState$Not", name := "worth", desc := "(LWoodState$Forest;II)I" } : Jvm.MethodName) prog_11_method_2_code (4 : Nat) (Option.some Jvm.ClassFile.FieldType.int)) ∈ lw_all := lw_g (lw_at lw_m3 124 rfl) rfl
theorem q770 : (Jvm.Cond.methodLink "WoodState$Not" (13 : Nat) ({ cls := "WoodState$Part", name := "worth", desc := "(LWoodState$Forest;II)I" } : Jvm.MethodName)) ∈ lw_all := lw_g (lw_at lw_m3 125 rfl) rfl
theorem q777 : (Jvm.Cond.selects "WoodState$Not" ({ cls := "WoodState$Part", name := "worth", desc := "(LWoodState$Forest;II)I" } : Jvm.MethodName) ({ cls := "WoodState$Not", name := "worth", desc := "(LWoodState$Forest;II)I" } : Jvm.MethodName)) ∈ lw_all := lw_g (lw_at lw_m3 132 rfl) rfl
theorem q1080 : (Jvm.Cond.instantiable "WoodState$Not" (1 : Nat)) ∈ lw_all := lw_g (lw_at lw_m4 195 rfl) rfl
theorem q1082 : (Jvm.Cond.instanceMethod ({ cls := "WoodState$Not", name := "<init>", desc := "(LWoodState$Part;)V" } : Jvm.MethodName)) ∈ lw_all := lw_g (lw_at lw_m4 197 rfl) rfl
theorem q1083 : (Jvm.Cond.code ({ cls := "WoodState$Not", name := "<init>", desc := "(LWoodState$Part;)V" } : Jvm.MethodName) prog_11_method_1_code (2 : Nat) (Option.none : Option Jvm.ClassFile.FieldType)) ∈ lw_all := lw_g (lw_at lw_m4 198 rfl) rfl
theorem q1084 : (Jvm.Cond.methodLinkNest "WoodState$Not" (1 : Nat) ({ cls := "WoodState$Part", name := "<init>", desc := "()V" } : Jvm.MethodName) "WoodState") ∈ lw_tbl := lw_at lw_m4 199 rfl
theorem q1088 : (Jvm.Cond.fieldLink "WoodState$Not" (7 : Nat) "WoodState$Not" "of" "LWoodState$Part;") ∈ lw_all := lw_g (lw_at lw_m4 203 rfl) rfl
theorem q1091 : (Jvm.Cond.laysFinal "WoodState$Not" "WoodState$Not" "of" "LWoodState$Part;") ∈ lw_all := lw_g (lw_at lw_m4 206 rfl) rfl
theorem q1092 : (Jvm.Cond.soleField "WoodState$Not" "of") ∈ lw_all := lw_g (lw_at lw_m4 207 rfl) rfl
theorem q1093 : (Jvm.Cond.superclass "WoodState$Not" "WoodState$Part") ∈ lw_all := lw_g (lw_at lw_m4 208 rfl) rfl
theorem in_X11 : ∀ w ∈ wsX110, w ∈ lw_all := lw_in wsX110 [1091] (by decide +kernel) (by decide +kernel)

theorem q184 : (Jvm.Cond.initialized "WoodState$Number") ∈ lw_all := lw_g (lw_at lw_m1 19 rfl) rfl
theorem q771 : (Jvm.Cond.instanceMethod ({ cls := "WoodState$Number", name := "worth", desc := "(LWoodState$Forest;II)I" } : Jvm.MethodName)) ∈ lw_all := lw_g (lw_at lw_m3 126 rfl) rfl
theorem q772 : (Jvm.Cond.code ({ cls := "WoodState$Number", name := "worth", desc := "(LWoodState$Forest;II)I" } : Jvm.MethodName) prog_12_method_2_code (4 : Nat) (Option.some Jvm.ClassFile.FieldType.int)) ∈ lw_all := lw_g (lw_at lw_m3 127 rfl) rfl
theorem q778 : (Jvm.Cond.selects "WoodState$Number" ({ cls := "WoodState$Part", name := "worth", desc := "(LWoodState$Forest;II)I" } : Jvm.MethodName) ({ cls := "WoodState$Number", name := "worth", desc := "(LWoodState$Forest;II)I" } : Jvm.MethodName)) ∈ lw_all := lw_g (lw_at lw_m3 133 rfl) rfl
theorem q1107 : (Jvm.Cond.instantiable "WoodState$Number" (1 : Nat)) ∈ lw_all := lw_g (lw_at lw_m4 222 rfl) rfl
theorem q1109 : (Jvm.Cond.instanceMethod ({ cls := "WoodState$Number", name := "<init>", desc := "(I)V" } : Jvm.MethodName)) ∈ lw_all := lw_g (lw_at lw_m4 224 rfl) rfl
theorem q1110 : (Jvm.Cond.code ({ cls := "WoodState$Number", name := "<init>", desc := "(I)V" } : Jvm.MethodName) prog_12_method_1_code (2 : Nat) (Option.none : Option Jvm.ClassFile.FieldType)) ∈ lw_all := lw_g (lw_at lw_m4 225 rfl) rfl
theorem q1111 : (Jvm.Cond.methodLinkNest "WoodState$Number" (1 : Nat) ({ cls := "WoodState$Part", name := "<init>", desc := "()V" } : Jvm.MethodName) "WoodState") ∈ lw_tbl := lw_at lw_m4 226 rfl
theorem q1112 : (Jvm.Cond.fieldLink "WoodState$Number" (7 : Nat) "WoodState$Number" "v" "I") ∈ lw_all := lw_g (lw_at lw_m4 227 rfl) rfl
theorem q1113 : (Jvm.Cond.laysFinal "WoodState$Number" "WoodState$Number" "v" "I") ∈ lw_all := lw_g (lw_at lw_m4 228 rfl) rfl
theorem q1114 : (Jvm.Cond.soleField "WoodState$Number" "v") ∈ lw_all := lw_g (lw_at lw_m4 229 rfl) rfl
theorem q1115 : (Jvm.Cond.superclass "WoodState$Number" "WoodState$Part") ∈ lw_all := lw_g (lw_at lw_m4 230 rfl) rfl
theorem in_X12 : ∀ w ∈ wsX120, w ∈ lw_all := lw_in wsX120 [1113] (by decide +kernel) (by decide +kernel)

theorem q185 : (Jvm.Cond.initialized "WoodState$Name") ∈ lw_all := lw_g (lw_at lw_m1 20 rfl) rfl
theorem q762 : (Jvm.Cond.instanceMethod ({ cls := "WoodState$Name", name := "worth", desc := "(LWoodState$Forest;II)I" } : Jvm.MethodName)) ∈ lw_all := lw_g (lw_at lw_m3 117 rfl) rfl
theorem q763 : (Jvm.Cond.code ({ cls := "WoodState$Name", name := "worth", desc := "(LWoodState$Forest;II)I" } : Jvm.MethodName) prog_10_method_2_code (4 : Nat) (Option.some Jvm.ClassFile.FieldType.int)) ∈ lw_all := lw_g (lw_at lw_m3 118 rfl) rfl
theorem q764 : (Jvm.Cond.methodLinkNest "WoodState$Name" (13 : Nat) ({ cls := "WoodState$Forest", name := "told", desc := "(II)I" } : Jvm.MethodName) "WoodState") ∈ lw_tbl := lw_at lw_m3 119 rfl
theorem q776 : (Jvm.Cond.selects "WoodState$Name" ({ cls := "WoodState$Part", name := "worth", desc := "(LWoodState$Forest;II)I" } : Jvm.MethodName) ({ cls := "WoodState$Name", name := "worth", desc := "(LWoodState$Forest;II)I" } : Jvm.MethodName)) ∈ lw_all := lw_g (lw_at lw_m3 131 rfl) rfl
theorem q1117 : (Jvm.Cond.instantiable "WoodState$Name" (1 : Nat)) ∈ lw_all := lw_g (lw_at lw_m4 232 rfl) rfl
theorem q1119 : (Jvm.Cond.instanceMethod ({ cls := "WoodState$Name", name := "<init>", desc := "(I)V" } : Jvm.MethodName)) ∈ lw_all := lw_g (lw_at lw_m4 234 rfl) rfl
theorem q1120 : (Jvm.Cond.code ({ cls := "WoodState$Name", name := "<init>", desc := "(I)V" } : Jvm.MethodName) prog_10_method_1_code (2 : Nat) (Option.none : Option Jvm.ClassFile.FieldType)) ∈ lw_all := lw_g (lw_at lw_m4 235 rfl) rfl
theorem q1121 : (Jvm.Cond.methodLinkNest "WoodState$Name" (1 : Nat) ({ cls := "WoodState$Part", name := "<init>", desc := "()V" } : Jvm.MethodName) "WoodState") ∈ lw_tbl := lw_at lw_m4 236 rfl
theorem q1122 : (Jvm.Cond.fieldLink "WoodState$Name" (7 : Nat) "WoodState$Name" "which" "I") ∈ lw_all := lw_g (lw_at lw_m4 237 rfl) rfl
theorem q1123 : (Jvm.Cond.laysFinal "WoodState$Name" "WoodState$Name" "which" "I") ∈ lw_all := lw_g (lw_at lw_m4 238 rfl) rfl
theorem q1124 : (Jvm.Cond.soleField "WoodState$Name" "which") ∈ lw_all := lw_g (lw_at lw_m4 239 rfl) rfl
theorem q1125 : (Jvm.Cond.superclass "WoodState$Name" "WoodState$Part") ∈ lw_all := lw_g (lw_at lw_m5 0 rfl) rfl
theorem in_X13 : ∀ w ∈ wsX130, w ∈ lw_all := lw_in wsX130 [1123] (by decide +kernel) (by decide +kernel)

theorem q186 : (Jvm.Cond.initialized "WoodState$Minus") ∈ lw_all := lw_g (lw_at lw_m1 21 rfl) rfl
theorem q758 : (Jvm.Cond.selects "WoodState$Minus" ({ cls := "WoodState$Part", name := "worth", desc := "(LWoodState$Forest;II)I" } : Jvm.MethodName) ({ cls := "WoodState$Minus", name := "worth", desc := "(LWoodState$Forest;II)I" } : Jvm.MethodName)) ∈ lw_all := lw_g (lw_at lw_m3 113 rfl) rfl
theorem q759 : (Jvm.Cond.instanceMethod ({ cls := "WoodState$Minus", name := "worth", desc := "(LWoodState$Forest;II)I" } : Jvm.MethodName)) ∈ lw_all := lw_g (lw_at lw_m3 114 rfl) rfl
theorem q760 : (Jvm.Cond.code ({ cls := "WoodState$Minus", name := "worth", desc := "(LWoodState$Forest;II)I" } : Jvm.MethodName) prog_9_method_2_code (4 : Nat) (Option.some Jvm.ClassFile.FieldType.int)) ∈ lw_all := lw_g (lw_at lw_m3 115 rfl) rfl
theorem q761 : (Jvm.Cond.methodLink "WoodState$Minus" (13 : Nat) ({ cls := "WoodState$Part", name := "worth", desc := "(LWoodState$Forest;II)I" } : Jvm.MethodName)) ∈ lw_all := lw_g (lw_at lw_m3 116 rfl) rfl
theorem q1089 : (Jvm.Cond.fieldLink "WoodState$Minus" (7 : Nat) "WoodState$Minus" "of" "LWoodState$Part;") ∈ lw_all := lw_g (lw_at lw_m4 204 rfl) rfl
theorem q1090 : (Jvm.Cond.sameField "WoodState$Minus" "WoodState$Not" "of" "LWoodState$Part;") ∈ lw_all := lw_g (lw_at lw_m4 205 rfl) rfl
theorem q1127 : (Jvm.Cond.instantiable "WoodState$Minus" (1 : Nat)) ∈ lw_all := lw_g (lw_at lw_m5 2 rfl) rfl
theorem q1129 : (Jvm.Cond.instanceMethod ({ cls := "WoodState$Minus", name := "<init>", desc := "(LWoodState$Part;)V" } : Jvm.MethodName)) ∈ lw_all := lw_g (lw_at lw_m5 4 rfl) rfl
theorem q1130 : (Jvm.Cond.code ({ cls := "WoodState$Minus", name := "<init>", desc := "(LWoodState$Part;)V" } : Jvm.MethodName) prog_9_method_1_code (2 : Nat) (Option.none : Option Jvm.ClassFile.FieldType)) ∈ lw_all := lw_g (lw_at lw_m5 5 rfl) rfl
theorem q1131 : (Jvm.Cond.methodLink "WoodState$Minus" (1 : Nat) ({ cls := "WoodState$Not", name := "<init>", desc := "(LWoodState$Part;)V" } : Jvm.MethodName)) ∈ lw_all := lw_g (lw_at lw_m5 6 rfl) rfl
theorem q1132 : (Jvm.Cond.laysFinal "WoodState$Minus" "WoodState$Not" "of" "LWoodState$Part;") ∈ lw_all := lw_g (lw_at lw_m5 7 rfl) rfl
theorem q1133 : (Jvm.Cond.superclass "WoodState$Minus" "WoodState$Not") ∈ lw_all := lw_g (lw_at lw_m5 8 rfl) rfl
theorem in_X14 : ∀ w ∈ wsX140, w ∈ lw_all := lw_in wsX140 [1132] (by decide +kernel) (by decide +kernel)

theorem q187 : (Jvm.Cond.initialized "WoodState$Pair") ∈ lw_all := lw_g (lw_at lw_m1 22 rfl) rfl
theorem q773 : (Jvm.Cond.instanceMethod ({ cls := "WoodState$Pair", name := "worth", desc := "(LWoodState$Forest;II)I" } : Jvm.MethodName)) ∈ lw_all := lw_g (lw_at lw_m3 128 rfl) rfl
theorem q774 : (Jvm.Cond.code ({ cls := "WoodState$Pair", name := "worth", desc := "(LWoodState$Forest;II)I" } : Jvm.MethodName) prog_13_method_2_code (6 : Nat) (Option.some Jvm.ClassFile.FieldType.int)) ∈ lw_all := lw_g (lw_at lw_m3 129 rfl) rfl
theorem q775 : (Jvm.Cond.methodLink "WoodState$Pair" (20 : Nat) ({ cls := "WoodState$Part", name := "worth", desc := "(LWoodState$Forest;II)I" } : Jvm.MethodName)) ∈ lw_all := lw_g (lw_at lw_m3 130 rfl) rfl
theorem q779 : (Jvm.Cond.selects "WoodState$Pair" ({ cls := "WoodState$Part", name := "worth", desc := "(LWoodState$Forest;II)I" } : Jvm.MethodName) ({ cls := "WoodState$Pair", name := "worth", desc := "(LWoodState$Forest;II)I" } : Jvm.MethodName)) ∈ lw_all := lw_g (lw_at lw_m3 134 rfl) rfl
theorem q1139 : (Jvm.Cond.instantiable "WoodState$Pair" (3 : Nat)) ∈ lw_all := lw_g (lw_at lw_m5 14 rfl) rfl
theorem q1141 : (Jvm.Cond.instanceMethod ({ cls := "WoodState$Pair", name := "<init>", desc := "(CLWoodState$Part;LWoodState$Part;)V" } : Jvm.MethodName)) ∈ lw_all := lw_g (lw_at lw_m5 16 rfl) rfl
theorem q1142 : (Jvm.Cond.code ({ cls := "WoodState$Pair", name := "<init>", desc := "(CLWoodState$Part;LWoodState$Part;)V" } : Jvm.MethodName) prog_13_method_1_code (4 : Nat) (Option.none : Option Jvm.ClassFile.FieldType)) ∈ lw_all := lw_g (lw_at lw_m5 17 rfl) rfl
theorem q1143 : (Jvm.Cond.methodLinkNest "WoodState$Pair" (1 : Nat) ({ cls := "WoodState$Part", name := "<init>", desc := "()V" } : Jvm.MethodName) "WoodState") ∈ lw_tbl := lw_at lw_m5 18 rfl
theorem q1144 : (Jvm.Cond.fieldLink "WoodState$Pair" (7 : Nat) "WoodState$Pair" "sign" "C") ∈ lw_all := lw_g (lw_at lw_m5 19 rfl) rfl
theorem q1145 : (Jvm.Cond.fieldLink "WoodState$Pair" (13 : Nat) "WoodState$Pair" "left" "LWoodState$Part;") ∈ lw_all := lw_g (lw_at lw_m5 20 rfl) rfl
theorem q1146 : (Jvm.Cond.fieldLink "WoodState$Pair" (17 : Nat) "WoodState$Pair" "right" "LWoodState$Part;") ∈ lw_all := lw_g (lw_at lw_m5 21 rfl) rfl
theorem q1147 : (Jvm.Cond.laysFinal "WoodState$Pair" "WoodState$Pair" "sign" "C") ∈ lw_all := lw_g (lw_at lw_m5 22 rfl) rfl
theorem q1148 : (Jvm.Cond.soleField "WoodState$Pair" "sign") ∈ lw_all := lw_g (lw_at lw_m5 23 rfl) rfl
theorem q1149 : (Jvm.Cond.laysFinal "WoodState$Pair" "WoodState$Pair" "left" "LWoodState$Part;") ∈ lw_all := lw_g (lw_at lw_m5 24 rfl) rfl
theorem q1150 : (Jvm.Cond.soleField "WoodState$Pair" "left") ∈ lw_all := lw_g (lw_at lw_m5 25 rfl) rfl
theorem q1151 : (Jvm.Cond.laysFinal "WoodState$Pair" "WoodState$Pair" "right" "LWoodState$Part;") ∈ lw_all := lw_g (lw_at lw_m5 26 rfl) rfl
theorem q1152 : (Jvm.Cond.soleField "WoodState$Pair" "right") ∈ lw_all := lw_g (lw_at lw_m5 27 rfl) rfl
theorem q1153 : (Jvm.Cond.superclass "WoodState$Pair" "WoodState$Part") ∈ lw_all := lw_g (lw_at lw_m5 28 rfl) rfl
theorem in_X15 : ∀ w ∈ wsX150, w ∈ lw_all := lw_in wsX150 [1147, 1149, 1151] (by decide +kernel) (by decide +kernel)

theorem q189 : (Jvm.Cond.initialized "WoodState$Due") ∈ lw_all := lw_g (lw_at lw_m1 24 rfl) rfl
theorem q851 : (Jvm.Cond.selects "WoodState$Due" ({ cls := "WoodState$Lot", name := "kind", desc := "()I" } : Jvm.MethodName) ({ cls := "WoodState$Due", name := "kind", desc := "()I" } : Jvm.MethodName)) ∈ lw_all := lw_g (lw_at lw_m3 206 rfl) rfl
theorem q852 : (Jvm.Cond.instanceMethod ({ cls := "WoodState$Due", name := "kind", desc := "()I" } : Jvm.MethodName)) ∈ lw_all := lw_g (lw_at lw_m3 207 rfl) rfl
theorem q853 : (Jvm.Cond.code ({ cls := "WoodState$Due", name := "kind", desc := "()I" } : Jvm.MethodName) prog_2_method_2_code (1 : Nat) (Option.some Jvm.ClassFile.FieldType.int)) ∈ lw_all := lw_g (lw_at lw_m3 208 rfl) rfl
theorem q854 : (Jvm.Cond.methodLink "WoodState$Due" (7 : Nat) ({ cls := "WoodState$Lot", name := "kind", desc := "()I" } : Jvm.MethodName)) ∈ lw_all := lw_g (lw_at lw_m3 209 rfl) rfl
theorem q855 : (Jvm.Cond.superclass "WoodState$Due" "WoodState$Lot") ∈ lw_all := lw_g (lw_at lw_m3 210 rfl) rfl
theorem q866 : (Jvm.Cond.selects "WoodState$Due" ({ cls := "WoodState$Lot", name := "whose", desc := "()I" } : Jvm.MethodName) ({ cls := "WoodState$Due", name := "whose", desc := "()I" } : Jvm.MethodName)) ∈ lw_all := lw_g (lw_at lw_m3 221 rfl) rfl
theorem q867 : (Jvm.Cond.instanceMethod ({ cls := "WoodState$Due", name := "whose", desc := "()I" } : Jvm.MethodName)) ∈ lw_all := lw_g (lw_at lw_m3 222 rfl) rfl
theorem q868 : (Jvm.Cond.code ({ cls := "WoodState$Due", name := "whose", desc := "()I" } : Jvm.MethodName) prog_2_method_3_code (1 : Nat) (Option.some Jvm.ClassFile.FieldType.int)) ∈ lw_all := lw_g (lw_at lw_m3 223 rfl) rfl
theorem q892 : (Jvm.Cond.selects "WoodState$Due" ({ cls := "WoodState$Lot", name := "ends", desc := "()I" } : Jvm.MethodName) ({ cls := "WoodState$Due", name := "ends", desc := "()I" } : Jvm.MethodName)) ∈ lw_all := lw_g (lw_at lw_m4 7 rfl) rfl
theorem q893 : (Jvm.Cond.instanceMethod ({ cls := "WoodState$Due", name := "ends", desc := "()I" } : Jvm.MethodName)) ∈ lw_all := lw_g (lw_at lw_m4 8 rfl) rfl
theorem q894 : (Jvm.Cond.code ({ cls := "WoodState$Due", name := "ends", desc := "()I" } : Jvm.MethodName) prog_2_method_4_code (1 : Nat) (Option.some Jvm.ClassFile.FieldType.int)) ∈ lw_all := lw_g (lw_at lw_m4 9 rfl) rfl
theorem q895 : (Jvm.Cond.methodLink "WoodState$Due" (17 : Nat) ({ cls := "WoodState$Lot", name := "ends", desc := "()I" } : Jvm.MethodName)) ∈ lw_all := lw_g (lw_at lw_m4 10 rfl) rfl
theorem q1306 : (Jvm.Cond.instantiable "WoodState$Due" (4 : Nat)) ∈ lw_all := lw_g (lw_at lw_m5 181 rfl) rfl
theorem q1308 : (Jvm.Cond.instanceMethod ({ cls := "WoodState$Due", name := "<init>", desc := "()V" } : Jvm.MethodName)) ∈ lw_all := lw_g (lw_at lw_m5 183 rfl) rfl
theorem q1309 : (Jvm.Cond.code ({ cls := "WoodState$Due", name := "<init>", desc := "()V" } : Jvm.MethodName) prog_2_method_1_code (1 : Nat) (Option.none : Option Jvm.ClassFile.FieldType)) ∈ lw_all := lw_g (lw_at lw_m5 184 rfl) rfl
theorem q1310 : (Jvm.Cond.methodLinkNest "WoodState$Due" (1 : Nat) ({ cls := "WoodState$Lot", name := "<init>", desc := "()V" } : Jvm.MethodName) "WoodState") ∈ lw_tbl := lw_at lw_m5 185 rfl
theorem q1311 : (Jvm.Cond.fieldLink "WoodState$Due" (11 : Nat) "WoodState$Due" "village" "I") ∈ lw_all := lw_g (lw_at lw_m5 186 rfl) rfl
theorem q1313 : (Jvm.Cond.lays "WoodState$Due" "WoodState$Due" "village" "I") ∈ lw_all := lw_g (lw_at lw_m5 188 rfl) rfl
theorem q1314 : (Jvm.Cond.soleField "WoodState$Due" "village") ∈ lw_all := lw_g (lw_at lw_m5 189 rfl) rfl
theorem q1315 : (Jvm.Cond.lays "WoodState$Due" "WoodState$Lot" "feet" "I") ∈ lw_all := lw_g (lw_at lw_m5 190 rfl) rfl
theorem q1316 : (Jvm.Cond.lays "WoodState$Due" "WoodState$Lot" "stand" "I") ∈ lw_all := lw_g (lw_at lw_m5 191 rfl) rfl
theorem q1317 : (Jvm.Cond.lays "WoodState$Due" "WoodState$Lot" "year" "I") ∈ lw_all := lw_g (lw_at lw_m5 192 rfl) rfl
theorem q1526 : (Jvm.Cond.selects "WoodState$Due" ({ cls := "WoodState$Lot", name := "another", desc := "()LWoodState$Lot;" } : Jvm.MethodName) ({ cls := "WoodState$Due", name := "another", desc := "()LWoodState$Lot;" } : Jvm.MethodName)) ∈ lw_all := lw_g (lw_at lw_m6 161 rfl) rfl
theorem q1527 : (Jvm.Cond.instanceMethod ({ cls := "WoodState$Due", name := "another", desc := "()LWoodState$Lot;" } : Jvm.MethodName)) ∈ lw_all := lw_g (lw_at lw_m6 162 rfl) rfl
theorem q1528 : (Jvm.Cond.code ({ cls := "WoodState$Due", name := "another", desc := "()LWoodState$Lot;" } : Jvm.MethodName) prog_2_method_6_code (1 : Nat) (Option.some (Jvm.ClassFile.FieldType.object "WoodState$Lot"))) ∈ lw_all := lw_g (lw_at lw_m6 163 rfl) rfl
theorem q1529 : (Jvm.Cond.classLink "WoodState$Due" (12 : Nat) "WoodState$Due") ∈ lw_all := lw_g (lw_at lw_m6 164 rfl) rfl
theorem q1530 : (Jvm.Cond.methodLink "WoodState$Due" (24 : Nat) ({ cls := "WoodState$Due", name := "<init>", desc := "()V" } : Jvm.MethodName)) ∈ lw_all := lw_g (lw_at lw_m6 165 rfl) rfl
theorem q1543 : (Jvm.Cond.selects "WoodState$Due" ({ cls := "WoodState$Lot", name := "as", desc := "(LWoodState$Lot;)V" } : Jvm.MethodName) ({ cls := "WoodState$Due", name := "as", desc := "(LWoodState$Lot;)V" } : Jvm.MethodName)) ∈ lw_all := lw_g (lw_at lw_m6 178 rfl) rfl
theorem q1544 : (Jvm.Cond.instanceMethod ({ cls := "WoodState$Due", name := "as", desc := "(LWoodState$Lot;)V" } : Jvm.MethodName)) ∈ lw_all := lw_g (lw_at lw_m6 179 rfl) rfl
theorem q1545 : (Jvm.Cond.code ({ cls := "WoodState$Due", name := "as", desc := "(LWoodState$Lot;)V" } : Jvm.MethodName) prog_2_method_5_code (2 : Nat) (Option.none : Option Jvm.ClassFile.FieldType)) ∈ lw_all := lw_g (lw_at lw_m6 180 rfl) rfl
theorem q1546 : (Jvm.Cond.methodLink "WoodState$Due" (20 : Nat) ({ cls := "WoodState$Lot", name := "as", desc := "(LWoodState$Lot;)V" } : Jvm.MethodName)) ∈ lw_all := lw_g (lw_at lw_m6 181 rfl) rfl
theorem q2266 : (Jvm.Cond.castable "WoodState$Due" "WoodState$Lot") ∈ lw_tbl := lw_at lw_m9 181 rfl
theorem in_X16 : ∀ w ∈ wsX160, w ∈ lw_all := lw_in wsX160 [1315, 1316, 1317, 1313] (by decide +kernel) (by decide +kernel)

theorem q165 : (Jvm.Cond.initialized "WoodStateLaw") ∈ lw_all := lw_g (lw_at lw_m1 0 rfl) rfl
theorem q193 : (Jvm.Cond.classLink "WoodStateLaw" (7 : Nat) "WoodState") ∈ lw_all := lw_g (lw_at lw_m1 28 rfl) rfl
theorem q195 : (Jvm.Cond.methodLink "WoodStateLaw" (9 : Nat) ({ cls := "WoodState", name := "<init>", desc := "()V" } : Jvm.MethodName)) ∈ lw_all := lw_g (lw_at lw_m1 30 rfl) rfl
theorem q677 : (Jvm.Cond.methodLink "WoodStateLaw" (13 : Nat) ({ cls := "WoodState", name := "stand", desc := "(IIII)I" } : Jvm.MethodName)) ∈ lw_all := lw_g (lw_at lw_m3 32 rfl) rfl
theorem q694 : (Jvm.Cond.methodLink "WoodStateLaw" (18 : Nat) ({ cls := "WoodState", name := "neighbours", desc := "(II)I" } : Jvm.MethodName)) ∈ lw_all := lw_g (lw_at lw_m3 49 rfl) rfl
theorem q706 : (Jvm.Cond.methodLink "WoodStateLaw" (23 : Nat) ({ cls := "WoodState", name := "look", desc := "(II)I" } : Jvm.MethodName)) ∈ lw_all := lw_g (lw_at lw_m3 61 rfl) rfl
theorem q780 : (Jvm.Cond.methodLink "WoodStateLaw" (27 : Nat) ({ cls := "WoodState", name := "feet", desc := "(III)I" } : Jvm.MethodName)) ∈ lw_all := lw_g (lw_at lw_m3 135 rfl) rfl
theorem q788 : (Jvm.Cond.methodLink "WoodStateLaw" (32 : Nat) ({ cls := "WoodState", name := "road", desc := "(III)I" } : Jvm.MethodName)) ∈ lw_all := lw_g (lw_at lw_m3 143 rfl) rfl
theorem q797 : (Jvm.Cond.methodLink "WoodStateLaw" (36 : Nat) ({ cls := "WoodState", name := "haul", desc := "(I)I" } : Jvm.MethodName)) ∈ lw_all := lw_g (lw_at lw_m3 152 rfl) rfl
theorem q802 : (Jvm.Cond.methodLink "WoodStateLaw" (41 : Nat) ({ cls := "WoodState", name := "village", desc := "(III)I" } : Jvm.MethodName)) ∈ lw_all := lw_g (lw_at lw_m3 157 rfl) rfl
theorem q806 : (Jvm.Cond.methodLink "WoodStateLaw" (45 : Nat) ({ cls := "WoodState", name := "people", desc := "(III)I" } : Jvm.MethodName)) ∈ lw_all := lw_g (lw_at lw_m3 161 rfl) rfl
theorem q814 : (Jvm.Cond.methodLink "WoodStateLaw" (49 : Nat) ({ cls := "WoodState", name := "of", desc := "(II)I" } : Jvm.MethodName)) ∈ lw_all := lw_g (lw_at lw_m3 169 rfl) rfl
theorem q833 : (Jvm.Cond.methodLink "WoodStateLaw" (53 : Nat) ({ cls := "WoodState", name := "parcel", desc := "(II)I" } : Jvm.MethodName)) ∈ lw_all := lw_g (lw_at lw_m3 188 rfl) rfl
theorem q871 : (Jvm.Cond.methodLink "WoodStateLaw" (57 : Nat) ({ cls := "WoodState", name := "sell", desc := "(II)I" } : Jvm.MethodName)) ∈ lw_all := lw_g (lw_at lw_m3 226 rfl) rfl
theorem q900 : (Jvm.Cond.methodLink "WoodStateLaw" (61 : Nat) ({ cls := "WoodState", name := "fetch", desc := "(I)I" } : Jvm.MethodName)) ∈ lw_all := lw_g (lw_at lw_m4 15 rfl) rfl
theorem q932 : (Jvm.Cond.methodLink "WoodStateLaw" (65 : Nat) ({ cls := "WoodState", name := "loss", desc := "(I)I" } : Jvm.MethodName)) ∈ lw_all := lw_g (lw_at lw_m4 47 rfl) rfl
theorem q985 : (Jvm.Cond.methodLink "WoodStateLaw" (69 : Nat) ({ cls := "WoodState", name := "settle", desc := "(IZ)I" } : Jvm.MethodName)) ∈ lw_all := lw_g (lw_at lw_m4 100 rfl) rfl
theorem q989 : (Jvm.Cond.methodLink "WoodStateLaw" (74 : Nat) ({ cls := "WoodState", name := "book", desc := "(I)J" } : Jvm.MethodName)) ∈ lw_all := lw_g (lw_at lw_m4 104 rfl) rfl
theorem q998 : (Jvm.Cond.methodLink "WoodStateLaw" (79 : Nat) ({ cls := "WoodState", name := "feed", desc := "(II)I" } : Jvm.MethodName)) ∈ lw_all := lw_g (lw_at lw_m4 113 rfl) rfl
theorem q1002 : (Jvm.Cond.methodLink "WoodStateLaw" (83 : Nat) ({ cls := "WoodState", name := "wipe", desc := "()I" } : Jvm.MethodName)) ∈ lw_all := lw_g (lw_at lw_m4 117 rfl) rfl
theorem q1006 : (Jvm.Cond.methodLink "WoodStateLaw" (88 : Nat) ({ cls := "WoodState", name := "line", desc := "()I" } : Jvm.MethodName)) ∈ lw_all := lw_g (lw_at lw_m4 121 rfl) rfl
theorem q1158 : (Jvm.Cond.methodLink "WoodStateLaw" (92 : Nat) ({ cls := "WoodState", name := "lineOf", desc := "(II)I" } : Jvm.MethodName)) ∈ lw_all := lw_g (lw_at lw_m5 33 rfl) rfl
theorem q1162 : (Jvm.Cond.methodLink "WoodStateLaw" (96 : Nat) ({ cls := "WoodState", name := "says", desc := "(III)I" } : Jvm.MethodName)) ∈ lw_all := lw_g (lw_at lw_m5 37 rfl) rfl
theorem q1172 : (Jvm.Cond.methodLink "WoodStateLaw" (100 : Nat) ({ cls := "WoodState", name := "why", desc := "(III)I" } : Jvm.MethodName)) ∈ lw_all := lw_g (lw_at lw_m5 47 rfl) rfl
theorem q1177 : (Jvm.Cond.methodLink "WoodStateLaw" (104 : Nat) ({ cls := "WoodState", name := "may", desc := "(III)I" } : Jvm.MethodName)) ∈ lw_all := lw_g (lw_at lw_m5 52 rfl) rfl
theorem q1222 : (Jvm.Cond.methodLink "WoodStateLaw" (108 : Nat) ({ cls := "WoodState", name := "order", desc := "(III)I" } : Jvm.MethodName)) ∈ lw_all := lw_g (lw_at lw_m5 97 rfl) rfl
theorem q1231 : (Jvm.Cond.methodLink "WoodStateLaw" (112 : Nat) ({ cls := "WoodState", name := "cancel", desc := "(I)I" } : Jvm.MethodName)) ∈ lw_all := lw_g (lw_at lw_m5 106 rfl) rfl
theorem q1239 : (Jvm.Cond.methodLink "WoodStateLaw" (116 : Nat) ({ cls := "WoodState", name := "ordered", desc := "(II)I" } : Jvm.MethodName)) ∈ lw_all := lw_g (lw_at lw_m5 114 rfl) rfl
theorem q1243 : (Jvm.Cond.methodLink "WoodStateLaw" (120 : Nat) ({ cls := "WoodState", name := "sow", desc := "(II)I" } : Jvm.MethodName)) ∈ lw_all := lw_g (lw_at lw_m5 118 rfl) rfl
theorem q1247 : (Jvm.Cond.methodLink "WoodStateLaw" (124 : Nat) ({ cls := "WoodState", name := "nursery", desc := "(II)I" } : Jvm.MethodName)) ∈ lw_all := lw_g (lw_at lw_m5 122 rfl) rfl
theorem q1251 : (Jvm.Cond.methodLink "WoodStateLaw" (128 : Nat) ({ cls := "WoodState", name := "wind", desc := "(II)I" } : Jvm.MethodName)) ∈ lw_all := lw_g (lw_at lw_m5 126 rfl) rfl
theorem q1259 : (Jvm.Cond.methodLink "WoodStateLaw" (132 : Nat) ({ cls := "WoodState", name := "read", desc := "()I" } : Jvm.MethodName)) ∈ lw_all := lw_g (lw_at lw_m5 134 rfl) rfl
theorem q1288 : (Jvm.Cond.methodLink "WoodStateLaw" (136 : Nat) ({ cls := "WoodState", name := "watch", desc := "(III)I" } : Jvm.MethodName)) ∈ lw_all := lw_g (lw_at lw_m5 163 rfl) rfl
theorem q1292 : (Jvm.Cond.methodLink "WoodStateLaw" (140 : Nat) ({ cls := "WoodState", name := "run", desc := "(I)I" } : Jvm.MethodName)) ∈ lw_all := lw_g (lw_at lw_m5 167 rfl) rfl
theorem q1362 : (Jvm.Cond.methodLink "WoodStateLaw" (144 : Nat) ({ cls := "WoodState", name := "count", desc := "(II)I" } : Jvm.MethodName)) ∈ lw_all := lw_g (lw_at lw_m5 237 rfl) rfl
theorem q1380 : (Jvm.Cond.methodLink "WoodStateLaw" (148 : Nat) ({ cls := "WoodState", name := "counted", desc := "(III)I" } : Jvm.MethodName)) ∈ lw_all := lw_g (lw_at lw_m6 15 rfl) rfl
theorem q1386 : (Jvm.Cond.methodLink "WoodStateLaw" (152 : Nat) ({ cls := "WoodState", name := "lack", desc := "(I)I" } : Jvm.MethodName)) ∈ lw_all := lw_g (lw_at lw_m6 21 rfl) rfl
theorem q1390 : (Jvm.Cond.methodLink "WoodStateLaw" (156 : Nat) ({ cls := "WoodState", name := "plan", desc := "(II)J" } : Jvm.MethodName)) ∈ lw_all := lw_g (lw_at lw_m6 25 rfl) rfl
theorem q1466 : (Jvm.Cond.methodLink "WoodStateLaw" (163 : Nat) ({ cls := "WoodState", name := "anew", desc := "(IIJ)I" } : Jvm.MethodName)) ∈ lw_all := lw_g (lw_at lw_m6 101 rfl) rfl
theorem q1474 : (Jvm.Cond.methodLink "WoodStateLaw" (168 : Nat) ({ cls := "WoodState", name := "planned", desc := "(I)I" } : Jvm.MethodName)) ∈ lw_all := lw_g (lw_at lw_m6 109 rfl) rfl
theorem q1478 : (Jvm.Cond.methodLink "WoodStateLaw" (172 : Nat) ({ cls := "WoodState", name := "judge", desc := "(II)I" } : Jvm.MethodName)) ∈ lw_all := lw_g (lw_at lw_m6 113 rfl) rfl
theorem q1490 : (Jvm.Cond.methodLink "WoodStateLaw" (176 : Nat) ({ cls := "WoodState", name := "worth", desc := "(IIZ)J" } : Jvm.MethodName)) ∈ lw_all := lw_g (lw_at lw_m6 125 rfl) rfl
theorem q1498 : (Jvm.Cond.methodLink "WoodStateLaw" (181 : Nat) ({ cls := "WoodState", name := "attempt", desc := "(II)J" } : Jvm.MethodName)) ∈ lw_all := lw_g (lw_at lw_m6 133 rfl) rfl
theorem q1559 : (Jvm.Cond.methodLink "WoodStateLaw" (185 : Nat) ({ cls := "WoodState", name := "image", desc := "()I" } : Jvm.MethodName)) ∈ lw_all := lw_g (lw_at lw_m6 194 rfl) rfl
theorem q1563 : (Jvm.Cond.methodLink "WoodStateLaw" (189 : Nat) ({ cls := "WoodState", name := "back", desc := "()I" } : Jvm.MethodName)) ∈ lw_all := lw_g (lw_at lw_m6 198 rfl) rfl
theorem q1567 : (Jvm.Cond.methodLink "WoodStateLaw" (193 : Nat) ({ cls := "WoodState", name := "tally", desc := "(I)I" } : Jvm.MethodName)) ∈ lw_all := lw_g (lw_at lw_m6 202 rfl) rfl
theorem q1579 : (Jvm.Cond.methodLink "WoodStateLaw" (197 : Nat) ({ cls := "WoodState", name := "lay", desc := "(I)I" } : Jvm.MethodName)) ∈ lw_all := lw_g (lw_at lw_m6 214 rfl) rfl
theorem q1583 : (Jvm.Cond.methodLink "WoodStateLaw" (201 : Nat) ({ cls := "WoodState", name := "set", desc := "(II)I" } : Jvm.MethodName)) ∈ lw_all := lw_g (lw_at lw_m6 218 rfl) rfl
theorem q1587 : (Jvm.Cond.methodLink "WoodStateLaw" (205 : Nat) ({ cls := "WoodState", name := "tear", desc := "()I" } : Jvm.MethodName)) ∈ lw_all := lw_g (lw_at lw_m6 222 rfl) rfl
theorem q1591 : (Jvm.Cond.methodLink "WoodStateLaw" (209 : Nat) ({ cls := "WoodState", name := "row", desc := "(I)I" } : Jvm.MethodName)) ∈ lw_all := lw_g (lw_at lw_m6 226 rfl) rfl
theorem q1595 : (Jvm.Cond.methodLink "WoodStateLaw" (213 : Nat) ({ cls := "WoodState", name := "copy", desc := "(III)I" } : Jvm.MethodName)) ∈ lw_all := lw_g (lw_at lw_m6 230 rfl) rfl
theorem q1613 : (Jvm.Cond.methodLink "WoodStateLaw" (217 : Nat) ({ cls := "WoodState", name := "status", desc := "(I)I" } : Jvm.MethodName)) ∈ lw_all := lw_g (lw_at lw_m7 8 rfl) rfl
theorem q1619 : (Jvm.Cond.classLink "WoodStateLaw" (10 : Nat) "WoodStateModel") ∈ lw_all := lw_g (lw_at lw_m7 14 rfl) rfl
theorem q1621 : (Jvm.Cond.methodLink "WoodStateLaw" (12 : Nat) ({ cls := "WoodStateModel", name := "<init>", desc := "()V" } : Jvm.MethodName)) ∈ lw_all := lw_g (lw_at lw_m7 16 rfl) rfl
theorem q1753 : (Jvm.Cond.methodLink "WoodStateLaw" (220 : Nat) ({ cls := "WoodStateModel", name := "status", desc := "(I)I" } : Jvm.MethodName)) ∈ lw_all := lw_g (lw_at lw_m7 148 rfl) rfl
theorem q1764 : (Jvm.Cond.methodLink "WoodStateLaw" (17 : Nat) ({ cls := "WoodStateModel", name := "stand", desc := "(IIII)I" } : Jvm.MethodName)) ∈ lw_all := lw_g (lw_at lw_m7 159 rfl) rfl
theorem q1768 : (Jvm.Cond.methodLink "WoodStateLaw" (22 : Nat) ({ cls := "WoodStateModel", name := "neighbours", desc := "(II)I" } : Jvm.MethodName)) ∈ lw_all := lw_g (lw_at lw_m7 163 rfl) rfl
theorem q1780 : (Jvm.Cond.methodLink "WoodStateLaw" (26 : Nat) ({ cls := "WoodStateModel", name := "look", desc := "(II)I" } : Jvm.MethodName)) ∈ lw_all := lw_g (lw_at lw_m7 175 rfl) rfl
theorem q1918 : (Jvm.Cond.methodLink "WoodStateLaw" (31 : Nat) ({ cls := "WoodStateModel", name := "feet", desc := "(III)I" } : Jvm.MethodName)) ∈ lw_all := lw_g (lw_at lw_m8 73 rfl) rfl
theorem q1922 : (Jvm.Cond.methodLink "WoodStateLaw" (35 : Nat) ({ cls := "WoodStateModel", name := "road", desc := "(III)I" } : Jvm.MethodName)) ∈ lw_all := lw_g (lw_at lw_m8 77 rfl) rfl
theorem q1929 : (Jvm.Cond.methodLink "WoodStateLaw" (40 : Nat) ({ cls := "WoodStateModel", name := "haul", desc := "(I)I" } : Jvm.MethodName)) ∈ lw_all := lw_g (lw_at lw_m8 84 rfl) rfl
theorem q1933 : (Jvm.Cond.methodLink "WoodStateLaw" (44 : Nat) ({ cls := "WoodStateModel", name := "village", desc := "(III)I" } : Jvm.MethodName)) ∈ lw_all := lw_g (lw_at lw_m8 88 rfl) rfl
theorem q1937 : (Jvm.Cond.methodLink "WoodStateLaw" (48 : Nat) ({ cls := "WoodStateModel", name := "people", desc := "(III)I" } : Jvm.MethodName)) ∈ lw_all := lw_g (lw_at lw_m8 92 rfl) rfl
theorem q1945 : (Jvm.Cond.methodLink "WoodStateLaw" (52 : Nat) ({ cls := "WoodStateModel", name := "of", desc := "(II)I" } : Jvm.MethodName)) ∈ lw_all := lw_g (lw_at lw_m8 100 rfl) rfl
theorem q1956 : (Jvm.Cond.methodLink "WoodStateLaw" (56 : Nat) ({ cls := "WoodStateModel", name := "parcel", desc := "(II)I" } : Jvm.MethodName)) ∈ lw_all := lw_g (lw_at lw_m8 111 rfl) rfl
theorem q1968 : (Jvm.Cond.methodLink "WoodStateLaw" (60 : Nat) ({ cls := "WoodStateModel", name := "sell", desc := "(II)I" } : Jvm.MethodName)) ∈ lw_all := lw_g (lw_at lw_m8 123 rfl) rfl
theorem q1972 : (Jvm.Cond.methodLink "WoodStateLaw" (64 : Nat) ({ cls := "WoodStateModel", name := "fetch", desc := "(I)I" } : Jvm.MethodName)) ∈ lw_all := lw_g (lw_at lw_m8 127 rfl) rfl
theorem q1976 : (Jvm.Cond.methodLink "WoodStateLaw" (68 : Nat) ({ cls := "WoodStateModel", name := "loss", desc := "(I)I" } : Jvm.MethodName)) ∈ lw_all := lw_g (lw_at lw_m8 131 rfl) rfl
theorem q1996 : (Jvm.Cond.methodLink "WoodStateLaw" (73 : Nat) ({ cls := "WoodStateModel", name := "settle", desc := "(IZ)I" } : Jvm.MethodName)) ∈ lw_all := lw_g (lw_at lw_m8 151 rfl) rfl
theorem q2000 : (Jvm.Cond.methodLink "WoodStateLaw" (78 : Nat) ({ cls := "WoodStateModel", name := "book", desc := "(I)J" } : Jvm.MethodName)) ∈ lw_all := lw_g (lw_at lw_m8 155 rfl) rfl
theorem q2008 : (Jvm.Cond.methodLink "WoodStateLaw" (82 : Nat) ({ cls := "WoodStateModel", name := "feed", desc := "(II)I" } : Jvm.MethodName)) ∈ lw_all := lw_g (lw_at lw_m8 163 rfl) rfl
theorem q2012 : (Jvm.Cond.methodLink "WoodStateLaw" (87 : Nat) ({ cls := "WoodStateModel", name := "wipe", desc := "()I" } : Jvm.MethodName)) ∈ lw_all := lw_g (lw_at lw_m8 167 rfl) rfl
theorem q2016 : (Jvm.Cond.methodLink "WoodStateLaw" (91 : Nat) ({ cls := "WoodStateModel", name := "line", desc := "()I" } : Jvm.MethodName)) ∈ lw_all := lw_g (lw_at lw_m8 171 rfl) rfl
theorem q2020 : (Jvm.Cond.methodLink "WoodStateLaw" (95 : Nat) ({ cls := "WoodStateModel", name := "lineOf", desc := "(II)I" } : Jvm.MethodName)) ∈ lw_all := lw_g (lw_at lw_m8 175 rfl) rfl
theorem q2024 : (Jvm.Cond.methodLink "WoodStateLaw" (99 : Nat) ({ cls := "WoodStateModel", name := "says", desc := "(III)I" } : Jvm.MethodName)) ∈ lw_all := lw_g (lw_at lw_m8 179 rfl) rfl
theorem q2035 : (Jvm.Cond.methodLink "WoodStateLaw" (103 : Nat) ({ cls := "WoodStateModel", name := "why", desc := "(III)I" } : Jvm.MethodName)) ∈ lw_all := lw_g (lw_at lw_m8 190 rfl) rfl
theorem q2039 : (Jvm.Cond.methodLink "WoodStateLaw" (107 : Nat) ({ cls := "WoodStateModel", name := "may", desc := "(III)I" } : Jvm.MethodName)) ∈ lw_all := lw_g (lw_at lw_m8 194 rfl) rfl
theorem q2071 : (Jvm.Cond.methodLink "WoodStateLaw" (111 : Nat) ({ cls := "WoodStateModel", name := "order", desc := "(III)I" } : Jvm.MethodName)) ∈ lw_all := lw_g (lw_at lw_m8 226 rfl) rfl
theorem q2075 : (Jvm.Cond.methodLink "WoodStateLaw" (115 : Nat) ({ cls := "WoodStateModel", name := "cancel", desc := "(I)I" } : Jvm.MethodName)) ∈ lw_all := lw_g (lw_at lw_m8 230 rfl) rfl
theorem q2079 : (Jvm.Cond.methodLink "WoodStateLaw" (119 : Nat) ({ cls := "WoodStateModel", name := "ordered", desc := "(II)I" } : Jvm.MethodName)) ∈ lw_all := lw_g (lw_at lw_m8 234 rfl) rfl
theorem q2083 : (Jvm.Cond.methodLink "WoodStateLaw" (123 : Nat) ({ cls := "WoodStateModel", name := "sow", desc := "(II)I" } : Jvm.MethodName)) ∈ lw_all := lw_g (lw_at lw_m8 238 rfl) rfl
theorem q2087 : (Jvm.Cond.methodLink "WoodStateLaw" (127 : Nat) ({ cls := "WoodStateModel", name := "nursery", desc := "(II)I" } : Jvm.MethodName)) ∈ lw_all := lw_g (lw_at lw_m9 2 rfl) rfl
theorem q2091 : (Jvm.Cond.methodLink "WoodStateLaw" (131 : Nat) ({ cls := "WoodStateModel", name := "wind", desc := "(II)I" } : Jvm.MethodName)) ∈ lw_all := lw_g (lw_at lw_m9 6 rfl) rfl
theorem q2095 : (Jvm.Cond.methodLink "WoodStateLaw" (135 : Nat) ({ cls := "WoodStateModel", name := "read", desc := "()I" } : Jvm.MethodName)) ∈ lw_all := lw_g (lw_at lw_m9 10 rfl) rfl
theorem q2099 : (Jvm.Cond.methodLink "WoodStateLaw" (139 : Nat) ({ cls := "WoodStateModel", name := "watch", desc := "(III)I" } : Jvm.MethodName)) ∈ lw_all := lw_g (lw_at lw_m9 14 rfl) rfl
theorem q2103 : (Jvm.Cond.methodLink "WoodStateLaw" (143 : Nat) ({ cls := "WoodStateModel", name := "run", desc := "(I)I" } : Jvm.MethodName)) ∈ lw_all := lw_g (lw_at lw_m9 18 rfl) rfl
theorem q2147 : (Jvm.Cond.methodLink "WoodStateLaw" (147 : Nat) ({ cls := "WoodStateModel", name := "count", desc := "(II)I" } : Jvm.MethodName)) ∈ lw_all := lw_g (lw_at lw_m9 62 rfl) rfl
theorem q2156 : (Jvm.Cond.methodLink "WoodStateLaw" (151 : Nat) ({ cls := "WoodStateModel", name := "counted", desc := "(III)I" } : Jvm.MethodName)) ∈ lw_all := lw_g (lw_at lw_m9 71 rfl) rfl
theorem q2160 : (Jvm.Cond.methodLink "WoodStateLaw" (155 : Nat) ({ cls := "WoodStateModel", name := "lack", desc := "(I)I" } : Jvm.MethodName)) ∈ lw_all := lw_g (lw_at lw_m9 75 rfl) rfl
theorem q2164 : (Jvm.Cond.methodLink "WoodStateLaw" (160 : Nat) ({ cls := "WoodStateModel", name := "plan", desc := "(II)J" } : Jvm.MethodName)) ∈ lw_all := lw_g (lw_at lw_m9 79 rfl) rfl
theorem q2192 : (Jvm.Cond.methodLink "WoodStateLaw" (167 : Nat) ({ cls := "WoodStateModel", name := "anew", desc := "(IIJ)I" } : Jvm.MethodName)) ∈ lw_all := lw_g (lw_at lw_m9 107 rfl) rfl
theorem q2200 : (Jvm.Cond.methodLink "WoodStateLaw" (171 : Nat) ({ cls := "WoodStateModel", name := "planned", desc := "(I)I" } : Jvm.MethodName)) ∈ lw_all := lw_g (lw_at lw_m9 115 rfl) rfl
theorem q2204 : (Jvm.Cond.methodLink "WoodStateLaw" (175 : Nat) ({ cls := "WoodStateModel", name := "judge", desc := "(II)I" } : Jvm.MethodName)) ∈ lw_all := lw_g (lw_at lw_m9 119 rfl) rfl
theorem q2216 : (Jvm.Cond.methodLink "WoodStateLaw" (180 : Nat) ({ cls := "WoodStateModel", name := "worth", desc := "(IIZ)J" } : Jvm.MethodName)) ∈ lw_all := lw_g (lw_at lw_m9 131 rfl) rfl
theorem q2220 : (Jvm.Cond.methodLink "WoodStateLaw" (184 : Nat) ({ cls := "WoodStateModel", name := "attempt", desc := "(II)J" } : Jvm.MethodName)) ∈ lw_all := lw_g (lw_at lw_m9 135 rfl) rfl
theorem q2232 : (Jvm.Cond.methodLink "WoodStateLaw" (188 : Nat) ({ cls := "WoodStateModel", name := "image", desc := "()I" } : Jvm.MethodName)) ∈ lw_all := lw_g (lw_at lw_m9 147 rfl) rfl
theorem q2236 : (Jvm.Cond.methodLink "WoodStateLaw" (192 : Nat) ({ cls := "WoodStateModel", name := "back", desc := "()I" } : Jvm.MethodName)) ∈ lw_all := lw_g (lw_at lw_m9 151 rfl) rfl
theorem q2240 : (Jvm.Cond.methodLink "WoodStateLaw" (196 : Nat) ({ cls := "WoodStateModel", name := "tally", desc := "(I)I" } : Jvm.MethodName)) ∈ lw_all := lw_g (lw_at lw_m9 155 rfl) rfl
theorem q2244 : (Jvm.Cond.methodLink "WoodStateLaw" (200 : Nat) ({ cls := "WoodStateModel", name := "lay", desc := "(I)I" } : Jvm.MethodName)) ∈ lw_all := lw_g (lw_at lw_m9 159 rfl) rfl
theorem q2248 : (Jvm.Cond.methodLink "WoodStateLaw" (204 : Nat) ({ cls := "WoodStateModel", name := "set", desc := "(II)I" } : Jvm.MethodName)) ∈ lw_all := lw_g (lw_at lw_m9 163 rfl) rfl
theorem q2252 : (Jvm.Cond.methodLink "WoodStateLaw" (208 : Nat) ({ cls := "WoodStateModel", name := "tear", desc := "()I" } : Jvm.MethodName)) ∈ lw_all := lw_g (lw_at lw_m9 167 rfl) rfl
theorem q2256 : (Jvm.Cond.methodLink "WoodStateLaw" (212 : Nat) ({ cls := "WoodStateModel", name := "row", desc := "(I)I" } : Jvm.MethodName)) ∈ lw_all := lw_g (lw_at lw_m9 171 rfl) rfl
theorem q2260 : (Jvm.Cond.methodLink "WoodStateLaw" (216 : Nat) ({ cls := "WoodStateModel", name := "copy", desc := "(III)I" } : Jvm.MethodName)) ∈ lw_all := lw_g (lw_at lw_m9 175 rfl) rfl
theorem q2264 : (Jvm.Cond.constantLong "WoodStateLaw" (161 : Nat) (4294967295 : Int64)) ∈ lw_all := lw_g (lw_at lw_m9 179 rfl) rfl

theorem q190 : (Jvm.Cond.initialized "java/lang/System") ∈ lw_all := lw_g (lw_at lw_m1 25 rfl) rfl
theorem q1378 : (Jvm.Cond.static ({ cls := "java/lang/System", name := "arraycopy", desc := "(Ljava/lang/Object;ILjava/lang/Object;II)V" } : Jvm.MethodName)) ∈ lw_all := lw_g (lw_at lw_m6 13 rfl) rfl
theorem q1379 : (Jvm.Cond.native ({ cls := "java/lang/System", name := "arraycopy", desc := "(Ljava/lang/Object;ILjava/lang/Object;II)V" } : Jvm.MethodName)) ∈ lw_all := lw_g (lw_at lw_m6 14 rfl) rfl

theorem q202 : (Jvm.Cond.arrayOver (Jvm.ClassFile.FieldType.object "WoodState$Refusal")) ∈ lw_tbl := lw_at lw_m1 37 rfl
theorem q210 : (Jvm.Cond.arrayOver (Jvm.ClassFile.FieldType.object "WoodState$Slot")) ∈ lw_tbl := lw_at lw_m1 45 rfl
theorem q212 : (Jvm.Cond.arrayOver (Jvm.ClassFile.FieldType.object "WoodState$Line")) ∈ lw_tbl := lw_at lw_m1 47 rfl
theorem q224 : (Jvm.Cond.arrayClass Jvm.ClassFile.FieldType.int) ∈ lw_all := lw_g (lw_at lw_m1 59 rfl) rfl
theorem q225 : (Jvm.Cond.arrayClass Jvm.ClassFile.FieldType.long) ∈ lw_all := lw_g (lw_at lw_m1 60 rfl) rfl
theorem q226 : (Jvm.Cond.arrayClass Jvm.ClassFile.FieldType.boolean) ∈ lw_all := lw_g (lw_at lw_m1 61 rfl) rfl
theorem q507 : (Jvm.Cond.arrayClass Jvm.ClassFile.FieldType.byte) ∈ lw_all := lw_g (lw_at lw_m2 102 rfl) rfl
theorem q509 : (Jvm.Cond.arrayOver (Jvm.ClassFile.FieldType.array Jvm.ClassFile.FieldType.char)) ∈ lw_tbl := lw_at lw_m2 104 rfl
theorem q535 : (Jvm.Cond.arrayClass Jvm.ClassFile.FieldType.char) ∈ lw_all := lw_g (lw_at lw_m2 130 rfl) rfl
theorem q576 : (Jvm.Cond.arrayOver (Jvm.ClassFile.FieldType.array Jvm.ClassFile.FieldType.int)) ∈ lw_tbl := lw_at lw_m2 171 rfl

