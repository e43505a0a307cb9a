set_option maxRecDepth 100000
theorem q80 : (Jvm.Cond.initialized "java/lang/Throwable") ∈ lw_all := lw_g (lw_at lw_m1 32 rfl) rfl
theorem q750 : (Jvm.Cond.instantiable "java/util/NoSuchElementException" (6 : Nat)) ∈ lw_all := lw_g (lw_at lw_m3 222 rfl) rfl
theorem q751 : (Jvm.Cond.castable "java/util/NoSuchElementException" "java/util/NoSuchElementException") ∈ lw_tbl := lw_at lw_m3 223 rfl
theorem q752 : (Jvm.Cond.declares ({ cls := "java/lang/RuntimeException", name := "<init>", desc := "()V" } : Jvm.MethodName)) ∈ lw_tbl := lw_at lw_m3 224 rfl
theorem q753 : (Jvm.Cond.declares ({ cls := "java/lang/RuntimeException", name := "<init>", desc := "(Ljava/lang/String;)V" } : Jvm.MethodName)) ∈ lw_tbl := lw_at lw_m3 225 rfl
theorem q754 : (Jvm.Cond.declares ({ cls := "java/lang/Exception", name := "<init>", desc := "()V" } : Jvm.MethodName)) ∈ lw_tbl := lw_at lw_m3 226 rfl
theorem q755 : (Jvm.Cond.declares ({ cls := "java/lang/Exception", name := "<init>", desc := "(Ljava/lang/String;)V" } : Jvm.MethodName)) ∈ lw_tbl := lw_at lw_m3 227 rfl
theorem q756 : (Jvm.Cond.declares ({ cls := "java/lang/Throwable", name := "<init>", desc := "()V" } : Jvm.MethodName)) ∈ lw_tbl := lw_at lw_m3 228 rfl
theorem q757 : (Jvm.Cond.declares ({ cls := "java/lang/Throwable", name := "<init>", desc := "(Ljava/lang/String;)V" } : Jvm.MethodName)) ∈ lw_tbl := lw_at lw_m3 229 rfl
theorem q758 : (Jvm.Cond.selects "java/util/NoSuchElementException" ({ cls := "java/lang/Throwable", name := "fillInStackTrace", desc := "(I)Ljava/lang/Throwable;" } : Jvm.MethodName) ({ cls := "java/lang/Throwable", name := "fillInStackTrace", desc := "(I)Ljava/lang/Throwable;" } : Jvm.MethodName)) ∈ lw_all := lw_g (lw_at lw_m3 230 rfl) rfl
theorem q759 : (Jvm.Cond.selects "java/util/NoSuchElementException" ({ cls := "java/lang/Throwable", name := "fillInStackTrace", desc := "()Ljava/lang/Throwable;" } : Jvm.MethodName) ({ cls := "java/lang/Throwable", name := "fillInStackTrace", desc := "()Ljava/lang/Throwable;" } : Jvm.MethodName)) ∈ lw_all := lw_g (lw_at lw_m3 231 rfl) rfl
theorem q760 : (Jvm.Cond.lays "java/util/NoSuchElementException" "java/lang/Throwable" "cause" "Ljava/lang/Throwable;") ∈ lw_all := lw_g (lw_at lw_m3 232 rfl) rfl
theorem q761 : (Jvm.Cond.lays "java/lang/Throwable" "java/lang/Throwable" "cause" "Ljava/lang/Throwable;") ∈ lw_all := lw_g (lw_at lw_m3 233 rfl) rfl
theorem q762 : (Jvm.Cond.lays "java/util/NoSuchElementException" "java/lang/Throwable" "stackTrace" "[Ljava/lang/StackTraceElement;") ∈ lw_all := lw_g (lw_at lw_m3 234 rfl) rfl
theorem q763 : (Jvm.Cond.lays "java/lang/Throwable" "java/lang/Throwable" "stackTrace" "[Ljava/lang/StackTraceElement;") ∈ lw_all := lw_g (lw_at lw_m3 235 rfl) rfl
theorem q764 : (Jvm.Cond.lays "java/util/NoSuchElementException" "java/lang/Throwable" "suppressedExceptions" "Ljava/util/List;") ∈ lw_all := lw_g (lw_at lw_m3 236 rfl) rfl
theorem q765 : (Jvm.Cond.lays "java/lang/Throwable" "java/lang/Throwable" "suppressedExceptions" "Ljava/util/List;") ∈ lw_all := lw_g (lw_at lw_m3 237 rfl) rfl
theorem q766 : (Jvm.Cond.lays "java/util/NoSuchElementException" "java/lang/Throwable" "detailMessage" "Ljava/lang/String;") ∈ lw_all := lw_g (lw_at lw_m3 238 rfl) rfl
theorem q767 : (Jvm.Cond.lays "java/lang/Throwable" "java/lang/Throwable" "detailMessage" "Ljava/lang/String;") ∈ lw_all := lw_g (lw_at lw_m3 239 rfl) rfl
theorem q768 : (Jvm.Cond.lays "java/util/NoSuchElementException" "java/lang/Throwable" "backtrace" "Ljava/lang/Object;") ∈ lw_all := lw_g (lw_at lw_m4 0 rfl) rfl
theorem q769 : (Jvm.Cond.lays "java/lang/Throwable" "java/lang/Throwable" "backtrace" "Ljava/lang/Object;") ∈ lw_all := lw_g (lw_at lw_m4 1 rfl) rfl
theorem q771 : (Jvm.Cond.superclass "java/lang/Throwable" "java/lang/Object") ∈ lw_all := lw_g (lw_at lw_m4 3 rfl) rfl
theorem q772 : (Jvm.Cond.instanceMethod ({ cls := "java/lang/Throwable", name := "<init>", desc := "()V" } : Jvm.MethodName)) ∈ lw_all := lw_g (lw_at lw_m4 4 rfl) rfl
theorem q773 : (Jvm.Cond.code ({ cls := "java/lang/Throwable", name := "<init>", desc := "()V" } : Jvm.MethodName) prog_36_method_1_code (1 : Nat) (Option.none : Option Jvm.ClassFile.FieldType)) ∈ lw_all := lw_g (lw_at lw_m4 5 rfl) rfl
theorem q774 : (Jvm.Cond.methodLink "java/lang/Throwable" (1 : Nat) ({ cls := "java/lang/Object", name := "<init>", desc := "()V" } : Jvm.MethodName)) ∈ lw_all := lw_g (lw_at lw_m4 6 rfl) rfl
theorem q775 : (Jvm.Cond.fieldLink "java/lang/Throwable" (13 : Nat) "java/lang/Throwable" "UNASSIGNED_STACK" "[Ljava/lang/StackTraceElement;") ∈ lw_all := lw_g (lw_at lw_m4 7 rfl) rfl
theorem q777 : (Jvm.Cond.fieldLink "java/lang/Throwable" (20 : Nat) "java/lang/Throwable" "SUPPRESSED_SENTINEL" "Ljava/util/List;") ∈ lw_all := lw_g (lw_at lw_m4 9 rfl) rfl
theorem q779 : (Jvm.Cond.methodLink "java/lang/Throwable" (27 : Nat) ({ cls := "java/lang/Throwable", name := "fillInStackTrace", desc := "()Ljava/lang/Throwable;" } : Jvm.MethodName)) ∈ lw_all := lw_g (lw_at lw_m4 11 rfl) rfl
theorem q780 : (Jvm.Cond.instanceMethod ({ cls := "java/lang/Throwable", name := "fillInStackTrace", desc := "()Ljava/lang/Throwable;" } : Jvm.MethodName)) ∈ lw_all := lw_g (lw_at lw_m4 12 rfl) rfl
theorem q783 : (Jvm.Cond.selects "java/lang/IllegalArgumentException" ({ cls := "java/lang/Throwable", name := "fillInStackTrace", desc := "()Ljava/lang/Throwable;" } : Jvm.MethodName) ({ cls := "java/lang/Throwable", name := "fillInStackTrace", desc := "()Ljava/lang/Throwable;" } : Jvm.MethodName)) ∈ lw_all := lw_g (lw_at lw_m4 15 rfl) rfl
theorem q784 : (Jvm.Cond.selects "java/lang/IllegalStateException" ({ cls := "java/lang/Throwable", name := "fillInStackTrace", desc := "()Ljava/lang/Throwable;" } : Jvm.MethodName) ({ cls := "java/lang/Throwable", name := "fillInStackTrace", desc := "()Ljava/lang/Throwable;" } : Jvm.MethodName)) ∈ lw_all := lw_g (lw_at lw_m4 16 rfl) rfl
theorem q785 : (Jvm.Cond.selects "java/lang/IndexOutOfBoundsException" ({ cls := "java/lang/Throwable", name := "fillInStackTrace", desc := "()Ljava/lang/Throwable;" } : Jvm.MethodName) ({ cls := "java/lang/Throwable", name := "fillInStackTrace", desc := "()Ljava/lang/Throwable;" } : Jvm.MethodName)) ∈ lw_all := lw_g (lw_at lw_m4 17 rfl) rfl
theorem q786 : (Jvm.Cond.selects "java/lang/UnsupportedOperationException" ({ cls := "java/lang/Throwable", name := "fillInStackTrace", desc := "()Ljava/lang/Throwable;" } : Jvm.MethodName) ({ cls := "java/lang/Throwable", name := "fillInStackTrace", desc := "()Ljava/lang/Throwable;" } : Jvm.MethodName)) ∈ lw_all := lw_g (lw_at lw_m4 18 rfl) rfl
theorem q788 : (Jvm.Cond.codeSync ({ cls := "java/lang/Throwable", name := "fillInStackTrace", desc := "()Ljava/lang/Throwable;" } : Jvm.MethodName) prog_36_method_18_code (1 : Nat) (Option.some (Jvm.ClassFile.FieldType.object "java/lang/Throwable"))) ∈ lw_all := lw_g (lw_at lw_m4 20 rfl) rfl
theorem q789 : (Jvm.Cond.methodLink "java/lang/Throwable" (202 : Nat) ({ cls := "java/lang/Throwable", name := "fillInStackTrace", desc := "(I)Ljava/lang/Throwable;" } : Jvm.MethodName)) ∈ lw_all := lw_g (lw_at lw_m4 21 rfl) rfl
theorem q791 : (Jvm.Cond.instanceMethod ({ cls := "java/lang/Throwable", name := "fillInStackTrace", desc := "(I)Ljava/lang/Throwable;" } : Jvm.MethodName)) ∈ lw_all := lw_g (lw_at lw_m4 23 rfl) rfl
theorem q793 : (Jvm.Cond.native ({ cls := "java/lang/Throwable", name := "fillInStackTrace", desc := "(I)Ljava/lang/Throwable;" } : Jvm.MethodName)) ∈ lw_all := lw_g (lw_at lw_m4 25 rfl) rfl
theorem q798 : (Jvm.Cond.instanceMethod ({ cls := "java/lang/RuntimeException", name := "<init>", desc := "()V" } : Jvm.MethodName)) ∈ lw_all := lw_g (lw_at lw_m4 30 rfl) rfl
theorem q799 : (Jvm.Cond.code ({ cls := "java/lang/RuntimeException", name := "<init>", desc := "()V" } : Jvm.MethodName) prog_29_method_1_code (1 : Nat) (Option.none : Option Jvm.ClassFile.FieldType)) ∈ lw_all := lw_g (lw_at lw_m4 31 rfl) rfl
theorem q800 : (Jvm.Cond.methodLink "java/lang/RuntimeException" (1 : Nat) ({ cls := "java/lang/Exception", name := "<init>", desc := "()V" } : Jvm.MethodName)) ∈ lw_all := lw_g (lw_at lw_m4 32 rfl) rfl
theorem q801 : (Jvm.Cond.instanceMethod ({ cls := "java/lang/Exception", name := "<init>", desc := "()V" } : Jvm.MethodName)) ∈ lw_all := lw_g (lw_at lw_m4 33 rfl) rfl
theorem q802 : (Jvm.Cond.code ({ cls := "java/lang/Exception", name := "<init>", desc := "()V" } : Jvm.MethodName) prog_18_method_1_code (1 : Nat) (Option.none : Option Jvm.ClassFile.FieldType)) ∈ lw_all := lw_g (lw_at lw_m4 34 rfl) rfl
theorem q803 : (Jvm.Cond.methodLink "java/lang/Exception" (1 : Nat) ({ cls := "java/lang/Throwable", name := "<init>", desc := "()V" } : Jvm.MethodName)) ∈ lw_all := lw_g (lw_at lw_m4 35 rfl) rfl
theorem q804 : (Jvm.Cond.fieldLink "java/lang/Throwable" (198 : Nat) "java/lang/Throwable" "backtrace" "Ljava/lang/Object;") ∈ lw_all := lw_g (lw_at lw_m4 36 rfl) rfl
theorem q805 : (Jvm.Cond.fieldLink "java/lang/Throwable" (31 : Nat) "java/lang/Throwable" "detailMessage" "Ljava/lang/String;") ∈ lw_all := lw_g (lw_at lw_m4 37 rfl) rfl
theorem q806 : (Jvm.Cond.fieldLink "java/lang/Throwable" (7 : Nat) "java/lang/Throwable" "cause" "Ljava/lang/Throwable;") ∈ lw_all := lw_g (lw_at lw_m4 38 rfl) rfl
theorem q807 : (Jvm.Cond.fieldLink "java/lang/Throwable" (17 : Nat) "java/lang/Throwable" "stackTrace" "[Ljava/lang/StackTraceElement;") ∈ lw_all := lw_g (lw_at lw_m4 39 rfl) rfl
theorem q808 : (Jvm.Cond.fieldLink "java/lang/Throwable" (24 : Nat) "java/lang/Throwable" "suppressedExceptions" "Ljava/util/List;") ∈ lw_all := lw_g (lw_at lw_m4 40 rfl) rfl
theorem q1156 : (Jvm.Cond.instantiable "java/lang/IllegalArgumentException" (6 : Nat)) ∈ lw_all := lw_g (lw_at lw_m5 148 rfl) rfl
theorem q1157 : (Jvm.Cond.castable "java/lang/IllegalArgumentException" "java/lang/IllegalArgumentException") ∈ lw_tbl := lw_at lw_m5 149 rfl
theorem q1158 : (Jvm.Cond.selects "java/lang/IllegalArgumentException" ({ cls := "java/lang/Throwable", name := "fillInStackTrace", desc := "(I)Ljava/lang/Throwable;" } : Jvm.MethodName) ({ cls := "java/lang/Throwable", name := "fillInStackTrace", desc := "(I)Ljava/lang/Throwable;" } : Jvm.MethodName)) ∈ lw_all := lw_g (lw_at lw_m5 150 rfl) rfl
theorem q1159 : (Jvm.Cond.lays "java/lang/IllegalArgumentException" "java/lang/Throwable" "cause" "Ljava/lang/Throwable;") ∈ lw_all := lw_g (lw_at lw_m5 151 rfl) rfl
theorem q1160 : (Jvm.Cond.lays "java/lang/IllegalArgumentException" "java/lang/Throwable" "stackTrace" "[Ljava/lang/StackTraceElement;") ∈ lw_all := lw_g (lw_at lw_m5 152 rfl) rfl
theorem q1161 : (Jvm.Cond.lays "java/lang/IllegalArgumentException" "java/lang/Throwable" "suppressedExceptions" "Ljava/util/List;") ∈ lw_all := lw_g (lw_at lw_m5 153 rfl) rfl
theorem q1162 : (Jvm.Cond.lays "java/lang/IllegalArgumentException" "java/lang/Throwable" "detailMessage" "Ljava/lang/String;") ∈ lw_all := lw_g (lw_at lw_m5 154 rfl) rfl
theorem q1163 : (Jvm.Cond.lays "java/lang/IllegalArgumentException" "java/lang/Throwable" "backtrace" "Ljava/lang/Object;") ∈ lw_all := lw_g (lw_at lw_m5 155 rfl) rfl
theorem q1360 : (Jvm.Cond.instanceMethod ({ cls := "java/lang/IllegalArgumentException", name := "<init>", desc := "(Ljava/lang/String;)V" } : Jvm.MethodName)) ∈ lw_all := lw_g (lw_at lw_m6 112 rfl) rfl
theorem q1361 : (Jvm.Cond.code ({ cls := "java/lang/IllegalArgumentException", name := "<init>", desc := "(Ljava/lang/String;)V" } : Jvm.MethodName) prog_19_method_2_code (2 : Nat) (Option.none : Option Jvm.ClassFile.FieldType)) ∈ lw_all := lw_g (lw_at lw_m6 113 rfl) rfl
theorem q1362 : (Jvm.Cond.methodLink "java/lang/IllegalArgumentException" (7 : Nat) ({ cls := "java/lang/RuntimeException", name := "<init>", desc := "(Ljava/lang/String;)V" } : Jvm.MethodName)) ∈ lw_all := lw_g (lw_at lw_m6 114 rfl) rfl
theorem q1363 : (Jvm.Cond.instanceMethod ({ cls := "java/lang/RuntimeException", name := "<init>", desc := "(Ljava/lang/String;)V" } : Jvm.MethodName)) ∈ lw_all := lw_g (lw_at lw_m6 115 rfl) rfl
theorem q1364 : (Jvm.Cond.code ({ cls := "java/lang/RuntimeException", name := "<init>", desc := "(Ljava/lang/String;)V" } : Jvm.MethodName) prog_29_method_2_code (2 : Nat) (Option.none : Option Jvm.ClassFile.FieldType)) ∈ lw_all := lw_g (lw_at lw_m6 116 rfl) rfl
theorem q1365 : (Jvm.Cond.methodLink "java/lang/RuntimeException" (7 : Nat) ({ cls := "java/lang/Exception", name := "<init>", desc := "(Ljava/lang/String;)V" } : Jvm.MethodName)) ∈ lw_all := lw_g (lw_at lw_m6 117 rfl) rfl
theorem q1366 : (Jvm.Cond.instanceMethod ({ cls := "java/lang/Exception", name := "<init>", desc := "(Ljava/lang/String;)V" } : Jvm.MethodName)) ∈ lw_all := lw_g (lw_at lw_m6 118 rfl) rfl
theorem q1367 : (Jvm.Cond.code ({ cls := "java/lang/Exception", name := "<init>", desc := "(Ljava/lang/String;)V" } : Jvm.MethodName) prog_18_method_2_code (2 : Nat) (Option.none : Option Jvm.ClassFile.FieldType)) ∈ lw_all := lw_g (lw_at lw_m6 119 rfl) rfl
theorem q1368 : (Jvm.Cond.methodLink "java/lang/Exception" (7 : Nat) ({ cls := "java/lang/Throwable", name := "<init>", desc := "(Ljava/lang/String;)V" } : Jvm.MethodName)) ∈ lw_all := lw_g (lw_at lw_m6 120 rfl) rfl
theorem q1369 : (Jvm.Cond.instanceMethod ({ cls := "java/lang/Throwable", name := "<init>", desc := "(Ljava/lang/String;)V" } : Jvm.MethodName)) ∈ lw_all := lw_g (lw_at lw_m6 121 rfl) rfl
theorem q1370 : (Jvm.Cond.code ({ cls := "java/lang/Throwable", name := "<init>", desc := "(Ljava/lang/String;)V" } : Jvm.MethodName) prog_36_method_2_code (2 : Nat) (Option.none : Option Jvm.ClassFile.FieldType)) ∈ lw_all := lw_g (lw_at lw_m6 122 rfl) rfl
theorem q1920 : (Jvm.Cond.instantiable "java/lang/IndexOutOfBoundsException" (6 : Nat)) ∈ lw_all := lw_g (lw_at lw_m8 192 rfl) rfl
theorem q1921 : (Jvm.Cond.castable "java/lang/IndexOutOfBoundsException" "java/lang/IndexOutOfBoundsException") ∈ lw_tbl := lw_at lw_m8 193 rfl
theorem q1922 : (Jvm.Cond.selects "java/lang/IndexOutOfBoundsException" ({ cls := "java/lang/Throwable", name := "fillInStackTrace", desc := "(I)Ljava/lang/Throwable;" } : Jvm.MethodName) ({ cls := "java/lang/Throwable", name := "fillInStackTrace", desc := "(I)Ljava/lang/Throwable;" } : Jvm.MethodName)) ∈ lw_all := lw_g (lw_at lw_m8 194 rfl) rfl
theorem q1923 : (Jvm.Cond.lays "java/lang/IndexOutOfBoundsException" "java/lang/Throwable" "cause" "Ljava/lang/Throwable;") ∈ lw_all := lw_g (lw_at lw_m8 195 rfl) rfl
theorem q1924 : (Jvm.Cond.lays "java/lang/IndexOutOfBoundsException" "java/lang/Throwable" "stackTrace" "[Ljava/lang/StackTraceElement;") ∈ lw_all := lw_g (lw_at lw_m8 196 rfl) rfl
theorem q1925 : (Jvm.Cond.lays "java/lang/IndexOutOfBoundsException" "java/lang/Throwable" "suppressedExceptions" "Ljava/util/List;") ∈ lw_all := lw_g (lw_at lw_m8 197 rfl) rfl
theorem q1926 : (Jvm.Cond.lays "java/lang/IndexOutOfBoundsException" "java/lang/Throwable" "detailMessage" "Ljava/lang/String;") ∈ lw_all := lw_g (lw_at lw_m8 198 rfl) rfl
theorem q1927 : (Jvm.Cond.lays "java/lang/IndexOutOfBoundsException" "java/lang/Throwable" "backtrace" "Ljava/lang/Object;") ∈ lw_all := lw_g (lw_at lw_m8 199 rfl) rfl
theorem q2087 : (Jvm.Cond.instantiable "java/lang/IllegalStateException" (6 : Nat)) ∈ lw_all := lw_g (lw_at lw_m9 119 rfl) rfl
theorem q2088 : (Jvm.Cond.castable "java/lang/IllegalStateException" "java/lang/IllegalStateException") ∈ lw_tbl := lw_at lw_m9 120 rfl
theorem q2089 : (Jvm.Cond.selects "java/lang/IllegalStateException" ({ cls := "java/lang/Throwable", name := "fillInStackTrace", desc := "(I)Ljava/lang/Throwable;" } : Jvm.MethodName) ({ cls := "java/lang/Throwable", name := "fillInStackTrace", desc := "(I)Ljava/lang/Throwable;" } : Jvm.MethodName)) ∈ lw_all := lw_g (lw_at lw_m9 121 rfl) rfl
theorem q2090 : (Jvm.Cond.lays "java/lang/IllegalStateException" "java/lang/Throwable" "cause" "Ljava/lang/Throwable;") ∈ lw_all := lw_g (lw_at lw_m9 122 rfl) rfl
theorem q2091 : (Jvm.Cond.lays "java/lang/IllegalStateException" "java/lang/Throwable" "stackTrace" "[Ljava/lang/StackTraceElement;") ∈ lw_all := lw_g (lw_at lw_m9 123 rfl) rfl
theorem q2092 : (Jvm.Cond.lays "java/lang/IllegalStateException" "java/lang/Throwable" "suppressedExceptions" "Ljava/util/List;") ∈ lw_all := lw_g (lw_at lw_m9 124 rfl) rfl
theorem q2093 : (Jvm.Cond.lays "java/lang/IllegalStateException" "java/lang/Throwable" "detailMessage" "Ljava/lang/String;") ∈ lw_all := lw_g (lw_at lw_m9 125 rfl) rfl
theorem q2094 : (Jvm.Cond.lays "java/lang/IllegalStateException" "java/lang/Throwable" "backtrace" "Ljava/lang/Object;") ∈ lw_all := lw_g (lw_at lw_m9 126 rfl) rfl
theorem q2239 : (Jvm.Cond.instanceMethod ({ cls := "java/lang/IllegalStateException", name := "<init>", desc := "(Ljava/lang/String;)V" } : Jvm.MethodName)) ∈ lw_all := lw_g (lw_at lw_m10 31 rfl) rfl
theorem q2240 : (Jvm.Cond.code ({ cls := "java/lang/IllegalStateException", name := "<init>", desc := "(Ljava/lang/String;)V" } : Jvm.MethodName) prog_20_method_2_code (2 : Nat) (Option.none : Option Jvm.ClassFile.FieldType)) ∈ lw_all := lw_g (lw_at lw_m10 32 rfl) rfl
theorem q2241 : (Jvm.Cond.methodLink "java/lang/IllegalStateException" (7 : Nat) ({ cls := "java/lang/RuntimeException", name := "<init>", desc := "(Ljava/lang/String;)V" } : Jvm.MethodName)) ∈ lw_all := lw_g (lw_at lw_m10 33 rfl) rfl
theorem q2371 : (Jvm.Cond.methodLink "BlockGraph" (76 : Nat) ({ cls := "java/lang/IllegalStateException", name := "<init>", desc := "(Ljava/lang/String;)V" } : Jvm.MethodName)) ∈ lw_all := lw_g (lw_at lw_m10 163 rfl) rfl
theorem q2393 : (Jvm.Cond.methodLink "BlockGraph" (85 : Nat) ({ cls := "java/lang/IllegalArgumentException", name := "<init>", desc := "(Ljava/lang/String;)V" } : Jvm.MethodName)) ∈ lw_all := lw_g (lw_at lw_m10 185 rfl) rfl
theorem q2403 : (Jvm.Cond.instantiable "java/lang/UnsupportedOperationException" (6 : Nat)) ∈ lw_all := lw_g (lw_at lw_m10 195 rfl) rfl
theorem q2404 : (Jvm.Cond.castable "java/lang/UnsupportedOperationException" "java/lang/UnsupportedOperationException") ∈ lw_tbl := lw_at lw_m10 196 rfl
theorem q2405 : (Jvm.Cond.selects "java/lang/UnsupportedOperationException" ({ cls := "java/lang/Throwable", name := "fillInStackTrace", desc := "(I)Ljava/lang/Throwable;" } : Jvm.MethodName) ({ cls := "java/lang/Throwable", name := "fillInStackTrace", desc := "(I)Ljava/lang/Throwable;" } : Jvm.MethodName)) ∈ lw_all := lw_g (lw_at lw_m10 197 rfl) rfl
theorem q2406 : (Jvm.Cond.lays "java/lang/UnsupportedOperationException" "java/lang/Throwable" "cause" "Ljava/lang/Throwable;") ∈ lw_all := lw_g (lw_at lw_m10 198 rfl) rfl
theorem q2407 : (Jvm.Cond.lays "java/lang/UnsupportedOperationException" "java/lang/Throwable" "stackTrace" "[Ljava/lang/StackTraceElement;") ∈ lw_all := lw_g (lw_at lw_m10 199 rfl) rfl
theorem q2408 : (Jvm.Cond.lays "java/lang/UnsupportedOperationException" "java/lang/Throwable" "suppressedExceptions" "Ljava/util/List;") ∈ lw_all := lw_g (lw_at lw_m10 200 rfl) rfl
theorem q2409 : (Jvm.Cond.lays "java/lang/UnsupportedOperationException" "java/lang/Throwable" "detailMessage" "Ljava/lang/String;") ∈ lw_all := lw_g (lw_at lw_m10 201 rfl) rfl
theorem q2410 : (Jvm.Cond.lays "java/lang/UnsupportedOperationException" "java/lang/Throwable" "backtrace" "Ljava/lang/Object;") ∈ lw_all := lw_g (lw_at lw_m10 202 rfl) rfl
theorem q2412 : (Jvm.Cond.methodLink "BlockGraph" (90 : Nat) ({ cls := "java/lang/UnsupportedOperationException", name := "<init>", desc := "(Ljava/lang/String;)V" } : Jvm.MethodName)) ∈ lw_all := lw_g (lw_at lw_m10 204 rfl) rfl
theorem q2413 : (Jvm.Cond.instanceMethod ({ cls := "java/lang/UnsupportedOperationException", name := "<init>", desc := "(Ljava/lang/String;)V" } : Jvm.MethodName)) ∈ lw_all := lw_g (lw_at lw_m10 205 rfl) rfl
theorem q2414 : (Jvm.Cond.code ({ cls := "java/lang/UnsupportedOperationException", name := "<init>", desc := "(Ljava/lang/String;)V" } : Jvm.MethodName) prog_37_method_2_code (2 : Nat) (Option.none : Option Jvm.ClassFile.FieldType)) ∈ lw_all := lw_g (lw_at lw_m10 206 rfl) rfl
theorem q2415 : (Jvm.Cond.methodLink "java/lang/UnsupportedOperationException" (7 : Nat) ({ cls := "java/lang/RuntimeException", name := "<init>", desc := "(Ljava/lang/String;)V" } : Jvm.MethodName)) ∈ lw_all := lw_g (lw_at lw_m10 207 rfl) rfl
theorem q2483 : (Jvm.Cond.methodLink "BlockGraph" (233 : Nat) ({ cls := "java/util/NoSuchElementException", name := "<init>", desc := "(Ljava/lang/String;)V" } : Jvm.MethodName)) ∈ lw_all := lw_g (lw_at lw_m11 35 rfl) rfl
theorem q2484 : (Jvm.Cond.instanceMethod ({ cls := "java/util/NoSuchElementException", name := "<init>", desc := "(Ljava/lang/String;)V" } : Jvm.MethodName)) ∈ lw_all := lw_g (lw_at lw_m11 36 rfl) rfl
theorem q2485 : (Jvm.Cond.code ({ cls := "java/util/NoSuchElementException", name := "<init>", desc := "(Ljava/lang/String;)V" } : Jvm.MethodName) prog_71_method_4_code (2 : Nat) (Option.none : Option Jvm.ClassFile.FieldType)) ∈ lw_all := lw_g (lw_at lw_m11 37 rfl) rfl
theorem q2486 : (Jvm.Cond.methodLink "java/util/NoSuchElementException" (13 : Nat) ({ cls := "java/lang/RuntimeException", name := "<init>", desc := "(Ljava/lang/String;)V" } : Jvm.MethodName)) ∈ lw_all := lw_g (lw_at lw_m11 38 rfl) rfl
theorem q2854 : (Jvm.Cond.methodLink "BlockGraph" (307 : Nat) ({ cls := "java/lang/IndexOutOfBoundsException", name := "<init>", desc := "()V" } : Jvm.MethodName)) ∈ lw_all := lw_g (lw_at lw_m12 166 rfl) rfl
theorem q2855 : (Jvm.Cond.instanceMethod ({ cls := "java/lang/IndexOutOfBoundsException", name := "<init>", desc := "()V" } : Jvm.MethodName)) ∈ lw_all := lw_g (lw_at lw_m12 167 rfl) rfl
theorem q2856 : (Jvm.Cond.code ({ cls := "java/lang/IndexOutOfBoundsException", name := "<init>", desc := "()V" } : Jvm.MethodName) prog_21_method_1_code (1 : Nat) (Option.none : Option Jvm.ClassFile.FieldType)) ∈ lw_all := lw_g (lw_at lw_m12 168 rfl) rfl
theorem q2857 : (Jvm.Cond.methodLink "java/lang/IndexOutOfBoundsException" (1 : Nat) ({ cls := "java/lang/RuntimeException", name := "<init>", desc := "()V" } : Jvm.MethodName)) ∈ lw_all := lw_g (lw_at lw_m12 169 rfl) rfl
/-! ===== the throws of this program ===== -/
section Throws2
variable {C : Cx} {G : Gx} {cc : ByteArray} {own nm : String} {d kc ks pc : Nat} {lv : Lv} {st : List Sv} {M : Mem} {k n mc ms : Nat} {post : Option Sv → Mem → Prop} {xp : String → Mem → Prop}
theorem g_throw0 (hC : Ok C G cc own nm d kc ks) (hX : Xt C G mc ms xp) (hTh : Thx G) {cls : String} {names : List String} {ik ic : Nat} (hcls : Bundle.fit cls = true) (hnames : ∀ n ∈ names, Bundle.fit n = true) (hk : Cond.classLink own ik cls ∈ lw_all) (hini : Cond.initialized cls ∈ lw_all) (hat : ∀ w ∈ vx_at0 own ic cls names, okW w)
    (d0 : decode cc pc = .ok (.new ik, 3)) (d3 : decode cc (pc + 3) = .ok (.dup, 1)) (d4 : decode cc (pc + 4) = .ok (.invokespecial ic, 3)) (d7 : decode cc (pc + 7) = .ok (.athrow, 1))
    (hnl : names.length ≤ 4) (hd : 8 ≤ d) (hroom : Nat.ble (st.map catS).sum 8 = true) (hc : k + 1 ≤ mc) (hs : n + 6 ≤ ms) (hkc : mc ≤ kc) (hks : ms ≤ ks) (hp : xp cls M) : Go C pc lv st M k n := by
  obtain ⟨p, l, e, R, s, m, args, below, meth, c, Q, s0, D, nL⟩ := C
  obtain ⟨hx, hb, hml, hown, hts, hW, hB, -, hf, hlo, hkc', hks', hlk, rfl⟩ := hC
  intro H locs ls hR hO hl hv T hT X
  have hroom := Nat.le_of_ble_eq_true hroom
  have hfr := vx_frame X.same
  have hsO : Ol s0 s.heap := hX.1.2
  obtain ⟨t, a, b⟩ := vx_throw0 (Qc := fun _ _ _ _ => False) (XC := XCof (l, s0, D) xp) (mc := mc) (ms := ms) (free := fun q => s0.heap.size ≤ q) (A := A0 (l, s0, D)) (rest := st.map toV) hx hb hTh.2.2 hown hcls hnames (hts _ hk) (hts _ hini)
    (fun w hw => ((hat w hw).ok hB hW hts).1) (fun w hw => by
      rcases List.mem_cons.mp hw with rfl | hw
      · exact (okW.ok hB hW hts (Or.inl hk)).2
      · rcases List.mem_cons.mp hw with rfl | hw
        · exact (okW.ok hB hW hts (Or.inl hini)).2
        · exact ((hat w hw).ok hB hW hts).2)
    (vx_Zq.moved hW.alike (vx_Zq.kept hTh.1 (fun q hq _ => hsO.2 q hq))) (vx_Zq.moved hW.alike (vx_Zq.kept hTh.2.1 (fun q hq _ => hsO.2 q hq)))
    ⟨by rw [← hT]; exact hfr.1, fun q hq hA => by rw [hO.2 q (Nat.not_le.mp hA), hsO.2 q (Nat.not_le.mp hA)], hl⟩ (by rw [hml]; exact hv.size) d0 d3 d4 d7 (fun x hx => (hX.1.1 x hx).elim) (by omega) (by rw [cat_sum]; omega) (by omega) (by omega) hlk
    (fun t _ hz hq => ⟨M, hp, hR.grown hz hq, hO.grown hz hq⟩) hl hc hs T hT X
  exact ⟨t, a, hX.2 t b⟩
theorem g_throwX (hC : Ok C G cc own nm d kc ks) (hX : Xt C G mc ms xp) (hTh : Thx G) {cls text : String} {names : List String} {ik is ic ix : Nat} {rx : ByteArray} (x0 : decode rx 0 = .ok (.aload_n 0, 1)) (x1 : decode rx 1 = .ok (.aload_n 1, 1)) (x2 : decode rx 2 = .ok (.invokespecial ix, 3)) (x5 : decode rx 5 = .ok (.return_, 1)) (hstr : ∃ sa, vk_R own is text sa G.2.1) (hcls : Bundle.fit cls = true) (hnames : ∀ n ∈ names, Bundle.fit n = true) (hk : Cond.classLink own ik cls ∈ lw_all) (hini : Cond.initialized cls ∈ lw_all) (hat : ∀ w ∈ vy_at own ic cls ix rx names, okW w)
    (d0 : decode cc pc = .ok (.new ik, 3)) (d3 : decode cc (pc + 3) = .ok (.dup, 1)) (d4 : decode cc (pc + 4) = .ok (.ldc is, 2)) (d6 : decode cc (pc + 6) = .ok (.invokespecial ic, 3)) (d9 : decode cc (pc + 9) = .ok (.athrow, 1))
    (hnl : names.length ≤ 4) (hd : 8 ≤ d) (hroom : Nat.ble (st.map catS).sum 8 = true) (hc : k + 1 ≤ mc) (hs : n + 6 ≤ ms) (hkc : mc ≤ kc) (hks : ms ≤ ks) (hp : xp cls M) : Go C pc lv st M k n := by
  obtain ⟨p, l, e, R, s, m, args, below, meth, c, Q, s0, D, nL⟩ := C
  obtain ⟨hx, hb, hml, hown, hts, hW, hB, -, hf, hlo, hkc', hks', hlk, rfl⟩ := hC
  obtain ⟨sa, hsa⟩ := hstr
  intro H locs ls hR hO hl hv T hT X
  have hroom := Nat.le_of_ble_eq_true hroom
  have hfr := vx_frame X.same
  have hsO : Ol s0 s.heap := hX.1.2
  obtain ⟨t, a, b⟩ := vy_throwS (Qc := fun _ _ _ _ => False) (XC := XCof (l, s0, D) xp) (mc := mc) (ms := ms) (free := fun q => s0.heap.size ≤ q) (A := A0 (l, s0, D)) (rest := st.map toV) hx hb hTh.2.2 x0 x1 x2 x5 hown hcls hnames (hts _ hk) (hts _ hini) (vk_R.warm hW hsa)
    (fun w hw => ((hat w hw).ok hB hW hts).1) (fun w hw => by
      rcases List.mem_cons.mp hw with rfl | hw
      · exact (okW.ok hB hW hts (Or.inl hk)).2
      · rcases List.mem_cons.mp hw with rfl | hw
        · exact (okW.ok hB hW hts (Or.inl hini)).2
        · exact ((hat w hw).ok hB hW hts).2)
    (vx_Zq.moved hW.alike (vx_Zq.kept hTh.1 (fun q hq _ => hsO.2 q hq))) (vx_Zq.moved hW.alike (vx_Zq.kept hTh.2.1 (fun q hq _ => hsO.2 q hq)))
    ⟨by rw [← hT]; exact hfr.1, fun q hq hA => by rw [hO.2 q (Nat.not_le.mp hA), hsO.2 q (Nat.not_le.mp hA)], hl⟩ (by rw [hml]; exact hv.size) d0 d3 d4 d6 d9 (fun x hx => (hX.1.1 x hx).elim) (by omega) (by rw [cat_sum]; omega) (by omega) (by omega) hlk
    (fun t _ hz hq => ⟨M, hp, hR.grown hz hq, hO.grown hz hq⟩) hl hc hs T hT X
  exact ⟨t, a, hX.2 t b⟩
end Throws2
theorem hat_ise : ∀ w ∈ vx_atS "BlockGraph" 76 "java/lang/IllegalStateException" ["java/lang/RuntimeException", "java/lang/Exception"], okW w := by
  have h : ∀ w ∈ Bundle.ownAtoms "BlockGraph" 76 "java/lang/IllegalStateException" ["java/lang/RuntimeException", "java/lang/Exception"], vx_no w = true → okW w := by
    simp only [Bundle.ownAtoms, Bundle.throwableAtoms, Bundle.throwableSAtoms, Bundle.chainSAtoms, Bundle.passSAtoms, List.cons_append, List.nil_append, List.forall_mem_cons]
    exact ⟨fun _ => Or.inl q80, fun _ => Or.inl q771, fun _ => Or.inl q780, fun _ => Or.inl q788, fun _ => Or.inl q791, fun _ => Or.inl q793, fun _ => Or.inl q772, fun _ => Or.inl q773, fun _ => Or.inl q123, fun _ => Or.inl q124, fun _ => Or.inl q774, fun _ => Or.inl q779, fun _ => Or.inl q789, fun _ => Or.inl q806, fun _ => Or.inl q761, fun _ => Or.inl q807, fun _ => Or.inl q763, fun _ => Or.inl q808, fun _ => Or.inl q765, fun _ => Or.inl q775, fun h => absurd h (by simp [vx_no]), fun _ => Or.inl q777, fun h => absurd h (by simp [vx_no]), fun _ => Or.inl q767, fun _ => Or.inl q1369, fun _ => Or.inl q1370, fun _ => Or.inl q805, fun _ => Or.inl q767, fun _ => Or.inl q2239, fun _ => Or.inl q2240, fun _ => Or.inl q2241, fun _ => Or.inl q1363, fun _ => Or.inr (Or.inr ⟨_, rfl, q753⟩), fun _ => Or.inl q1363, fun _ => Or.inl q1364, fun _ => Or.inl q1365, fun _ => Or.inl q1366, fun _ => Or.inr (Or.inr ⟨_, rfl, q755⟩), fun _ => Or.inl q1366, fun _ => Or.inl q1367, fun _ => Or.inl q1368, fun _ => Or.inl q1369, fun _ => Or.inr (Or.inr ⟨_, rfl, q757⟩), fun _ => Or.inl q2371, fun _ => Or.inl q2087, fun _ => Or.inr (Or.inl ⟨_, _, rfl, q2088⟩), fun _ => Or.inl q2089, fun _ => Or.inl q784, fun _ => Or.inl q2090, fun _ => Or.inl q2091, fun _ => Or.inl q2092, fun _ => Or.inl q2093, fun h => absurd h (by simp [vx_no]), fun h => absurd h (by simp [vx_no]), fun _ => Or.inl q804, fun _ => Or.inl q769, fun _ => Or.inl q2094, fun _ h => by cases h⟩
  intro w hw
  obtain ⟨h1, h2⟩ := List.mem_filter.mp hw
  exact h w h1 h2
theorem hat_iae : ∀ w ∈ vx_atS "BlockGraph" 85 "java/lang/IllegalArgumentException" ["java/lang/RuntimeException", "java/lang/Exception"], okW w := by
  have h : ∀ w ∈ Bundle.ownAtoms "BlockGraph" 85 "java/lang/IllegalArgumentException" ["java/lang/RuntimeException", "java/lang/Exception"], vx_no w = true → okW w := by
    simp only [Bundle.ownAtoms, Bundle.throwableAtoms, Bundle.throwableSAtoms, Bundle.chainSAtoms, Bundle.passSAtoms, List.cons_append, List.nil_append, List.forall_mem_cons]
    exact ⟨fun _ => Or.inl q80, fun _ => Or.inl q771, fun _ => Or.inl q780, fun _ => Or.inl q788, fun _ => Or.inl q791, fun _ => Or.inl q793, fun _ => Or.inl q772, fun _ => Or.inl q773, fun _ => Or.inl q123, fun _ => Or.inl q124, fun _ => Or.inl q774, fun _ => Or.inl q779, fun _ => Or.inl q789, fun _ => Or.inl q806, fun _ => Or.inl q761, fun _ => Or.inl q807, fun _ => Or.inl q763, fun _ => Or.inl q808, fun _ => Or.inl q765, fun _ => Or.inl q775, fun h => absurd h (by simp [vx_no]), fun _ => Or.inl q777, fun h => absurd h (by simp [vx_no]), fun _ => Or.inl q767, fun _ => Or.inl q1369, fun _ => Or.inl q1370, fun _ => Or.inl q805, fun _ => Or.inl q767, fun _ => Or.inl q1360, fun _ => Or.inl q1361, fun _ => Or.inl q1362, fun _ => Or.inl q1363, fun _ => Or.inr (Or.inr ⟨_, rfl, q753⟩), fun _ => Or.inl q1363, fun _ => Or.inl q1364, fun _ => Or.inl q1365, fun _ => Or.inl q1366, fun _ => Or.inr (Or.inr ⟨_, rfl, q755⟩), fun _ => Or.inl q1366, fun _ => Or.inl q1367, fun _ => Or.inl q1368, fun _ => Or.inl q1369, fun _ => Or.inr (Or.inr ⟨_, rfl, q757⟩), fun _ => Or.inl q2393, fun _ => Or.inl q1156, fun _ => Or.inr (Or.inl ⟨_, _, rfl, q1157⟩), fun _ => Or.inl q1158, fun _ => Or.inl q783, fun _ => Or.inl q1159, fun _ => Or.inl q1160, fun _ => Or.inl q1161, fun _ => Or.inl q1162, fun h => absurd h (by simp [vx_no]), fun h => absurd h (by simp [vx_no]), fun _ => Or.inl q804, fun _ => Or.inl q769, fun _ => Or.inl q1163, fun _ h => by cases h⟩
  intro w hw
  obtain ⟨h1, h2⟩ := List.mem_filter.mp hw
  exact h w h1 h2
theorem hat_uoe : ∀ w ∈ vx_atS "BlockGraph" 90 "java/lang/UnsupportedOperationException" ["java/lang/RuntimeException", "java/lang/Exception"], okW w := by
  have h : ∀ w ∈ Bundle.ownAtoms "BlockGraph" 90 "java/lang/UnsupportedOperationException" ["java/lang/RuntimeException", "java/lang/Exception"], vx_no w = true → okW w := by
    simp only [Bundle.ownAtoms, Bundle.throwableAtoms, Bundle.throwableSAtoms, Bundle.chainSAtoms, Bundle.passSAtoms, List.cons_append, List.nil_append, List.forall_mem_cons]
    exact ⟨fun _ => Or.inl q80, fun _ => Or.inl q771, fun _ => Or.inl q780, fun _ => Or.inl q788, fun _ => Or.inl q791, fun _ => Or.inl q793, fun _ => Or.inl q772, fun _ => Or.inl q773, fun _ => Or.inl q123, fun _ => Or.inl q124, fun _ => Or.inl q774, fun _ => Or.inl q779, fun _ => Or.inl q789, fun _ => Or.inl q806, fun _ => Or.inl q761, fun _ => Or.inl q807, fun _ => Or.inl q763, fun _ => Or.inl q808, fun _ => Or.inl q765, fun _ => Or.inl q775, fun h => absurd h (by simp [vx_no]), fun _ => Or.inl q777, fun h => absurd h (by simp [vx_no]), fun _ => Or.inl q767, fun _ => Or.inl q1369, fun _ => Or.inl q1370, fun _ => Or.inl q805, fun _ => Or.inl q767, fun _ => Or.inl q2413, fun _ => Or.inl q2414, fun _ => Or.inl q2415, fun _ => Or.inl q1363, fun _ => Or.inr (Or.inr ⟨_, rfl, q753⟩), fun _ => Or.inl q1363, fun _ => Or.inl q1364, fun _ => Or.inl q1365, fun _ => Or.inl q1366, fun _ => Or.inr (Or.inr ⟨_, rfl, q755⟩), fun _ => Or.inl q1366, fun _ => Or.inl q1367, fun _ => Or.inl q1368, fun _ => Or.inl q1369, fun _ => Or.inr (Or.inr ⟨_, rfl, q757⟩), fun _ => Or.inl q2412, fun _ => Or.inl q2403, fun _ => Or.inr (Or.inl ⟨_, _, rfl, q2404⟩), fun _ => Or.inl q2405, fun _ => Or.inl q786, fun _ => Or.inl q2406, fun _ => Or.inl q2407, fun _ => Or.inl q2408, fun _ => Or.inl q2409, fun h => absurd h (by simp [vx_no]), fun h => absurd h (by simp [vx_no]), fun _ => Or.inl q804, fun _ => Or.inl q769, fun _ => Or.inl q2410, fun _ h => by cases h⟩
  intro w hw
  obtain ⟨h1, h2⟩ := List.mem_filter.mp hw
  exact h w h1 h2
theorem hat_nse : ∀ w ∈ vy_at "BlockGraph" 233 "java/util/NoSuchElementException" 13 prog_71_method_4_code ["java/lang/RuntimeException", "java/lang/Exception"], okW w := by
  have h : ∀ w ∈ vy_own "BlockGraph" 233 "java/util/NoSuchElementException" 13 prog_71_method_4_code ["java/lang/RuntimeException", "java/lang/Exception"], vx_no w = true → okW w := by
    simp only [vy_own, Bundle.throwableAtoms, Bundle.throwableSAtoms, vy_chA, Bundle.chainSAtoms, Bundle.passSAtoms, List.cons_append, List.nil_append, List.forall_mem_cons]
    exact ⟨fun _ => Or.inl q80, fun _ => Or.inl q771, fun _ => Or.inl q780, fun _ => Or.inl q788, fun _ => Or.inl q791, fun _ => Or.inl q793, fun _ => Or.inl q772, fun _ => Or.inl q773, fun _ => Or.inl q123, fun _ => Or.inl q124, fun _ => Or.inl q774, fun _ => Or.inl q779, fun _ => Or.inl q789, fun _ => Or.inl q806, fun _ => Or.inl q761, fun _ => Or.inl q807, fun _ => Or.inl q763, fun _ => Or.inl q808, fun _ => Or.inl q765, fun _ => Or.inl q775, fun h => absurd h (by simp [vx_no]), fun _ => Or.inl q777, fun h => absurd h (by simp [vx_no]), fun _ => Or.inl q767, fun _ => Or.inl q1369, fun _ => Or.inl q1370, fun _ => Or.inl q805, fun _ => Or.inl q767, fun _ => Or.inl q2484, fun _ => Or.inl q2485, fun _ => Or.inl q2486, fun _ => Or.inl q1363, fun _ => Or.inr (Or.inr ⟨_, rfl, q753⟩), fun _ => Or.inl q1363, fun _ => Or.inl q1364, fun _ => Or.inl q1365, fun _ => Or.inl q1366, fun _ => Or.inr (Or.inr ⟨_, rfl, q755⟩), fun _ => Or.inl q1366, fun _ => Or.inl q1367, fun _ => Or.inl q1368, fun _ => Or.inl q1369, fun _ => Or.inr (Or.inr ⟨_, rfl, q757⟩), fun _ => Or.inl q2483, fun _ => Or.inl q750, fun _ => Or.inr (Or.inl ⟨_, _, rfl, q751⟩), fun _ => Or.inl q758, fun _ => Or.inl q759, fun _ => Or.inl q760, fun _ => Or.inl q762, fun _ => Or.inl q764, fun _ => Or.inl q766, fun h => absurd h (by simp [vx_no]), fun h => absurd h (by simp [vx_no]), fun _ => Or.inl q804, fun _ => Or.inl q769, fun _ => Or.inl q768, fun _ h => by cases h⟩
  intro w hw
  obtain ⟨h1, h2⟩ := List.mem_filter.mp hw
  exact h w h1 h2
theorem hat_ioe : ∀ w ∈ vx_at0 "BlockGraph" 307 "java/lang/IndexOutOfBoundsException" ["java/lang/RuntimeException", "java/lang/Exception"], okW w := by
  have h : ∀ w ∈ Bundle.ownAtoms0 "BlockGraph" 307 "java/lang/IndexOutOfBoundsException" ["java/lang/RuntimeException", "java/lang/Exception"], vx_no w = true → okW w := by
    simp only [Bundle.ownAtoms0, Bundle.throwableAtoms, Bundle.chain0Atoms, Bundle.passAtoms, List.cons_append, List.nil_append, List.forall_mem_cons]
    exact ⟨fun _ => Or.inl q80, fun _ => Or.inl q771, fun _ => Or.inl q780, fun _ => Or.inl q788, fun _ => Or.inl q791, fun _ => Or.inl q793, fun _ => Or.inl q772, fun _ => Or.inl q773, fun _ => Or.inl q123, fun _ => Or.inl q124, fun _ => Or.inl q774, fun _ => Or.inl q779, fun _ => Or.inl q789, fun _ => Or.inl q806, fun _ => Or.inl q761, fun _ => Or.inl q807, fun _ => Or.inl q763, fun _ => Or.inl q808, fun _ => Or.inl q765, fun _ => Or.inl q775, fun h => absurd h (by simp [vx_no]), fun _ => Or.inl q777, fun h => absurd h (by simp [vx_no]), fun _ => Or.inl q767, fun _ => Or.inl q2855, fun _ => Or.inl q2856, fun _ => Or.inl q2857, fun _ => Or.inl q798, fun _ => Or.inr (Or.inr ⟨_, rfl, q752⟩), fun _ => Or.inl q798, fun _ => Or.inl q799, fun _ => Or.inl q800, fun _ => Or.inl q801, fun _ => Or.inr (Or.inr ⟨_, rfl, q754⟩), fun _ => Or.inl q801, fun _ => Or.inl q802, fun _ => Or.inl q803, fun _ => Or.inl q772, fun _ => Or.inr (Or.inr ⟨_, rfl, q756⟩), fun _ => Or.inl q2854, fun _ => Or.inl q1920, fun _ => Or.inr (Or.inl ⟨_, _, rfl, q1921⟩), fun _ => Or.inl q1922, fun _ => Or.inl q785, fun _ => Or.inl q1923, fun _ => Or.inl q1924, fun _ => Or.inl q1925, fun _ => Or.inl q1926, fun h => absurd h (by simp [vx_no]), fun h => absurd h (by simp [vx_no]), fun _ => Or.inl q804, fun _ => Or.inl q769, fun _ => Or.inl q1927, fun _ h => by cases h⟩
  intro w hw
  obtain ⟨h1, h2⟩ := List.mem_filter.mp hw
  exact h w h1 h2

