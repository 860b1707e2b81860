set_option maxRecDepth 100000
theorem q60 : (Jvm.Cond.initialized "java/lang/Throwable") ∈ lw_all := lw_g (lw_at lw_m1 3 rfl) rfl
theorem q201 : (Jvm.Cond.instanceMethod ({ cls := "java/lang/Throwable", name := "<init>", desc := "(Ljava/lang/String;)V" } : Jvm.MethodName)) ∈ lw_all := lw_g (lw_at lw_m1 144 rfl) rfl
theorem q202 : (Jvm.Cond.code ({ cls := "java/lang/Throwable", name := "<init>", desc := "(Ljava/lang/String;)V" } : Jvm.MethodName) prog_22_method_2_code (2 : Nat) (Option.none : Option Jvm.ClassFile.FieldType)) ∈ lw_all := lw_g (lw_at lw_m1 145 rfl) rfl
theorem q203 : (Jvm.Cond.methodLink "java/lang/Throwable" (1 : Nat) ({ cls := "java/lang/Object", name := "<init>", desc := "()V" } : Jvm.MethodName)) ∈ lw_all := lw_g (lw_at lw_m1 146 rfl) rfl
theorem q204 : (Jvm.Cond.fieldLink "java/lang/Throwable" (13 : Nat) "java/lang/Throwable" "UNASSIGNED_STACK" "[Ljava/lang/StackTraceElement;") ∈ lw_all := lw_g (lw_at lw_m1 147 rfl) rfl
theorem q205 : (Jvm.Cond.laysStatic "java/lang/Throwable" "UNASSIGNED_STACK" "[Ljava/lang/StackTraceElement;") ∈ lw_tbl := lw_at lw_m1 148 rfl
theorem q206 : (Jvm.Cond.fieldLink "java/lang/Throwable" (20 : Nat) "java/lang/Throwable" "SUPPRESSED_SENTINEL" "Ljava/util/List;") ∈ lw_all := lw_g (lw_at lw_m1 149 rfl) rfl
theorem q207 : (Jvm.Cond.laysStatic "java/lang/Throwable" "SUPPRESSED_SENTINEL" "Ljava/util/List;") ∈ lw_tbl := lw_at lw_m1 150 rfl
theorem q208 : (Jvm.Cond.methodLink "java/lang/Throwable" (27 : Nat) ({ cls := "java/lang/Throwable", name := "fillInStackTrace", desc := "()Ljava/lang/Throwable;" } : Jvm.MethodName)) ∈ lw_all := lw_g (lw_at lw_m1 151 rfl) rfl
theorem q209 : (Jvm.Cond.instanceMethod ({ cls := "java/lang/Throwable", name := "fillInStackTrace", desc := "()Ljava/lang/Throwable;" } : Jvm.MethodName)) ∈ lw_all := lw_g (lw_at lw_m1 152 rfl) rfl
theorem q210 : (Jvm.Cond.sameMethod "java/lang/Throwable" "java/lang/Throwable" "fillInStackTrace" "()Ljava/lang/Throwable;") ∈ lw_all := lw_g (lw_at lw_m1 153 rfl) rfl
theorem q226 : (Jvm.Cond.declares ({ cls := "java/lang/Throwable", name := "fillInStackTrace", desc := "()Ljava/lang/Throwable;" } : Jvm.MethodName)) ∈ lw_tbl := lw_at lw_m1 169 rfl
theorem q230 : (Jvm.Cond.codeSync ({ cls := "java/lang/Throwable", name := "fillInStackTrace", desc := "()Ljava/lang/Throwable;" } : Jvm.MethodName) prog_22_method_18_code (1 : Nat) (Option.some (Jvm.ClassFile.FieldType.object "java/lang/Throwable"))) ∈ lw_all := lw_g (lw_at lw_m1 173 rfl) rfl
theorem q231 : (Jvm.Cond.methodLink "java/lang/Throwable" (202 : Nat) ({ cls := "java/lang/Throwable", name := "fillInStackTrace", desc := "(I)Ljava/lang/Throwable;" } : Jvm.MethodName)) ∈ lw_all := lw_g (lw_at lw_m1 174 rfl) rfl
theorem q232 : (Jvm.Cond.privateMethod ({ cls := "java/lang/Throwable", name := "fillInStackTrace", desc := "(I)Ljava/lang/Throwable;" } : Jvm.MethodName)) ∈ lw_tbl := lw_at lw_m1 175 rfl
theorem q233 : (Jvm.Cond.instanceMethod ({ cls := "java/lang/Throwable", name := "fillInStackTrace", desc := "(I)Ljava/lang/Throwable;" } : Jvm.MethodName)) ∈ lw_all := lw_g (lw_at lw_m1 176 rfl) rfl
theorem q234 : (Jvm.Cond.instantiable "java/lang/Throwable" (6 : Nat)) ∈ lw_all := lw_g (lw_at lw_m1 177 rfl) rfl
theorem q235 : (Jvm.Cond.native ({ cls := "java/lang/Throwable", name := "fillInStackTrace", desc := "(I)Ljava/lang/Throwable;" } : Jvm.MethodName)) ∈ lw_all := lw_g (lw_at lw_m1 178 rfl) rfl
theorem q236 : (Jvm.Cond.fieldLink "java/lang/Throwable" (198 : Nat) "java/lang/Throwable" "backtrace" "Ljava/lang/Object;") ∈ lw_all := lw_g (lw_at lw_m1 179 rfl) rfl
theorem q237 : (Jvm.Cond.fieldLink "java/lang/Throwable" (31 : Nat) "java/lang/Throwable" "detailMessage" "Ljava/lang/String;") ∈ lw_all := lw_g (lw_at lw_m1 180 rfl) rfl
theorem q238 : (Jvm.Cond.fieldLink "java/lang/Throwable" (7 : Nat) "java/lang/Throwable" "cause" "Ljava/lang/Throwable;") ∈ lw_all := lw_g (lw_at lw_m1 181 rfl) rfl
theorem q239 : (Jvm.Cond.fieldLink "java/lang/Throwable" (17 : Nat) "java/lang/Throwable" "stackTrace" "[Ljava/lang/StackTraceElement;") ∈ lw_all := lw_g (lw_at lw_m1 182 rfl) rfl
theorem q240 : (Jvm.Cond.fieldLink "java/lang/Throwable" (24 : Nat) "java/lang/Throwable" "suppressedExceptions" "Ljava/util/List;") ∈ lw_all := lw_g (lw_at lw_m1 183 rfl) rfl
theorem q242 : (Jvm.Cond.soleField "java/lang/Throwable" "backtrace") ∈ lw_all := lw_g (lw_at lw_m1 185 rfl) rfl
theorem q244 : (Jvm.Cond.soleField "java/lang/Throwable" "detailMessage") ∈ lw_all := lw_g (lw_at lw_m1 187 rfl) rfl
theorem q246 : (Jvm.Cond.soleField "java/lang/Throwable" "cause") ∈ lw_all := lw_g (lw_at lw_m1 189 rfl) rfl
theorem q248 : (Jvm.Cond.soleField "java/lang/Throwable" "stackTrace") ∈ lw_all := lw_g (lw_at lw_m1 191 rfl) rfl
theorem q250 : (Jvm.Cond.soleField "java/lang/Throwable" "depth") ∈ lw_all := lw_g (lw_at lw_m1 193 rfl) rfl
theorem q252 : (Jvm.Cond.soleField "java/lang/Throwable" "suppressedExceptions") ∈ lw_all := lw_g (lw_at lw_m1 195 rfl) rfl
theorem q259 : (Jvm.Cond.declares ({ cls := "java/lang/Throwable", name := "<init>", desc := "()V" } : Jvm.MethodName)) ∈ lw_tbl := lw_at lw_m1 202 rfl
theorem q260 : (Jvm.Cond.declares ({ cls := "java/lang/Throwable", name := "<init>", desc := "(Ljava/lang/String;)V" } : Jvm.MethodName)) ∈ lw_tbl := lw_at lw_m1 203 rfl
theorem q262 : (Jvm.Cond.lays "java/lang/Throwable" "java/lang/Throwable" "cause" "Ljava/lang/Throwable;") ∈ lw_all := lw_g (lw_at lw_m1 205 rfl) rfl
theorem q263 : (Jvm.Cond.lays "java/lang/Throwable" "java/lang/Throwable" "stackTrace" "[Ljava/lang/StackTraceElement;") ∈ lw_all := lw_g (lw_at lw_m1 206 rfl) rfl
theorem q264 : (Jvm.Cond.lays "java/lang/Throwable" "java/lang/Throwable" "suppressedExceptions" "Ljava/util/List;") ∈ lw_all := lw_g (lw_at lw_m1 207 rfl) rfl
theorem q265 : (Jvm.Cond.lays "java/lang/Throwable" "java/lang/Throwable" "detailMessage" "Ljava/lang/String;") ∈ lw_all := lw_g (lw_at lw_m1 208 rfl) rfl
theorem q266 : (Jvm.Cond.lays "java/lang/Throwable" "java/lang/Throwable" "backtrace" "Ljava/lang/Object;") ∈ lw_all := lw_g (lw_at lw_m1 209 rfl) rfl
theorem q267 : (Jvm.Cond.fieldLink "java/lang/Throwable" (198 : Nat) "java/lang/Throwable" "backtrace" "Ljava/lang/Object;") ∈ lw_all := lw_g (lw_at lw_m1 210 rfl) rfl
theorem q268 : (Jvm.Cond.superclass "java/lang/Throwable" "java/lang/Object") ∈ lw_all := lw_g (lw_at lw_m1 211 rfl) rfl
theorem q269 : (Jvm.Cond.instanceMethod ({ cls := "java/lang/Throwable", name := "<init>", desc := "()V" } : Jvm.MethodName)) ∈ lw_all := lw_g (lw_at lw_m1 212 rfl) rfl
theorem q270 : (Jvm.Cond.code ({ cls := "java/lang/Throwable", name := "<init>", desc := "()V" } : Jvm.MethodName) prog_22_method_1_code (1 : Nat) (Option.none : Option Jvm.ClassFile.FieldType)) ∈ lw_all := lw_g (lw_at lw_m1 213 rfl) rfl
theorem q1717 : (Jvm.Cond.sameMethod "java/lang/Throwable" "java/lang/Throwable" "fillInStackTrace" "(I)Ljava/lang/Throwable;") ∈ lw_all := lw_g (lw_at lw_m7 220 rfl) rfl
theorem in_J0 : ∀ w ∈ wsJ00, w ∈ lw_all := lw_in wsJ00 [262, 263, 264, 265, 266] (by decide +kernel) (by decide +kernel)
theorem q61 : (Jvm.Cond.initialized "java/lang/Exception") ∈ lw_all := lw_g (lw_at lw_m1 4 rfl) rfl
theorem q198 : (Jvm.Cond.instanceMethod ({ cls := "java/lang/Exception", name := "<init>", desc := "(Ljava/lang/String;)V" } : Jvm.MethodName)) ∈ lw_all := lw_g (lw_at lw_m1 141 rfl) rfl
theorem q199 : (Jvm.Cond.code ({ cls := "java/lang/Exception", name := "<init>", desc := "(Ljava/lang/String;)V" } : Jvm.MethodName) prog_13_method_2_code (2 : Nat) (Option.none : Option Jvm.ClassFile.FieldType)) ∈ lw_all := lw_g (lw_at lw_m1 142 rfl) rfl
theorem q200 : (Jvm.Cond.methodLink "java/lang/Exception" (7 : Nat) ({ cls := "java/lang/Throwable", name := "<init>", desc := "(Ljava/lang/String;)V" } : Jvm.MethodName)) ∈ lw_all := lw_g (lw_at lw_m1 143 rfl) rfl
theorem q229 : (Jvm.Cond.superclass "java/lang/Exception" "java/lang/Throwable") ∈ lw_all := lw_g (lw_at lw_m1 172 rfl) rfl
theorem q257 : (Jvm.Cond.declares ({ cls := "java/lang/Exception", name := "<init>", desc := "()V" } : Jvm.MethodName)) ∈ lw_tbl := lw_at lw_m1 200 rfl
theorem q258 : (Jvm.Cond.declares ({ cls := "java/lang/Exception", name := "<init>", desc := "(Ljava/lang/String;)V" } : Jvm.MethodName)) ∈ lw_tbl := lw_at lw_m1 201 rfl
theorem q298 : (Jvm.Cond.instanceMethod ({ cls := "java/lang/Exception", name := "<init>", desc := "()V" } : Jvm.MethodName)) ∈ lw_all := lw_g (lw_at lw_m2 1 rfl) rfl
theorem q299 : (Jvm.Cond.code ({ cls := "java/lang/Exception", name := "<init>", desc := "()V" } : Jvm.MethodName) prog_13_method_1_code (1 : Nat) (Option.none : Option Jvm.ClassFile.FieldType)) ∈ lw_all := lw_g (lw_at lw_m2 2 rfl) rfl
theorem q300 : (Jvm.Cond.methodLink "java/lang/Exception" (1 : Nat) ({ cls := "java/lang/Throwable", name := "<init>", desc := "()V" } : Jvm.MethodName)) ∈ lw_all := lw_g (lw_at lw_m2 3 rfl) rfl
theorem q75 : (Jvm.Cond.initialized "java/lang/IllegalStateException") ∈ lw_all := lw_g (lw_at lw_m1 18 rfl) rfl
theorem q214 : (Jvm.Cond.selects "java/lang/IllegalStateException" ({ cls := "java/lang/Throwable", name := "fillInStackTrace", desc := "()Ljava/lang/Throwable;" } : Jvm.MethodName) ({ cls := "java/lang/Throwable", name := "fillInStackTrace", desc := "()Ljava/lang/Throwable;" } : Jvm.MethodName)) ∈ lw_all := lw_g (lw_at lw_m1 157 rfl) rfl
theorem q645 : (Jvm.Cond.instantiable "java/lang/IllegalStateException" (6 : Nat)) ∈ lw_all := lw_g (lw_at lw_m3 108 rfl) rfl
theorem q646 : (Jvm.Cond.castable "java/lang/IllegalStateException" "java/lang/IllegalStateException") ∈ lw_tbl := lw_at lw_m3 109 rfl
theorem q647 : (Jvm.Cond.selects "java/lang/IllegalStateException" ({ cls := "java/lang/Throwable", name := "fillInStackTrace", desc := "(I)Ljava/lang/Throwable;" } : Jvm.MethodName) ({ cls := "java/lang/Throwable", name := "fillInStackTrace", desc := "(I)Ljava/lang/Throwable;" } : Jvm.MethodName)) ∈ lw_all := lw_g (lw_at lw_m3 110 rfl) rfl
theorem q648 : (Jvm.Cond.lays "java/lang/IllegalStateException" "java/lang/Throwable" "cause" "Ljava/lang/Throwable;") ∈ lw_all := lw_g (lw_at lw_m3 111 rfl) rfl
theorem q649 : (Jvm.Cond.lays "java/lang/IllegalStateException" "java/lang/Throwable" "stackTrace" "[Ljava/lang/StackTraceElement;") ∈ lw_all := lw_g (lw_at lw_m3 112 rfl) rfl
theorem q650 : (Jvm.Cond.lays "java/lang/IllegalStateException" "java/lang/Throwable" "suppressedExceptions" "Ljava/util/List;") ∈ lw_all := lw_g (lw_at lw_m3 113 rfl) rfl
theorem q651 : (Jvm.Cond.lays "java/lang/IllegalStateException" "java/lang/Throwable" "detailMessage" "Ljava/lang/String;") ∈ lw_all := lw_g (lw_at lw_m3 114 rfl) rfl
theorem q652 : (Jvm.Cond.lays "java/lang/IllegalStateException" "java/lang/Throwable" "backtrace" "Ljava/lang/Object;") ∈ lw_all := lw_g (lw_at lw_m3 115 rfl) rfl
theorem q654 : (Jvm.Cond.instanceMethod ({ cls := "java/lang/IllegalStateException", name := "<init>", desc := "()V" } : Jvm.MethodName)) ∈ lw_all := lw_g (lw_at lw_m3 117 rfl) rfl
theorem q655 : (Jvm.Cond.code ({ cls := "java/lang/IllegalStateException", name := "<init>", desc := "()V" } : Jvm.MethodName) prog_14_method_1_code (1 : Nat) (Option.none : Option Jvm.ClassFile.FieldType)) ∈ lw_all := lw_g (lw_at lw_m3 118 rfl) rfl
theorem q656 : (Jvm.Cond.methodLink "java/lang/IllegalStateException" (1 : Nat) ({ cls := "java/lang/RuntimeException", name := "<init>", desc := "()V" } : Jvm.MethodName)) ∈ lw_all := lw_g (lw_at lw_m3 119 rfl) rfl
theorem q657 : (Jvm.Cond.lays "java/lang/IllegalStateException" "java/lang/Throwable" "depth" "I") ∈ lw_all := lw_g (lw_at lw_m3 120 rfl) rfl
theorem q658 : (Jvm.Cond.superclass "java/lang/IllegalStateException" "java/lang/RuntimeException") ∈ lw_all := lw_g (lw_at lw_m3 121 rfl) rfl
theorem in_J10 : ∀ w ∈ wsJ100, w ∈ lw_all := lw_in wsJ100 [648, 649, 650, 651, 652, 657] (by decide +kernel) (by decide +kernel)
theorem q76 : (Jvm.Cond.initialized "java/lang/ArithmeticException") ∈ lw_all := lw_g (lw_at lw_m1 19 rfl) rfl
theorem q211 : (Jvm.Cond.selects "java/lang/ArithmeticException" ({ cls := "java/lang/Throwable", name := "fillInStackTrace", desc := "()Ljava/lang/Throwable;" } : Jvm.MethodName) ({ cls := "java/lang/Throwable", name := "fillInStackTrace", desc := "()Ljava/lang/Throwable;" } : Jvm.MethodName)) ∈ lw_all := lw_g (lw_at lw_m1 154 rfl) rfl
theorem q669 : (Jvm.Cond.instantiable "java/lang/ArithmeticException" (6 : Nat)) ∈ lw_all := lw_g (lw_at lw_m3 132 rfl) rfl
theorem q670 : (Jvm.Cond.instanceMethod ({ cls := "java/lang/ArithmeticException", name := "<init>", desc := "(Ljava/lang/String;)V" } : Jvm.MethodName)) ∈ lw_all := lw_g (lw_at lw_m3 133 rfl) rfl
theorem q671 : (Jvm.Cond.code ({ cls := "java/lang/ArithmeticException", name := "<init>", desc := "(Ljava/lang/String;)V" } : Jvm.MethodName) prog_10_method_2_code (2 : Nat) (Option.none : Option Jvm.ClassFile.FieldType)) ∈ lw_all := lw_g (lw_at lw_m3 134 rfl) rfl
theorem q672 : (Jvm.Cond.methodLink "java/lang/ArithmeticException" (7 : Nat) ({ cls := "java/lang/RuntimeException", name := "<init>", desc := "(Ljava/lang/String;)V" } : Jvm.MethodName)) ∈ lw_all := lw_g (lw_at lw_m3 135 rfl) rfl
theorem q673 : (Jvm.Cond.lays "java/lang/ArithmeticException" "java/lang/Throwable" "backtrace" "Ljava/lang/Object;") ∈ lw_all := lw_g (lw_at lw_m3 136 rfl) rfl
theorem q674 : (Jvm.Cond.lays "java/lang/ArithmeticException" "java/lang/Throwable" "detailMessage" "Ljava/lang/String;") ∈ lw_all := lw_g (lw_at lw_m3 137 rfl) rfl
theorem q675 : (Jvm.Cond.lays "java/lang/ArithmeticException" "java/lang/Throwable" "cause" "Ljava/lang/Throwable;") ∈ lw_all := lw_g (lw_at lw_m3 138 rfl) rfl
theorem q676 : (Jvm.Cond.lays "java/lang/ArithmeticException" "java/lang/Throwable" "stackTrace" "[Ljava/lang/StackTraceElement;") ∈ lw_all := lw_g (lw_at lw_m3 139 rfl) rfl
theorem q677 : (Jvm.Cond.lays "java/lang/ArithmeticException" "java/lang/Throwable" "depth" "I") ∈ lw_all := lw_g (lw_at lw_m3 140 rfl) rfl
theorem q678 : (Jvm.Cond.lays "java/lang/ArithmeticException" "java/lang/Throwable" "suppressedExceptions" "Ljava/util/List;") ∈ lw_all := lw_g (lw_at lw_m3 141 rfl) rfl
theorem q679 : (Jvm.Cond.superclass "java/lang/ArithmeticException" "java/lang/RuntimeException") ∈ lw_all := lw_g (lw_at lw_m3 142 rfl) rfl
theorem q680 : (Jvm.Cond.castable "java/lang/ArithmeticException" "java/lang/ArithmeticException") ∈ lw_tbl := lw_at lw_m3 143 rfl
theorem q681 : (Jvm.Cond.selects "java/lang/ArithmeticException" ({ cls := "java/lang/Throwable", name := "fillInStackTrace", desc := "(I)Ljava/lang/Throwable;" } : Jvm.MethodName) ({ cls := "java/lang/Throwable", name := "fillInStackTrace", desc := "(I)Ljava/lang/Throwable;" } : Jvm.MethodName)) ∈ lw_all := lw_g (lw_at lw_m3 144 rfl) rfl
theorem in_J11 : ∀ w ∈ wsJ110, w ∈ lw_all := lw_in wsJ110 [673, 674, 675, 676, 677, 678] (by decide +kernel) (by decide +kernel)
theorem q88 : (Jvm.Cond.instanceMethod ({ cls := "java/lang/Object", name := "<init>", desc := "()V" } : Jvm.MethodName)) ∈ lw_all := lw_g (lw_at lw_m1 31 rfl) rfl
theorem q89 : (Jvm.Cond.code ({ cls := "java/lang/Object", name := "<init>", desc := "()V" } : Jvm.MethodName) object_method_1_code (1 : Nat) (Option.none : Option Jvm.ClassFile.FieldType)) ∈ lw_all := lw_g (lw_at lw_m1 32 rfl) rfl
theorem q62 : (Jvm.Cond.initialized "java/lang/RuntimeException") ∈ lw_all := lw_g (lw_at lw_m1 5 rfl) rfl
theorem q195 : (Jvm.Cond.instanceMethod ({ cls := "java/lang/RuntimeException", name := "<init>", desc := "(Ljava/lang/String;)V" } : Jvm.MethodName)) ∈ lw_all := lw_g (lw_at lw_m1 138 rfl) rfl
theorem q196 : (Jvm.Cond.code ({ cls := "java/lang/RuntimeException", name := "<init>", desc := "(Ljava/lang/String;)V" } : Jvm.MethodName) prog_19_method_2_code (2 : Nat) (Option.none : Option Jvm.ClassFile.FieldType)) ∈ lw_all := lw_g (lw_at lw_m1 139 rfl) rfl
theorem q197 : (Jvm.Cond.methodLink "java/lang/RuntimeException" (7 : Nat) ({ cls := "java/lang/Exception", name := "<init>", desc := "(Ljava/lang/String;)V" } : Jvm.MethodName)) ∈ lw_all := lw_g (lw_at lw_m1 140 rfl) rfl
theorem q225 : (Jvm.Cond.sameMethod "java/lang/RuntimeException" "java/lang/Throwable" "fillInStackTrace" "()Ljava/lang/Throwable;") ∈ lw_all := lw_g (lw_at lw_m1 168 rfl) rfl
theorem q228 : (Jvm.Cond.superclass "java/lang/RuntimeException" "java/lang/Exception") ∈ lw_all := lw_g (lw_at lw_m1 171 rfl) rfl
theorem q255 : (Jvm.Cond.declares ({ cls := "java/lang/RuntimeException", name := "<init>", desc := "()V" } : Jvm.MethodName)) ∈ lw_tbl := lw_at lw_m1 198 rfl
theorem q256 : (Jvm.Cond.declares ({ cls := "java/lang/RuntimeException", name := "<init>", desc := "(Ljava/lang/String;)V" } : Jvm.MethodName)) ∈ lw_tbl := lw_at lw_m1 199 rfl
theorem q295 : (Jvm.Cond.instanceMethod ({ cls := "java/lang/RuntimeException", name := "<init>", desc := "()V" } : Jvm.MethodName)) ∈ lw_all := lw_g (lw_at lw_m1 238 rfl) rfl
theorem q296 : (Jvm.Cond.code ({ cls := "java/lang/RuntimeException", name := "<init>", desc := "()V" } : Jvm.MethodName) prog_19_method_1_code (1 : Nat) (Option.none : Option Jvm.ClassFile.FieldType)) ∈ lw_all := lw_g (lw_at lw_m1 239 rfl) rfl
theorem q297 : (Jvm.Cond.methodLink "java/lang/RuntimeException" (1 : Nat) ({ cls := "java/lang/Exception", name := "<init>", desc := "()V" } : Jvm.MethodName)) ∈ lw_all := lw_g (lw_at lw_m2 0 rfl) rfl
theorem q315 : (Jvm.Cond.castable "java/lang/RuntimeException" "java/lang/Throwable") ∈ lw_tbl := lw_at lw_m2 18 rfl
theorem q63 : (Jvm.Cond.initialized "java/lang/NegativeArraySizeException") ∈ lw_all := lw_g (lw_at lw_m1 6 rfl) rfl
theorem q191 : (Jvm.Cond.instantiable "java/lang/NegativeArraySizeException" (6 : Nat)) ∈ lw_all := lw_g (lw_at lw_m1 134 rfl) rfl
theorem q192 : (Jvm.Cond.instanceMethod ({ cls := "java/lang/NegativeArraySizeException", name := "<init>", desc := "(Ljava/lang/String;)V" } : Jvm.MethodName)) ∈ lw_all := lw_g (lw_at lw_m1 135 rfl) rfl
theorem q193 : (Jvm.Cond.code ({ cls := "java/lang/NegativeArraySizeException", name := "<init>", desc := "(Ljava/lang/String;)V" } : Jvm.MethodName) prog_17_method_2_code (2 : Nat) (Option.none : Option Jvm.ClassFile.FieldType)) ∈ lw_all := lw_g (lw_at lw_m1 136 rfl) rfl
theorem q194 : (Jvm.Cond.methodLink "java/lang/NegativeArraySizeException" (7 : Nat) ({ cls := "java/lang/RuntimeException", name := "<init>", desc := "(Ljava/lang/String;)V" } : Jvm.MethodName)) ∈ lw_all := lw_g (lw_at lw_m1 137 rfl) rfl
theorem q215 : (Jvm.Cond.selects "java/lang/NegativeArraySizeException" ({ cls := "java/lang/Throwable", name := "fillInStackTrace", desc := "()Ljava/lang/Throwable;" } : Jvm.MethodName) ({ cls := "java/lang/Throwable", name := "fillInStackTrace", desc := "()Ljava/lang/Throwable;" } : Jvm.MethodName)) ∈ lw_all := lw_g (lw_at lw_m1 158 rfl) rfl
theorem q241 : (Jvm.Cond.lays "java/lang/NegativeArraySizeException" "java/lang/Throwable" "backtrace" "Ljava/lang/Object;") ∈ lw_all := lw_g (lw_at lw_m1 184 rfl) rfl
theorem q243 : (Jvm.Cond.lays "java/lang/NegativeArraySizeException" "java/lang/Throwable" "detailMessage" "Ljava/lang/String;") ∈ lw_all := lw_g (lw_at lw_m1 186 rfl) rfl
theorem q245 : (Jvm.Cond.lays "java/lang/NegativeArraySizeException" "java/lang/Throwable" "cause" "Ljava/lang/Throwable;") ∈ lw_all := lw_g (lw_at lw_m1 188 rfl) rfl
theorem q247 : (Jvm.Cond.lays "java/lang/NegativeArraySizeException" "java/lang/Throwable" "stackTrace" "[Ljava/lang/StackTraceElement;") ∈ lw_all := lw_g (lw_at lw_m1 190 rfl) rfl
theorem q249 : (Jvm.Cond.lays "java/lang/NegativeArraySizeException" "java/lang/Throwable" "depth" "I") ∈ lw_all := lw_g (lw_at lw_m1 192 rfl) rfl
theorem q251 : (Jvm.Cond.lays "java/lang/NegativeArraySizeException" "java/lang/Throwable" "suppressedExceptions" "Ljava/util/List;") ∈ lw_all := lw_g (lw_at lw_m1 194 rfl) rfl
theorem q253 : (Jvm.Cond.superclass "java/lang/NegativeArraySizeException" "java/lang/RuntimeException") ∈ lw_all := lw_g (lw_at lw_m1 196 rfl) rfl
theorem q254 : (Jvm.Cond.castable "java/lang/NegativeArraySizeException" "java/lang/NegativeArraySizeException") ∈ lw_tbl := lw_at lw_m1 197 rfl
theorem q261 : (Jvm.Cond.selects "java/lang/NegativeArraySizeException" ({ cls := "java/lang/Throwable", name := "fillInStackTrace", desc := "(I)Ljava/lang/Throwable;" } : Jvm.MethodName) ({ cls := "java/lang/Throwable", name := "fillInStackTrace", desc := "(I)Ljava/lang/Throwable;" } : Jvm.MethodName)) ∈ lw_all := lw_g (lw_at lw_m1 204 rfl) rfl
theorem in_J3 : ∀ w ∈ wsJ30, w ∈ lw_all := lw_in wsJ30 [241, 243, 245, 247, 249, 251] (by decide +kernel) (by decide +kernel)
theorem q64 : (Jvm.Cond.initialized "java/lang/String") ∈ lw_all := lw_g (lw_at lw_m1 7 rfl) rfl
theorem q271 : (Jvm.Cond.instantiable "java/lang/String" (4 : Nat)) ∈ lw_all := lw_g (lw_at lw_m1 214 rfl) rfl
theorem q273 : (Jvm.Cond.laysFinal "java/lang/String" "java/lang/String" "value" "[B") ∈ lw_all := lw_g (lw_at lw_m1 216 rfl) rfl
theorem q274 : (Jvm.Cond.soleField "java/lang/String" "value") ∈ lw_all := lw_g (lw_at lw_m1 217 rfl) rfl
theorem q275 : (Jvm.Cond.laysFinal "java/lang/String" "java/lang/String" "coder" "B") ∈ lw_all := lw_g (lw_at lw_m1 218 rfl) rfl
theorem q276 : (Jvm.Cond.soleField "java/lang/String" "coder") ∈ lw_all := lw_g (lw_at lw_m1 219 rfl) rfl
theorem in_J4 : ∀ w ∈ wsJ40, w ∈ lw_all := lw_in wsJ40 [273, 275] (by decide +kernel) (by decide +kernel)
theorem q65 : (Jvm.Cond.initialized "java/lang/NullPointerException") ∈ lw_all := lw_g (lw_at lw_m1 8 rfl) rfl
theorem q216 : (Jvm.Cond.selects "java/lang/NullPointerException" ({ cls := "java/lang/Throwable", name := "fillInStackTrace", desc := "()Ljava/lang/Throwable;" } : Jvm.MethodName) ({ cls := "java/lang/NullPointerException", name := "fillInStackTrace", desc := "()Ljava/lang/Throwable;" } : Jvm.MethodName)) ∈ lw_all := lw_g (lw_at lw_m1 159 rfl) rfl
theorem q217 : (Jvm.Cond.instanceMethod ({ cls := "java/lang/NullPointerException", name := "fillInStackTrace", desc := "()Ljava/lang/Throwable;" } : Jvm.MethodName)) ∈ lw_all := lw_g (lw_at lw_m1 160 rfl) rfl
theorem q218 : (Jvm.Cond.codeSync ({ cls := "java/lang/NullPointerException", name := "fillInStackTrace", desc := "()Ljava/lang/Throwable;" } : Jvm.MethodName) prog_18_method_3_code (1 : Nat) (Option.some (Jvm.ClassFile.FieldType.object "java/lang/Throwable"))) ∈ lw_all := lw_g (lw_at lw_m1 161 rfl) rfl
theorem q219 : (Jvm.Cond.methodLink "java/lang/NullPointerException" (16 : Nat) ({ cls := "java/lang/NullPointerException", name := "getExtendedNPEMessage", desc := "()Ljava/lang/String;" } : Jvm.MethodName)) ∈ lw_all := lw_g (lw_at lw_m1 162 rfl) rfl
theorem q220 : (Jvm.Cond.privateMethod ({ cls := "java/lang/NullPointerException", name := "getExtendedNPEMessage", desc := "()Ljava/lang/String;" } : Jvm.MethodName)) ∈ lw_tbl := lw_at lw_m1 163 rfl
theorem q221 : (Jvm.Cond.instanceMethod ({ cls := "java/lang/NullPointerException", name := "getExtendedNPEMessage", desc := "()Ljava/lang/String;" } : Jvm.MethodName)) ∈ lw_all := lw_g (lw_at lw_m1 164 rfl) rfl
theorem q222 : (Jvm.Cond.instantiable "java/lang/NullPointerException" (8 : Nat)) ∈ lw_all := lw_g (lw_at lw_m1 165 rfl) rfl
theorem q223 : (Jvm.Cond.native ({ cls := "java/lang/NullPointerException", name := "getExtendedNPEMessage", desc := "()Ljava/lang/String;" } : Jvm.MethodName)) ∈ lw_all := lw_g (lw_at lw_m1 166 rfl) rfl
theorem q224 : (Jvm.Cond.methodLink "java/lang/NullPointerException" (24 : Nat) ({ cls := "java/lang/RuntimeException", name := "fillInStackTrace", desc := "()Ljava/lang/Throwable;" } : Jvm.MethodName)) ∈ lw_all := lw_g (lw_at lw_m1 167 rfl) rfl
theorem q227 : (Jvm.Cond.superclass "java/lang/NullPointerException" "java/lang/RuntimeException") ∈ lw_all := lw_g (lw_at lw_m1 170 rfl) rfl
theorem q292 : (Jvm.Cond.instanceMethod ({ cls := "java/lang/NullPointerException", name := "<init>", desc := "()V" } : Jvm.MethodName)) ∈ lw_all := lw_g (lw_at lw_m1 235 rfl) rfl
theorem q293 : (Jvm.Cond.code ({ cls := "java/lang/NullPointerException", name := "<init>", desc := "()V" } : Jvm.MethodName) prog_18_method_1_code (1 : Nat) (Option.none : Option Jvm.ClassFile.FieldType)) ∈ lw_all := lw_g (lw_at lw_m1 236 rfl) rfl
theorem q294 : (Jvm.Cond.methodLink "java/lang/NullPointerException" (1 : Nat) ({ cls := "java/lang/RuntimeException", name := "<init>", desc := "()V" } : Jvm.MethodName)) ∈ lw_all := lw_g (lw_at lw_m1 237 rfl) rfl
theorem q301 : (Jvm.Cond.fieldLink "java/lang/NullPointerException" (10 : Nat) "java/lang/NullPointerException" "extendedMessageState" "I") ∈ lw_all := lw_g (lw_at lw_m2 4 rfl) rfl
theorem q302 : (Jvm.Cond.fieldLink "java/lang/NullPointerException" (20 : Nat) "java/lang/NullPointerException" "extendedMessage" "Ljava/lang/String;") ∈ lw_all := lw_g (lw_at lw_m2 5 rfl) rfl
theorem q303 : (Jvm.Cond.lays "java/lang/NullPointerException" "java/lang/NullPointerException" "extendedMessageState" "I") ∈ lw_all := lw_g (lw_at lw_m2 6 rfl) rfl
theorem q304 : (Jvm.Cond.soleField "java/lang/NullPointerException" "extendedMessageState") ∈ lw_all := lw_g (lw_at lw_m2 7 rfl) rfl
theorem q305 : (Jvm.Cond.lays "java/lang/NullPointerException" "java/lang/NullPointerException" "extendedMessage" "Ljava/lang/String;") ∈ lw_all := lw_g (lw_at lw_m2 8 rfl) rfl
theorem q306 : (Jvm.Cond.soleField "java/lang/NullPointerException" "extendedMessage") ∈ lw_all := lw_g (lw_at lw_m2 9 rfl) rfl
theorem q307 : (Jvm.Cond.lays "java/lang/NullPointerException" "java/lang/Throwable" "backtrace" "Ljava/lang/Object;") ∈ lw_all := lw_g (lw_at lw_m2 10 rfl) rfl
theorem q308 : (Jvm.Cond.lays "java/lang/NullPointerException" "java/lang/Throwable" "detailMessage" "Ljava/lang/String;") ∈ lw_all := lw_g (lw_at lw_m2 11 rfl) rfl
theorem q309 : (Jvm.Cond.lays "java/lang/NullPointerException" "java/lang/Throwable" "cause" "Ljava/lang/Throwable;") ∈ lw_all := lw_g (lw_at lw_m2 12 rfl) rfl
theorem q310 : (Jvm.Cond.lays "java/lang/NullPointerException" "java/lang/Throwable" "stackTrace" "[Ljava/lang/StackTraceElement;") ∈ lw_all := lw_g (lw_at lw_m2 13 rfl) rfl
theorem q311 : (Jvm.Cond.lays "java/lang/NullPointerException" "java/lang/Throwable" "depth" "I") ∈ lw_all := lw_g (lw_at lw_m2 14 rfl) rfl
theorem q312 : (Jvm.Cond.lays "java/lang/NullPointerException" "java/lang/Throwable" "suppressedExceptions" "Ljava/util/List;") ∈ lw_all := lw_g (lw_at lw_m2 15 rfl) rfl
theorem q313 : (Jvm.Cond.castable "java/lang/NullPointerException" "java/lang/NullPointerException") ∈ lw_tbl := lw_at lw_m2 16 rfl
theorem q314 : (Jvm.Cond.selects "java/lang/NullPointerException" ({ cls := "java/lang/Throwable", name := "fillInStackTrace", desc := "(I)Ljava/lang/Throwable;" } : Jvm.MethodName) ({ cls := "java/lang/Throwable", name := "fillInStackTrace", desc := "(I)Ljava/lang/Throwable;" } : Jvm.MethodName)) ∈ lw_all := lw_g (lw_at lw_m2 17 rfl) rfl
theorem in_J5 : ∀ w ∈ wsJ50, w ∈ lw_all := lw_in wsJ50 [307, 308, 309, 310, 311, 312, 303, 305] (by decide +kernel) (by decide +kernel)
theorem q66 : (Jvm.Cond.initialized "java/lang/IndexOutOfBoundsException") ∈ lw_all := lw_g (lw_at lw_m1 9 rfl) rfl
theorem q321 : (Jvm.Cond.instanceMethod ({ cls := "java/lang/IndexOutOfBoundsException", name := "<init>", desc := "(Ljava/lang/String;)V" } : Jvm.MethodName)) ∈ lw_all := lw_g (lw_at lw_m2 24 rfl) rfl
theorem q322 : (Jvm.Cond.code ({ cls := "java/lang/IndexOutOfBoundsException", name := "<init>", desc := "(Ljava/lang/String;)V" } : Jvm.MethodName) prog_15_method_2_code (2 : Nat) (Option.none : Option Jvm.ClassFile.FieldType)) ∈ lw_all := lw_g (lw_at lw_m2 25 rfl) rfl
theorem q323 : (Jvm.Cond.methodLink "java/lang/IndexOutOfBoundsException" (7 : Nat) ({ cls := "java/lang/RuntimeException", name := "<init>", desc := "(Ljava/lang/String;)V" } : Jvm.MethodName)) ∈ lw_all := lw_g (lw_at lw_m2 26 rfl) rfl
theorem q332 : (Jvm.Cond.declares ({ cls := "java/lang/IndexOutOfBoundsException", name := "<init>", desc := "()V" } : Jvm.MethodName)) ∈ lw_tbl := lw_at lw_m2 35 rfl
theorem q333 : (Jvm.Cond.declares ({ cls := "java/lang/IndexOutOfBoundsException", name := "<init>", desc := "(Ljava/lang/String;)V" } : Jvm.MethodName)) ∈ lw_tbl := lw_at lw_m2 36 rfl
theorem q67 : (Jvm.Cond.initialized "java/lang/ArrayIndexOutOfBoundsException") ∈ lw_all := lw_g (lw_at lw_m1 10 rfl) rfl
theorem q212 : (Jvm.Cond.selects "java/lang/ArrayIndexOutOfBoundsException" ({ cls := "java/lang/Throwable", name := "fillInStackTrace", desc := "()Ljava/lang/Throwable;" } : Jvm.MethodName) ({ cls := "java/lang/Throwable", name := "fillInStackTrace", desc := "()Ljava/lang/Throwable;" } : Jvm.MethodName)) ∈ lw_all := lw_g (lw_at lw_m1 155 rfl) rfl
theorem q317 : (Jvm.Cond.instantiable "java/lang/ArrayIndexOutOfBoundsException" (6 : Nat)) ∈ lw_all := lw_g (lw_at lw_m2 20 rfl) rfl
theorem q318 : (Jvm.Cond.instanceMethod ({ cls := "java/lang/ArrayIndexOutOfBoundsException", name := "<init>", desc := "(Ljava/lang/String;)V" } : Jvm.MethodName)) ∈ lw_all := lw_g (lw_at lw_m2 21 rfl) rfl
theorem q319 : (Jvm.Cond.code ({ cls := "java/lang/ArrayIndexOutOfBoundsException", name := "<init>", desc := "(Ljava/lang/String;)V" } : Jvm.MethodName) prog_11_method_2_code (2 : Nat) (Option.none : Option Jvm.ClassFile.FieldType)) ∈ lw_all := lw_g (lw_at lw_m2 22 rfl) rfl
theorem q320 : (Jvm.Cond.methodLink "java/lang/ArrayIndexOutOfBoundsException" (7 : Nat) ({ cls := "java/lang/IndexOutOfBoundsException", name := "<init>", desc := "(Ljava/lang/String;)V" } : Jvm.MethodName)) ∈ lw_all := lw_g (lw_at lw_m2 23 rfl) rfl
theorem q324 : (Jvm.Cond.lays "java/lang/ArrayIndexOutOfBoundsException" "java/lang/Throwable" "backtrace" "Ljava/lang/Object;") ∈ lw_all := lw_g (lw_at lw_m2 27 rfl) rfl
theorem q325 : (Jvm.Cond.lays "java/lang/ArrayIndexOutOfBoundsException" "java/lang/Throwable" "detailMessage" "Ljava/lang/String;") ∈ lw_all := lw_g (lw_at lw_m2 28 rfl) rfl
theorem q326 : (Jvm.Cond.lays "java/lang/ArrayIndexOutOfBoundsException" "java/lang/Throwable" "cause" "Ljava/lang/Throwable;") ∈ lw_all := lw_g (lw_at lw_m2 29 rfl) rfl
theorem q327 : (Jvm.Cond.lays "java/lang/ArrayIndexOutOfBoundsException" "java/lang/Throwable" "stackTrace" "[Ljava/lang/StackTraceElement;") ∈ lw_all := lw_g (lw_at lw_m2 30 rfl) rfl
theorem q328 : (Jvm.Cond.lays "java/lang/ArrayIndexOutOfBoundsException" "java/lang/Throwable" "depth" "I") ∈ lw_all := lw_g (lw_at lw_m2 31 rfl) rfl
theorem q329 : (Jvm.Cond.lays "java/lang/ArrayIndexOutOfBoundsException" "java/lang/Throwable" "suppressedExceptions" "Ljava/util/List;") ∈ lw_all := lw_g (lw_at lw_m2 32 rfl) rfl
theorem q330 : (Jvm.Cond.superclass "java/lang/ArrayIndexOutOfBoundsException" "java/lang/IndexOutOfBoundsException") ∈ lw_all := lw_g (lw_at lw_m2 33 rfl) rfl
theorem q331 : (Jvm.Cond.castable "java/lang/ArrayIndexOutOfBoundsException" "java/lang/ArrayIndexOutOfBoundsException") ∈ lw_tbl := lw_at lw_m2 34 rfl
theorem q334 : (Jvm.Cond.selects "java/lang/ArrayIndexOutOfBoundsException" ({ cls := "java/lang/Throwable", name := "fillInStackTrace", desc := "(I)Ljava/lang/Throwable;" } : Jvm.MethodName) ({ cls := "java/lang/Throwable", name := "fillInStackTrace", desc := "(I)Ljava/lang/Throwable;" } : Jvm.MethodName)) ∈ lw_all := lw_g (lw_at lw_m2 37 rfl) rfl
theorem q1729 : (Jvm.Cond.castable "java/lang/ArrayIndexOutOfBoundsException" "java/lang/IndexOutOfBoundsException") ∈ lw_tbl := lw_at lw_m7 232 rfl
theorem in_J7 : ∀ w ∈ wsJ70, w ∈ lw_all := lw_in wsJ70 [324, 325, 326, 327, 328, 329] (by decide +kernel) (by decide +kernel)
theorem q73 : (Jvm.Cond.initialized "java/lang/ClassCastException") ∈ lw_all := lw_g (lw_at lw_m1 16 rfl) rfl
theorem q213 : (Jvm.Cond.selects "java/lang/ClassCastException" ({ cls := "java/lang/Throwable", name := "fillInStackTrace", desc := "()Ljava/lang/Throwable;" } : Jvm.MethodName) ({ cls := "java/lang/Throwable", name := "fillInStackTrace", desc := "()Ljava/lang/Throwable;" } : Jvm.MethodName)) ∈ lw_all := lw_g (lw_at lw_m1 156 rfl) rfl
theorem q581 : (Jvm.Cond.instantiable "java/lang/ClassCastException" (6 : Nat)) ∈ lw_all := lw_g (lw_at lw_m3 44 rfl) rfl
theorem q582 : (Jvm.Cond.instanceMethod ({ cls := "java/lang/ClassCastException", name := "<init>", desc := "(Ljava/lang/String;)V" } : Jvm.MethodName)) ∈ lw_all := lw_g (lw_at lw_m3 45 rfl) rfl
theorem q583 : (Jvm.Cond.code ({ cls := "java/lang/ClassCastException", name := "<init>", desc := "(Ljava/lang/String;)V" } : Jvm.MethodName) prog_12_method_2_code (2 : Nat) (Option.none : Option Jvm.ClassFile.FieldType)) ∈ lw_all := lw_g (lw_at lw_m3 46 rfl) rfl
theorem q584 : (Jvm.Cond.methodLink "java/lang/ClassCastException" (7 : Nat) ({ cls := "java/lang/RuntimeException", name := "<init>", desc := "(Ljava/lang/String;)V" } : Jvm.MethodName)) ∈ lw_all := lw_g (lw_at lw_m3 47 rfl) rfl
theorem q585 : (Jvm.Cond.lays "java/lang/ClassCastException" "java/lang/Throwable" "backtrace" "Ljava/lang/Object;") ∈ lw_all := lw_g (lw_at lw_m3 48 rfl) rfl
theorem q586 : (Jvm.Cond.lays "java/lang/ClassCastException" "java/lang/Throwable" "detailMessage" "Ljava/lang/String;") ∈ lw_all := lw_g (lw_at lw_m3 49 rfl) rfl
theorem q587 : (Jvm.Cond.lays "java/lang/ClassCastException" "java/lang/Throwable" "cause" "Ljava/lang/Throwable;") ∈ lw_all := lw_g (lw_at lw_m3 50 rfl) rfl
theorem q588 : (Jvm.Cond.lays "java/lang/ClassCastException" "java/lang/Throwable" "stackTrace" "[Ljava/lang/StackTraceElement;") ∈ lw_all := lw_g (lw_at lw_m3 51 rfl) rfl
theorem q589 : (Jvm.Cond.lays "java/lang/ClassCastException" "java/lang/Throwable" "depth" "I") ∈ lw_all := lw_g (lw_at lw_m3 52 rfl) rfl
theorem q590 : (Jvm.Cond.lays "java/lang/ClassCastException" "java/lang/Throwable" "suppressedExceptions" "Ljava/util/List;") ∈ lw_all := lw_g (lw_at lw_m3 53 rfl) rfl
theorem q591 : (Jvm.Cond.superclass "java/lang/ClassCastException" "java/lang/RuntimeException") ∈ lw_all := lw_g (lw_at lw_m3 54 rfl) rfl
theorem q592 : (Jvm.Cond.castable "java/lang/ClassCastException" "java/lang/ClassCastException") ∈ lw_tbl := lw_at lw_m3 55 rfl
theorem q593 : (Jvm.Cond.selects "java/lang/ClassCastException" ({ cls := "java/lang/Throwable", name := "fillInStackTrace", desc := "(I)Ljava/lang/Throwable;" } : Jvm.MethodName) ({ cls := "java/lang/Throwable", name := "fillInStackTrace", desc := "(I)Ljava/lang/Throwable;" } : Jvm.MethodName)) ∈ lw_all := lw_g (lw_at lw_m3 56 rfl) rfl
theorem in_J8 : ∀ w ∈ wsJ80, w ∈ lw_all := lw_in wsJ80 [585, 586, 587, 588, 589, 590] (by decide +kernel) (by decide +kernel)
theorem q74 : (Jvm.Cond.initialized "java/lang/Math") ∈ lw_all := lw_g (lw_at lw_m1 17 rfl) rfl
theorem q609 : (Jvm.Cond.static ({ cls := "java/lang/Math", name := "max", desc := "(II)I" } : Jvm.MethodName)) ∈ lw_all := lw_g (lw_at lw_m3 72 rfl) rfl
theorem q610 : (Jvm.Cond.code ({ cls := "java/lang/Math", name := "max", desc := "(II)I" } : Jvm.MethodName) prog_16_method_65_code (2 : Nat) (Option.some Jvm.ClassFile.FieldType.int)) ∈ lw_all := lw_g (lw_at lw_m3 73 rfl) rfl
theorem q932 : (Jvm.Cond.static ({ cls := "java/lang/Math", name := "floorMod", desc := "(II)I" } : Jvm.MethodName)) ∈ lw_all := lw_g (lw_at lw_m4 155 rfl) rfl
theorem q933 : (Jvm.Cond.code ({ cls := "java/lang/Math", name := "floorMod", desc := "(II)I" } : Jvm.MethodName) prog_16_method_50_code (3 : Nat) (Option.some Jvm.ClassFile.FieldType.int)) ∈ lw_all := lw_g (lw_at lw_m4 156 rfl) rfl
theorem q945 : (Jvm.Cond.static ({ cls := "java/lang/Math", name := "floorMod", desc := "(JJ)J" } : Jvm.MethodName)) ∈ lw_all := lw_g (lw_at lw_m4 168 rfl) rfl
theorem q946 : (Jvm.Cond.code ({ cls := "java/lang/Math", name := "floorMod", desc := "(JJ)J" } : Jvm.MethodName) prog_16_method_52_code (6 : Nat) (Option.some Jvm.ClassFile.FieldType.long)) ∈ lw_all := lw_g (lw_at lw_m4 169 rfl) rfl
theorem q948 : (Jvm.Cond.static ({ cls := "java/lang/Math", name := "abs", desc := "(J)J" } : Jvm.MethodName)) ∈ lw_all := lw_g (lw_at lw_m4 171 rfl) rfl
theorem q949 : (Jvm.Cond.code ({ cls := "java/lang/Math", name := "abs", desc := "(J)J" } : Jvm.MethodName) prog_16_method_61_code (2 : Nat) (Option.some Jvm.ClassFile.FieldType.long)) ∈ lw_all := lw_g (lw_at lw_m4 172 rfl) rfl
theorem q58 : (Jvm.Cond.initialized "HammerTowers") ∈ lw_all := lw_g (lw_at lw_m1 1 rfl) rfl
theorem q79 : (Jvm.Cond.instanceMethod ({ cls := "HammerTowers", name := "asked", desc := "()I" } : Jvm.MethodName)) ∈ lw_all := lw_g (lw_at lw_m1 22 rfl) rfl
theorem q80 : (Jvm.Cond.selects "HammerTowers" ({ cls := "HammerTowers", name := "asked", desc := "()I" } : Jvm.MethodName) ({ cls := "HammerTowers", name := "asked", desc := "()I" } : Jvm.MethodName)) ∈ lw_all := lw_g (lw_at lw_m1 23 rfl) rfl
theorem q81 : (Jvm.Cond.code ({ cls := "HammerTowers", name := "asked", desc := "()I" } : Jvm.MethodName) prog_1_method_4_code (1 : Nat) (Option.some Jvm.ClassFile.FieldType.int)) ∈ lw_all := lw_g (lw_at lw_m1 24 rfl) rfl
theorem q83 : (Jvm.Cond.instantiable "HammerTowers" (29 : Nat)) ∈ lw_all := lw_g (lw_at lw_m1 26 rfl) rfl
theorem q85 : (Jvm.Cond.instanceMethod ({ cls := "HammerTowers", name := "<init>", desc := "()V" } : Jvm.MethodName)) ∈ lw_all := lw_g (lw_at lw_m1 28 rfl) rfl
theorem q86 : (Jvm.Cond.code ({ cls := "HammerTowers", name := "<init>", desc := "()V" } : Jvm.MethodName) prog_1_method_5_code (1 : Nat) (Option.none : Option Jvm.ClassFile.FieldType)) ∈ lw_all := lw_g (lw_at lw_m1 29 rfl) rfl
theorem q87 : (Jvm.Cond.methodLink "HammerTowers" (14 : Nat) ({ cls := "java/lang/Object", name := "<init>", desc := "()V" } : Jvm.MethodName)) ∈ lw_all := lw_g (lw_at lw_m1 30 rfl) rfl
theorem q90 : (Jvm.Cond.classLink "HammerTowers" (20 : Nat) "[B") ∈ lw_all := lw_g (lw_at lw_m1 33 rfl) rfl
theorem q92 : (Jvm.Cond.classLink "HammerTowers" (26 : Nat) "HammerTowers$Train") ∈ lw_all := lw_g (lw_at lw_m1 35 rfl) rfl
theorem q94 : (Jvm.Cond.classLink "HammerTowers" (32 : Nat) "HammerTowers$Tower") ∈ lw_all := lw_g (lw_at lw_m1 37 rfl) rfl
theorem q96 : (Jvm.Cond.fieldLink "HammerTowers" (1 : Nat) "HammerTowers" "latest" "I") ∈ lw_all := lw_g (lw_at lw_m1 39 rfl) rfl
theorem q97 : (Jvm.Cond.fieldLink "HammerTowers" (7 : Nat) "HammerTowers" "came" "[I") ∈ lw_all := lw_g (lw_at lw_m1 40 rfl) rfl
theorem q98 : (Jvm.Cond.fieldLink "HammerTowers" (11 : Nat) "HammerTowers" "asked" "I") ∈ lw_all := lw_g (lw_at lw_m1 41 rfl) rfl
theorem q99 : (Jvm.Cond.fieldLink "HammerTowers" (22 : Nat) "HammerTowers" "rows" "[[B") ∈ lw_all := lw_g (lw_at lw_m1 42 rfl) rfl
theorem q100 : (Jvm.Cond.fieldLink "HammerTowers" (28 : Nat) "HammerTowers" "trains" "[LHammerTowers$Train;") ∈ lw_all := lw_g (lw_at lw_m1 43 rfl) rfl
theorem q101 : (Jvm.Cond.fieldLink "HammerTowers" (93 : Nat) "HammerTowers" "trainMany" "I") ∈ lw_all := lw_g (lw_at lw_m1 44 rfl) rfl
theorem q103 : (Jvm.Cond.fieldLink "HammerTowers" (247 : Nat) "HammerTowers" "now" "I") ∈ lw_all := lw_g (lw_at lw_m1 46 rfl) rfl
theorem q104 : (Jvm.Cond.fieldLink "HammerTowers" (34 : Nat) "HammerTowers" "towers" "[LHammerTowers$Tower;") ∈ lw_all := lw_g (lw_at lw_m1 47 rfl) rfl
theorem q105 : (Jvm.Cond.fieldLink "HammerTowers" (38 : Nat) "HammerTowers" "costs" "[I") ∈ lw_all := lw_g (lw_at lw_m1 48 rfl) rfl
theorem q106 : (Jvm.Cond.fieldLink "HammerTowers" (324 : Nat) "HammerTowers" "actMany" "I") ∈ lw_all := lw_g (lw_at lw_m1 49 rfl) rfl
theorem q107 : (Jvm.Cond.fieldLink "HammerTowers" (41 : Nat) "HammerTowers" "acts" "[I") ∈ lw_all := lw_g (lw_at lw_m1 50 rfl) rfl
theorem q108 : (Jvm.Cond.fieldLink "HammerTowers" (354 : Nat) "HammerTowers" "faultSort" "I") ∈ lw_all := lw_g (lw_at lw_m1 51 rfl) rfl
theorem q109 : (Jvm.Cond.fieldLink "HammerTowers" (44 : Nat) "HammerTowers" "faultOne" "I") ∈ lw_all := lw_g (lw_at lw_m1 52 rfl) rfl
theorem q110 : (Jvm.Cond.fieldLink "HammerTowers" (47 : Nat) "HammerTowers" "faultOther" "I") ∈ lw_all := lw_g (lw_at lw_m1 53 rfl) rfl
theorem q111 : (Jvm.Cond.fieldLink "HammerTowers" (351 : Nat) "HammerTowers" "fewest" "I") ∈ lw_all := lw_g (lw_at lw_m1 54 rfl) rfl
theorem q112 : (Jvm.Cond.fieldLink "HammerTowers" (348 : Nat) "HammerTowers" "explained" "I") ∈ lw_all := lw_g (lw_at lw_m1 55 rfl) rfl
theorem q113 : (Jvm.Cond.fieldLink "HammerTowers" (50 : Nat) "HammerTowers" "toldOne" "I") ∈ lw_all := lw_g (lw_at lw_m1 56 rfl) rfl
theorem q114 : (Jvm.Cond.fieldLink "HammerTowers" (53 : Nat) "HammerTowers" "toldOther" "I") ∈ lw_all := lw_g (lw_at lw_m1 57 rfl) rfl
theorem q115 : (Jvm.Cond.fieldLink "HammerTowers" (368 : Nat) "HammerTowers" "upper" "J") ∈ lw_all := lw_g (lw_at lw_m1 58 rfl) rfl
theorem q116 : (Jvm.Cond.fieldLink "HammerTowers" (56 : Nat) "HammerTowers" "lower" "J") ∈ lw_all := lw_g (lw_at lw_m1 59 rfl) rfl
theorem q117 : (Jvm.Cond.fieldLink "HammerTowers" (371 : Nat) "HammerTowers" "wheelMany" "I") ∈ lw_all := lw_g (lw_at lw_m1 60 rfl) rfl
theorem q118 : (Jvm.Cond.fieldLink "HammerTowers" (60 : Nat) "HammerTowers" "teeth" "[I") ∈ lw_all := lw_g (lw_at lw_m1 61 rfl) rfl
theorem q119 : (Jvm.Cond.fieldLink "HammerTowers" (386 : Nat) "HammerTowers" "chosenMany" "I") ∈ lw_all := lw_g (lw_at lw_m1 62 rfl) rfl
theorem q120 : (Jvm.Cond.fieldLink "HammerTowers" (63 : Nat) "HammerTowers" "chosen" "[I") ∈ lw_all := lw_g (lw_at lw_m1 63 rfl) rfl
theorem q121 : (Jvm.Cond.fieldLink "HammerTowers" (66 : Nat) "HammerTowers" "tried" "[I") ∈ lw_all := lw_g (lw_at lw_m1 64 rfl) rfl
theorem q122 : (Jvm.Cond.fieldLink "HammerTowers" (383 : Nat) "HammerTowers" "bestUp" "J") ∈ lw_all := lw_g (lw_at lw_m1 65 rfl) rfl
theorem q123 : (Jvm.Cond.fieldLink "HammerTowers" (374 : Nat) "HammerTowers" "bestLow" "J") ∈ lw_all := lw_g (lw_at lw_m1 66 rfl) rfl
theorem q124 : (Jvm.Cond.fieldLink "HammerTowers" (380 : Nat) "HammerTowers" "farUp" "J") ∈ lw_all := lw_g (lw_at lw_m1 67 rfl) rfl
theorem q125 : (Jvm.Cond.fieldLink "HammerTowers" (377 : Nat) "HammerTowers" "farLow" "J") ∈ lw_all := lw_g (lw_at lw_m1 68 rfl) rfl
theorem q126 : (Jvm.Cond.lays "HammerTowers" "HammerTowers" "latest" "I") ∈ lw_all := lw_g (lw_at lw_m1 69 rfl) rfl
theorem q127 : (Jvm.Cond.soleField "HammerTowers" "latest") ∈ lw_all := lw_g (lw_at lw_m1 70 rfl) rfl
theorem q128 : (Jvm.Cond.laysFinal "HammerTowers" "HammerTowers" "came" "[I") ∈ lw_all := lw_g (lw_at lw_m1 71 rfl) rfl
theorem q129 : (Jvm.Cond.soleField "HammerTowers" "came") ∈ lw_all := lw_g (lw_at lw_m1 72 rfl) rfl
theorem q130 : (Jvm.Cond.lays "HammerTowers" "HammerTowers" "asked" "I") ∈ lw_all := lw_g (lw_at lw_m1 73 rfl) rfl
theorem q131 : (Jvm.Cond.soleField "HammerTowers" "asked") ∈ lw_all := lw_g (lw_at lw_m1 74 rfl) rfl
theorem q132 : (Jvm.Cond.laysFinal "HammerTowers" "HammerTowers" "rows" "[[B") ∈ lw_all := lw_g (lw_at lw_m1 75 rfl) rfl
theorem q133 : (Jvm.Cond.soleField "HammerTowers" "rows") ∈ lw_all := lw_g (lw_at lw_m1 76 rfl) rfl
theorem q134 : (Jvm.Cond.laysFinal "HammerTowers" "HammerTowers" "trains" "[LHammerTowers$Train;") ∈ lw_all := lw_g (lw_at lw_m1 77 rfl) rfl
theorem q135 : (Jvm.Cond.soleField "HammerTowers" "trains") ∈ lw_all := lw_g (lw_at lw_m1 78 rfl) rfl
theorem q136 : (Jvm.Cond.lays "HammerTowers" "HammerTowers" "trainMany" "I") ∈ lw_all := lw_g (lw_at lw_m1 79 rfl) rfl
theorem q137 : (Jvm.Cond.soleField "HammerTowers" "trainMany") ∈ lw_all := lw_g (lw_at lw_m1 80 rfl) rfl
theorem q138 : (Jvm.Cond.lays "HammerTowers" "HammerTowers" "now" "I") ∈ lw_all := lw_g (lw_at lw_m1 81 rfl) rfl
theorem q139 : (Jvm.Cond.soleField "HammerTowers" "now") ∈ lw_all := lw_g (lw_at lw_m1 82 rfl) rfl
theorem q140 : (Jvm.Cond.laysFinal "HammerTowers" "HammerTowers" "towers" "[LHammerTowers$Tower;") ∈ lw_all := lw_g (lw_at lw_m1 83 rfl) rfl
theorem q141 : (Jvm.Cond.soleField "HammerTowers" "towers") ∈ lw_all := lw_g (lw_at lw_m1 84 rfl) rfl
theorem q142 : (Jvm.Cond.laysFinal "HammerTowers" "HammerTowers" "costs" "[I") ∈ lw_all := lw_g (lw_at lw_m1 85 rfl) rfl
theorem q143 : (Jvm.Cond.soleField "HammerTowers" "costs") ∈ lw_all := lw_g (lw_at lw_m1 86 rfl) rfl
theorem q144 : (Jvm.Cond.lays "HammerTowers" "HammerTowers" "actMany" "I") ∈ lw_all := lw_g (lw_at lw_m1 87 rfl) rfl
theorem q145 : (Jvm.Cond.soleField "HammerTowers" "actMany") ∈ lw_all := lw_g (lw_at lw_m1 88 rfl) rfl
theorem q146 : (Jvm.Cond.laysFinal "HammerTowers" "HammerTowers" "acts" "[I") ∈ lw_all := lw_g (lw_at lw_m1 89 rfl) rfl
theorem q147 : (Jvm.Cond.soleField "HammerTowers" "acts") ∈ lw_all := lw_g (lw_at lw_m1 90 rfl) rfl
theorem q148 : (Jvm.Cond.lays "HammerTowers" "HammerTowers" "faultSort" "I") ∈ lw_all := lw_g (lw_at lw_m1 91 rfl) rfl
theorem q149 : (Jvm.Cond.soleField "HammerTowers" "faultSort") ∈ lw_all := lw_g (lw_at lw_m1 92 rfl) rfl
theorem q150 : (Jvm.Cond.lays "HammerTowers" "HammerTowers" "faultOne" "I") ∈ lw_all := lw_g (lw_at lw_m1 93 rfl) rfl
theorem q151 : (Jvm.Cond.soleField "HammerTowers" "faultOne") ∈ lw_all := lw_g (lw_at lw_m1 94 rfl) rfl
theorem q152 : (Jvm.Cond.lays "HammerTowers" "HammerTowers" "faultOther" "I") ∈ lw_all := lw_g (lw_at lw_m1 95 rfl) rfl
theorem q153 : (Jvm.Cond.soleField "HammerTowers" "faultOther") ∈ lw_all := lw_g (lw_at lw_m1 96 rfl) rfl
theorem q154 : (Jvm.Cond.lays "HammerTowers" "HammerTowers" "fewest" "I") ∈ lw_all := lw_g (lw_at lw_m1 97 rfl) rfl
theorem q155 : (Jvm.Cond.soleField "HammerTowers" "fewest") ∈ lw_all := lw_g (lw_at lw_m1 98 rfl) rfl
theorem q156 : (Jvm.Cond.lays "HammerTowers" "HammerTowers" "explained" "I") ∈ lw_all := lw_g (lw_at lw_m1 99 rfl) rfl
theorem q157 : (Jvm.Cond.soleField "HammerTowers" "explained") ∈ lw_all := lw_g (lw_at lw_m1 100 rfl) rfl
theorem q158 : (Jvm.Cond.lays "HammerTowers" "HammerTowers" "toldOne" "I") ∈ lw_all := lw_g (lw_at lw_m1 101 rfl) rfl
theorem q159 : (Jvm.Cond.soleField "HammerTowers" "toldOne") ∈ lw_all := lw_g (lw_at lw_m1 102 rfl) rfl
theorem q160 : (Jvm.Cond.lays "HammerTowers" "HammerTowers" "toldOther" "I") ∈ lw_all := lw_g (lw_at lw_m1 103 rfl) rfl
theorem q161 : (Jvm.Cond.soleField "HammerTowers" "toldOther") ∈ lw_all := lw_g (lw_at lw_m1 104 rfl) rfl
theorem q162 : (Jvm.Cond.lays "HammerTowers" "HammerTowers" "upper" "J") ∈ lw_all := lw_g (lw_at lw_m1 105 rfl) rfl
theorem q163 : (Jvm.Cond.soleField "HammerTowers" "upper") ∈ lw_all := lw_g (lw_at lw_m1 106 rfl) rfl
theorem q164 : (Jvm.Cond.lays "HammerTowers" "HammerTowers" "lower" "J") ∈ lw_all := lw_g (lw_at lw_m1 107 rfl) rfl
theorem q165 : (Jvm.Cond.soleField "HammerTowers" "lower") ∈ lw_all := lw_g (lw_at lw_m1 108 rfl) rfl
theorem q166 : (Jvm.Cond.lays "HammerTowers" "HammerTowers" "wheelMany" "I") ∈ lw_all := lw_g (lw_at lw_m1 109 rfl) rfl
theorem q167 : (Jvm.Cond.soleField "HammerTowers" "wheelMany") ∈ lw_all := lw_g (lw_at lw_m1 110 rfl) rfl
theorem q168 : (Jvm.Cond.laysFinal "HammerTowers" "HammerTowers" "teeth" "[I") ∈ lw_all := lw_g (lw_at lw_m1 111 rfl) rfl
theorem q169 : (Jvm.Cond.soleField "HammerTowers" "teeth") ∈ lw_all := lw_g (lw_at lw_m1 112 rfl) rfl
theorem q170 : (Jvm.Cond.lays "HammerTowers" "HammerTowers" "chosenMany" "I") ∈ lw_all := lw_g (lw_at lw_m1 113 rfl) rfl
theorem q171 : (Jvm.Cond.soleField "HammerTowers" "chosenMany") ∈ lw_all := lw_g (lw_at lw_m1 114 rfl) rfl
theorem q172 : (Jvm.Cond.laysFinal "HammerTowers" "HammerTowers" "chosen" "[I") ∈ lw_all := lw_g (lw_at lw_m1 115 rfl) rfl
theorem q173 : (Jvm.Cond.soleField "HammerTowers" "chosen") ∈ lw_all := lw_g (lw_at lw_m1 116 rfl) rfl
theorem q174 : (Jvm.Cond.laysFinal "HammerTowers" "HammerTowers" "tried" "[I") ∈ lw_all := lw_g (lw_at lw_m1 117 rfl) rfl
theorem q175 : (Jvm.Cond.soleField "HammerTowers" "tried") ∈ lw_all := lw_g (lw_at lw_m1 118 rfl) rfl
theorem q176 : (Jvm.Cond.lays "HammerTowers" "HammerTowers" "bestUp" "J") ∈ lw_all := lw_g (lw_at lw_m1 119 rfl) rfl
theorem q177 : (Jvm.Cond.soleField "HammerTowers" "bestUp") ∈ lw_all := lw_g (lw_at lw_m1 120 rfl) rfl
theorem q178 : (Jvm.Cond.lays "HammerTowers" "HammerTowers" "bestLow" "J") ∈ lw_all := lw_g (lw_at lw_m1 121 rfl) rfl
theorem q179 : (Jvm.Cond.soleField "HammerTowers" "bestLow") ∈ lw_all := lw_g (lw_at lw_m1 122 rfl) rfl
theorem q180 : (Jvm.Cond.lays "HammerTowers" "HammerTowers" "farUp" "J") ∈ lw_all := lw_g (lw_at lw_m1 123 rfl) rfl
theorem q181 : (Jvm.Cond.soleField "HammerTowers" "farUp") ∈ lw_all := lw_g (lw_at lw_m1 124 rfl) rfl
theorem q182 : (Jvm.Cond.lays "HammerTowers" "HammerTowers" "farLow" "J") ∈ lw_all := lw_g (lw_at lw_m1 125 rfl) rfl
theorem q183 : (Jvm.Cond.soleField "HammerTowers" "farLow") ∈ lw_all := lw_g (lw_at lw_m1 126 rfl) rfl
theorem q184 : (Jvm.Cond.superclass "HammerTowers" "java/lang/Object") ∈ lw_all := lw_g (lw_at lw_m1 127 rfl) rfl
theorem q187 : (Jvm.Cond.instanceMethod ({ cls := "HammerTowers", name := "row", desc := "(II)I" } : Jvm.MethodName)) ∈ lw_all := lw_g (lw_at lw_m1 130 rfl) rfl
theorem q188 : (Jvm.Cond.selects "HammerTowers" ({ cls := "HammerTowers", name := "row", desc := "(II)I" } : Jvm.MethodName) ({ cls := "HammerTowers", name := "row", desc := "(II)I" } : Jvm.MethodName)) ∈ lw_all := lw_g (lw_at lw_m1 131 rfl) rfl
theorem q189 : (Jvm.Cond.codeWith ({ cls := "HammerTowers", name := "row", desc := "(II)I" } : Jvm.MethodName) prog_1_method_7_code (4 : Nat) (Option.some Jvm.ClassFile.FieldType.int) [((15 : Nat), (25 : Nat), (26 : Nat), (77 : Nat))]) ∈ lw_all := lw_g (lw_at lw_m1 132 rfl) rfl
theorem q190 : (Jvm.Cond.classLink "HammerTowers" (77 : Nat) "java/lang/NegativeArraySizeException") ∈ lw_all := lw_g (lw_at lw_m1 133 rfl) rfl
theorem q277 : (Jvm.Cond.methodLink "HammerTowers" (73 : Nat) ({ cls := "HammerTowers", name := "isRow", desc := "(I)Z" } : Jvm.MethodName)) ∈ lw_all := lw_g (lw_at lw_m1 220 rfl) rfl
theorem q278 : (Jvm.Cond.static ({ cls := "HammerTowers", name := "isRow", desc := "(I)Z" } : Jvm.MethodName)) ∈ lw_all := lw_g (lw_at lw_m1 221 rfl) rfl
theorem q279 : (Jvm.Cond.code ({ cls := "HammerTowers", name := "isRow", desc := "(I)Z" } : Jvm.MethodName) prog_1_method_6_code (1 : Nat) (Option.some Jvm.ClassFile.FieldType.boolean)) ∈ lw_all := lw_g (lw_at lw_m1 222 rfl) rfl
theorem q280 : (Jvm.Cond.methodLink "HammerTowers" (69 : Nat) ({ cls := "HammerTowers", name := "in", desc := "(III)Z" } : Jvm.MethodName)) ∈ lw_all := lw_g (lw_at lw_m1 223 rfl) rfl
theorem q281 : (Jvm.Cond.static ({ cls := "HammerTowers", name := "in", desc := "(III)Z" } : Jvm.MethodName)) ∈ lw_all := lw_g (lw_at lw_m1 224 rfl) rfl
theorem q282 : (Jvm.Cond.code ({ cls := "HammerTowers", name := "in", desc := "(III)Z" } : Jvm.MethodName) prog_1_method_1_code (3 : Nat) (Option.some Jvm.ClassFile.FieldType.boolean)) ∈ lw_all := lw_g (lw_at lw_m1 225 rfl) rfl
theorem q283 : (Jvm.Cond.methodLink "HammerTowers" (79 : Nat) ({ cls := "HammerTowers", name := "found", desc := "(I)I" } : Jvm.MethodName)) ∈ lw_all := lw_g (lw_at lw_m1 226 rfl) rfl
theorem q284 : (Jvm.Cond.privateMethod ({ cls := "HammerTowers", name := "found", desc := "(I)I" } : Jvm.MethodName)) ∈ lw_tbl := lw_at lw_m1 227 rfl
theorem q285 : (Jvm.Cond.instanceMethod ({ cls := "HammerTowers", name := "found", desc := "(I)I" } : Jvm.MethodName)) ∈ lw_all := lw_g (lw_at lw_m1 228 rfl) rfl
theorem q286 : (Jvm.Cond.code ({ cls := "HammerTowers", name := "found", desc := "(I)I" } : Jvm.MethodName) prog_1_method_2_code (2 : Nat) (Option.some Jvm.ClassFile.FieldType.int)) ∈ lw_all := lw_g (lw_at lw_m1 229 rfl) rfl
theorem q288 : (Jvm.Cond.instanceMethod ({ cls := "HammerTowers", name := "lay", desc := "(III)I" } : Jvm.MethodName)) ∈ lw_all := lw_g (lw_at lw_m1 231 rfl) rfl
theorem q289 : (Jvm.Cond.selects "HammerTowers" ({ cls := "HammerTowers", name := "lay", desc := "(III)I" } : Jvm.MethodName) ({ cls := "HammerTowers", name := "lay", desc := "(III)I" } : Jvm.MethodName)) ∈ lw_all := lw_g (lw_at lw_m1 232 rfl) rfl
theorem q290 : (Jvm.Cond.codeWith ({ cls := "HammerTowers", name := "lay", desc := "(III)I" } : Jvm.MethodName) prog_1_method_8_code (5 : Nat) (Option.some Jvm.ClassFile.FieldType.int) [((9 : Nat), (35 : Nat), (36 : Nat), (83 : Nat)), ((9 : Nat), (35 : Nat), (44 : Nat), (85 : Nat))]) ∈ lw_all := lw_g (lw_at lw_m1 233 rfl) rfl
theorem q291 : (Jvm.Cond.classLink "HammerTowers" (83 : Nat) "java/lang/NullPointerException") ∈ lw_all := lw_g (lw_at lw_m1 234 rfl) rfl
theorem q316 : (Jvm.Cond.classLink "HammerTowers" (85 : Nat) "java/lang/IndexOutOfBoundsException") ∈ lw_all := lw_g (lw_at lw_m2 19 rfl) rfl
theorem q336 : (Jvm.Cond.instanceMethod ({ cls := "HammerTowers", name := "tear", desc := "(I)I" } : Jvm.MethodName)) ∈ lw_all := lw_g (lw_at lw_m2 39 rfl) rfl
theorem q337 : (Jvm.Cond.selects "HammerTowers" ({ cls := "HammerTowers", name := "tear", desc := "(I)I" } : Jvm.MethodName) ({ cls := "HammerTowers", name := "tear", desc := "(I)I" } : Jvm.MethodName)) ∈ lw_all := lw_g (lw_at lw_m2 40 rfl) rfl
theorem q338 : (Jvm.Cond.code ({ cls := "HammerTowers", name := "tear", desc := "(I)I" } : Jvm.MethodName) prog_1_method_9_code (2 : Nat) (Option.some Jvm.ClassFile.FieldType.int)) ∈ lw_all := lw_g (lw_at lw_m2 41 rfl) rfl
theorem q340 : (Jvm.Cond.instanceMethod ({ cls := "HammerTowers", name := "copy", desc := "(IIIII)I" } : Jvm.MethodName)) ∈ lw_all := lw_g (lw_at lw_m2 43 rfl) rfl
theorem q341 : (Jvm.Cond.selects "HammerTowers" ({ cls := "HammerTowers", name := "copy", desc := "(IIIII)I" } : Jvm.MethodName) ({ cls := "HammerTowers", name := "copy", desc := "(IIIII)I" } : Jvm.MethodName)) ∈ lw_all := lw_g (lw_at lw_m2 44 rfl) rfl
theorem q342 : (Jvm.Cond.codeWith ({ cls := "HammerTowers", name := "copy", desc := "(IIIII)I" } : Jvm.MethodName) prog_1_method_10_code (7 : Nat) (Option.some Jvm.ClassFile.FieldType.int) [((27 : Nat), (48 : Nat), (49 : Nat), (83 : Nat)), ((27 : Nat), (48 : Nat), (57 : Nat), (85 : Nat))]) ∈ lw_all := lw_g (lw_at lw_m2 45 rfl) rfl
theorem q343 : (Jvm.Cond.methodLink "HammerTowers" (87 : Nat) ({ cls := "java/lang/System", name := "arraycopy", desc := "(Ljava/lang/Object;ILjava/lang/Object;II)V" } : Jvm.MethodName)) ∈ lw_all := lw_g (lw_at lw_m2 46 rfl) rfl
theorem q347 : (Jvm.Cond.instanceMethod ({ cls := "HammerTowers", name := "train", desc := "()I" } : Jvm.MethodName)) ∈ lw_all := lw_g (lw_at lw_m2 50 rfl) rfl
theorem q348 : (Jvm.Cond.selects "HammerTowers" ({ cls := "HammerTowers", name := "train", desc := "()I" } : Jvm.MethodName) ({ cls := "HammerTowers", name := "train", desc := "()I" } : Jvm.MethodName)) ∈ lw_all := lw_g (lw_at lw_m2 51 rfl) rfl
theorem q349 : (Jvm.Cond.code ({ cls := "HammerTowers", name := "train", desc := "()I" } : Jvm.MethodName) prog_1_method_13_code (1 : Nat) (Option.some Jvm.ClassFile.FieldType.int)) ∈ lw_all := lw_g (lw_at lw_m2 52 rfl) rfl
theorem q351 : (Jvm.Cond.methodLink "HammerTowers" (96 : Nat) ({ cls := "HammerTowers$Train", name := "<init>", desc := "(LHammerTowers;I)V" } : Jvm.MethodName)) ∈ lw_all := lw_g (lw_at lw_m2 54 rfl) rfl
theorem q357 : (Jvm.Cond.fieldLink "HammerTowers" (205 : Nat) "HammerTowers$Train" "number" "I") ∈ lw_all := lw_g (lw_at lw_m2 60 rfl) rfl
theorem q360 : (Jvm.Cond.fieldLink "HammerTowers" (127 : Nat) "HammerTowers$Train" "pace" "I") ∈ lw_all := lw_g (lw_at lw_m2 63 rfl) rfl
theorem q362 : (Jvm.Cond.fieldLink "HammerTowers" (130 : Nat) "HammerTowers$Train" "fall" "I") ∈ lw_all := lw_g (lw_at lw_m2 65 rfl) rfl
theorem q365 : (Jvm.Cond.fieldLink "HammerTowers" (124 : Nat) "HammerTowers$Train" "weight" "I") ∈ lw_all := lw_g (lw_at lw_m2 68 rfl) rfl
theorem q367 : (Jvm.Cond.fieldLink "HammerTowers" (133 : Nat) "HammerTowers$Train" "broken" "I") ∈ lw_all := lw_g (lw_at lw_m2 70 rfl) rfl
theorem q374 : (Jvm.Cond.fieldLink "HammerTowers" (146 : Nat) "HammerTowers$Train" "due" "I") ∈ lw_all := lw_g (lw_at lw_m2 77 rfl) rfl
theorem q376 : (Jvm.Cond.fieldLink "HammerTowers" (152 : Nat) "HammerTowers$Train" "ever" "I") ∈ lw_all := lw_g (lw_at lw_m2 79 rfl) rfl
theorem q378 : (Jvm.Cond.fieldLink "HammerTowers" (149 : Nat) "HammerTowers$Train" "place" "I") ∈ lw_all := lw_g (lw_at lw_m2 81 rfl) rfl
theorem q380 : (Jvm.Cond.fieldLink "HammerTowers" (198 : Nat) "HammerTowers$Train" "isWarned" "Z") ∈ lw_all := lw_g (lw_at lw_m2 83 rfl) rfl
theorem q387 : (Jvm.Cond.fieldLink "HammerTowers" (202 : Nat) "HammerTowers$Train" "lifts" "Z") ∈ lw_all := lw_g (lw_at lw_m2 90 rfl) rfl
theorem q412 : (Jvm.Cond.methodLink "HammerTowers" (99 : Nat) ({ cls := "HammerTowers", name := "comes", desc := "(LHammerTowers$Train;)I" } : Jvm.MethodName)) ∈ lw_all := lw_g (lw_at lw_m2 115 rfl) rfl
theorem q413 : (Jvm.Cond.privateMethod ({ cls := "HammerTowers", name := "comes", desc := "(LHammerTowers$Train;)I" } : Jvm.MethodName)) ∈ lw_tbl := lw_at lw_m2 116 rfl
theorem q414 : (Jvm.Cond.instanceMethod ({ cls := "HammerTowers", name := "comes", desc := "(LHammerTowers$Train;)I" } : Jvm.MethodName)) ∈ lw_all := lw_g (lw_at lw_m2 117 rfl) rfl
theorem q415 : (Jvm.Cond.code ({ cls := "HammerTowers", name := "comes", desc := "(LHammerTowers$Train;)I" } : Jvm.MethodName) prog_1_method_12_code (2 : Nat) (Option.some Jvm.ClassFile.FieldType.int)) ∈ lw_all := lw_g (lw_at lw_m2 118 rfl) rfl
theorem q417 : (Jvm.Cond.instanceMethod ({ cls := "HammerTowers", name := "plate", desc := "(I)I" } : Jvm.MethodName)) ∈ lw_all := lw_g (lw_at lw_m2 120 rfl) rfl
theorem q418 : (Jvm.Cond.selects "HammerTowers" ({ cls := "HammerTowers", name := "plate", desc := "(I)I" } : Jvm.MethodName) ({ cls := "HammerTowers", name := "plate", desc := "(I)I" } : Jvm.MethodName)) ∈ lw_all := lw_g (lw_at lw_m2 121 rfl) rfl
theorem q419 : (Jvm.Cond.code ({ cls := "HammerTowers", name := "plate", desc := "(I)I" } : Jvm.MethodName) prog_1_method_15_code (3 : Nat) (Option.some Jvm.ClassFile.FieldType.int)) ∈ lw_all := lw_g (lw_at lw_m2 122 rfl) rfl
theorem q420 : (Jvm.Cond.methodLink "HammerTowers" (103 : Nat) ({ cls := "HammerTowers", name := "strokesOf", desc := "([B)[I" } : Jvm.MethodName)) ∈ lw_all := lw_g (lw_at lw_m2 123 rfl) rfl
theorem q421 : (Jvm.Cond.static ({ cls := "HammerTowers", name := "strokesOf", desc := "([B)[I" } : Jvm.MethodName)) ∈ lw_all := lw_g (lw_at lw_m2 124 rfl) rfl
theorem q422 : (Jvm.Cond.code ({ cls := "HammerTowers", name := "strokesOf", desc := "([B)[I" } : Jvm.MethodName) prog_1_method_14_code (4 : Nat) (Option.some (Jvm.ClassFile.FieldType.array Jvm.ClassFile.FieldType.int))) ∈ lw_all := lw_g (lw_at lw_m2 125 rfl) rfl
theorem q423 : (Jvm.Cond.classLink "HammerTowers" (107 : Nat) "HammerTowers$Plate") ∈ lw_all := lw_g (lw_at lw_m2 126 rfl) rfl
theorem q425 : (Jvm.Cond.methodLink "HammerTowers" (109 : Nat) ({ cls := "HammerTowers$Plate", name := "<init>", desc := "(LHammerTowers;I[I)V" } : Jvm.MethodName)) ∈ lw_all := lw_g (lw_at lw_m2 128 rfl) rfl
theorem q431 : (Jvm.Cond.fieldLink "HammerTowers" (177 : Nat) "HammerTowers$Plate" "at" "I") ∈ lw_all := lw_g (lw_at lw_m2 134 rfl) rfl
theorem q452 : (Jvm.Cond.instanceMethod ({ cls := "HammerTowers", name := "snail", desc := "(I)I" } : Jvm.MethodName)) ∈ lw_all := lw_g (lw_at lw_m2 155 rfl) rfl
theorem q453 : (Jvm.Cond.selects "HammerTowers" ({ cls := "HammerTowers", name := "snail", desc := "(I)I" } : Jvm.MethodName) ({ cls := "HammerTowers", name := "snail", desc := "(I)I" } : Jvm.MethodName)) ∈ lw_all := lw_g (lw_at lw_m2 156 rfl) rfl
theorem q454 : (Jvm.Cond.code ({ cls := "HammerTowers", name := "snail", desc := "(I)I" } : Jvm.MethodName) prog_1_method_16_code (3 : Nat) (Option.some Jvm.ClassFile.FieldType.int)) ∈ lw_all := lw_g (lw_at lw_m2 157 rfl) rfl
theorem q455 : (Jvm.Cond.classLink "HammerTowers" (112 : Nat) "HammerTowers$Snail") ∈ lw_all := lw_g (lw_at lw_m2 158 rfl) rfl
theorem q457 : (Jvm.Cond.methodLink "HammerTowers" (114 : Nat) ({ cls := "HammerTowers$Snail", name := "<init>", desc := "(LHammerTowers;I[I)V" } : Jvm.MethodName)) ∈ lw_all := lw_g (lw_at lw_m2 160 rfl) rfl
theorem q480 : (Jvm.Cond.instanceMethod ({ cls := "HammerTowers", name := "barrel", desc := "(II)I" } : Jvm.MethodName)) ∈ lw_all := lw_g (lw_at lw_m2 183 rfl) rfl
theorem q481 : (Jvm.Cond.selects "HammerTowers" ({ cls := "HammerTowers", name := "barrel", desc := "(II)I" } : Jvm.MethodName) ({ cls := "HammerTowers", name := "barrel", desc := "(II)I" } : Jvm.MethodName)) ∈ lw_all := lw_g (lw_at lw_m2 184 rfl) rfl
theorem q482 : (Jvm.Cond.code ({ cls := "HammerTowers", name := "barrel", desc := "(II)I" } : Jvm.MethodName) prog_1_method_17_code (6 : Nat) (Option.some Jvm.ClassFile.FieldType.int)) ∈ lw_all := lw_g (lw_at lw_m2 185 rfl) rfl
theorem q483 : (Jvm.Cond.classLink "HammerTowers" (115 : Nat) "HammerTowers$Barrel") ∈ lw_all := lw_g (lw_at lw_m2 186 rfl) rfl
theorem q485 : (Jvm.Cond.methodLink "HammerTowers" (117 : Nat) ({ cls := "HammerTowers$Barrel", name := "<init>", desc := "(LHammerTowers;I[I[I)V" } : Jvm.MethodName)) ∈ lw_all := lw_g (lw_at lw_m2 188 rfl) rfl
theorem q490 : (Jvm.Cond.fieldLink "HammerTowers" (412 : Nat) "HammerTowers$Barrel" "pins" "[I") ∈ lw_all := lw_g (lw_at lw_m2 193 rfl) rfl
theorem q515 : (Jvm.Cond.instanceMethod ({ cls := "HammerTowers", name := "gear", desc := "(III)I" } : Jvm.MethodName)) ∈ lw_all := lw_g (lw_at lw_m2 218 rfl) rfl
theorem q516 : (Jvm.Cond.selects "HammerTowers" ({ cls := "HammerTowers", name := "gear", desc := "(III)I" } : Jvm.MethodName) ({ cls := "HammerTowers", name := "gear", desc := "(III)I" } : Jvm.MethodName)) ∈ lw_all := lw_g (lw_at lw_m2 219 rfl) rfl
theorem q517 : (Jvm.Cond.code ({ cls := "HammerTowers", name := "gear", desc := "(III)I" } : Jvm.MethodName) prog_1_method_18_code (6 : Nat) (Option.some Jvm.ClassFile.FieldType.int)) ∈ lw_all := lw_g (lw_at lw_m2 220 rfl) rfl
theorem q518 : (Jvm.Cond.methodLink "HammerTowers" (120 : Nat) ({ cls := "HammerTowers", name := "isTrain", desc := "(I)Z" } : Jvm.MethodName)) ∈ lw_all := lw_g (lw_at lw_m2 221 rfl) rfl
theorem q519 : (Jvm.Cond.privateMethod ({ cls := "HammerTowers", name := "isTrain", desc := "(I)Z" } : Jvm.MethodName)) ∈ lw_tbl := lw_at lw_m2 222 rfl
theorem q520 : (Jvm.Cond.instanceMethod ({ cls := "HammerTowers", name := "isTrain", desc := "(I)Z" } : Jvm.MethodName)) ∈ lw_all := lw_g (lw_at lw_m2 223 rfl) rfl
theorem q521 : (Jvm.Cond.code ({ cls := "HammerTowers", name := "isTrain", desc := "(I)Z" } : Jvm.MethodName) prog_1_method_11_code (2 : Nat) (Option.some Jvm.ClassFile.FieldType.boolean)) ∈ lw_all := lw_g (lw_at lw_m2 224 rfl) rfl
theorem q522 : (Jvm.Cond.constant "HammerTowers" (123 : Nat) (100000 : Int32)) ∈ lw_all := lw_g (lw_at lw_m2 225 rfl) rfl
theorem q524 : (Jvm.Cond.instanceMethod ({ cls := "HammerTowers", name := "wind", desc := "(I)I" } : Jvm.MethodName)) ∈ lw_all := lw_g (lw_at lw_m2 227 rfl) rfl
theorem q525 : (Jvm.Cond.selects "HammerTowers" ({ cls := "HammerTowers", name := "wind", desc := "(I)I" } : Jvm.MethodName) ({ cls := "HammerTowers", name := "wind", desc := "(I)I" } : Jvm.MethodName)) ∈ lw_all := lw_g (lw_at lw_m2 228 rfl) rfl
theorem q526 : (Jvm.Cond.code ({ cls := "HammerTowers", name := "wind", desc := "(I)I" } : Jvm.MethodName) prog_1_method_19_code (3 : Nat) (Option.some Jvm.ClassFile.FieldType.int)) ∈ lw_all := lw_g (lw_at lw_m2 229 rfl) rfl
theorem q528 : (Jvm.Cond.instanceMethod ({ cls := "HammerTowers", name := "broken", desc := "(II)I" } : Jvm.MethodName)) ∈ lw_all := lw_g (lw_at lw_m2 231 rfl) rfl
theorem q529 : (Jvm.Cond.selects "HammerTowers" ({ cls := "HammerTowers", name := "broken", desc := "(II)I" } : Jvm.MethodName) ({ cls := "HammerTowers", name := "broken", desc := "(II)I" } : Jvm.MethodName)) ∈ lw_all := lw_g (lw_at lw_m2 232 rfl) rfl
theorem q530 : (Jvm.Cond.code ({ cls := "HammerTowers", name := "broken", desc := "(II)I" } : Jvm.MethodName) prog_1_method_20_code (4 : Nat) (Option.some Jvm.ClassFile.FieldType.int)) ∈ lw_all := lw_g (lw_at lw_m2 233 rfl) rfl
theorem q532 : (Jvm.Cond.instanceMethod ({ cls := "HammerTowers", name := "told", desc := "(II)I" } : Jvm.MethodName)) ∈ lw_all := lw_g (lw_at lw_m2 235 rfl) rfl
theorem q533 : (Jvm.Cond.selects "HammerTowers" ({ cls := "HammerTowers", name := "told", desc := "(II)I" } : Jvm.MethodName) ({ cls := "HammerTowers", name := "told", desc := "(II)I" } : Jvm.MethodName)) ∈ lw_all := lw_g (lw_at lw_m2 236 rfl) rfl
theorem q534 : (Jvm.Cond.code ({ cls := "HammerTowers", name := "told", desc := "(II)I" } : Jvm.MethodName) prog_1_method_22_code (3 : Nat) (Option.some Jvm.ClassFile.FieldType.int)) ∈ lw_all := lw_g (lw_at lw_m2 237 rfl) rfl
theorem q535 : (Jvm.Cond.methodLink "HammerTowers" (155 : Nat) ({ cls := "HammerTowers", name := "toldOf", desc := "(LHammerTowers$Train;I)I" } : Jvm.MethodName)) ∈ lw_all := lw_g (lw_at lw_m2 238 rfl) rfl
theorem q536 : (Jvm.Cond.static ({ cls := "HammerTowers", name := "toldOf", desc := "(LHammerTowers$Train;I)I" } : Jvm.MethodName)) ∈ lw_all := lw_g (lw_at lw_m2 239 rfl) rfl
theorem q537 : (Jvm.Cond.code ({ cls := "HammerTowers", name := "toldOf", desc := "(LHammerTowers$Train;I)I" } : Jvm.MethodName) prog_1_method_21_code (2 : Nat) (Option.some Jvm.ClassFile.FieldType.int)) ∈ lw_all := lw_g (lw_at lw_m3 0 rfl) rfl
theorem q538 : (Jvm.Cond.methodLink "HammerTowers" (136 : Nat) ({ cls := "HammerTowers$Train", name := "kind", desc := "()I" } : Jvm.MethodName)) ∈ lw_all := lw_g (lw_at lw_m3 1 rfl) rfl
theorem q554 : (Jvm.Cond.methodLink "HammerTowers" (140 : Nat) ({ cls := "HammerTowers$Train", name := "many", desc := "()I" } : Jvm.MethodName)) ∈ lw_all := lw_g (lw_at lw_m3 17 rfl) rfl
theorem q566 : (Jvm.Cond.methodLink "HammerTowers" (143 : Nat) ({ cls := "HammerTowers$Train", name := "at", desc := "()I" } : Jvm.MethodName)) ∈ lw_all := lw_g (lw_at lw_m3 29 rfl) rfl
theorem q577 : (Jvm.Cond.instanceMethod ({ cls := "HammerTowers", name := "mark", desc := "(II)I" } : Jvm.MethodName)) ∈ lw_all := lw_g (lw_at lw_m3 40 rfl) rfl
theorem q578 : (Jvm.Cond.selects "HammerTowers" ({ cls := "HammerTowers", name := "mark", desc := "(II)I" } : Jvm.MethodName) ({ cls := "HammerTowers", name := "mark", desc := "(II)I" } : Jvm.MethodName)) ∈ lw_all := lw_g (lw_at lw_m3 41 rfl) rfl
theorem q579 : (Jvm.Cond.codeWith ({ cls := "HammerTowers", name := "mark", desc := "(II)I" } : Jvm.MethodName) prog_1_method_23_code (7 : Nat) (Option.some Jvm.ClassFile.FieldType.int) [((26 : Nat), (82 : Nat), (107 : Nat), (167 : Nat)), ((83 : Nat), (94 : Nat), (107 : Nat), (167 : Nat)), ((95 : Nat), (106 : Nat), (107 : Nat), (167 : Nat))]) ∈ lw_all := lw_g (lw_at lw_m3 42 rfl) rfl
theorem q580 : (Jvm.Cond.classLink "HammerTowers" (167 : Nat) "java/lang/ClassCastException") ∈ lw_all := lw_g (lw_at lw_m3 43 rfl) rfl
theorem q594 : (Jvm.Cond.methodLink "HammerTowers" (159 : Nat) ({ cls := "HammerTowers$Barrel", name := "asPlate", desc := "()I" } : Jvm.MethodName)) ∈ lw_all := lw_g (lw_at lw_m3 57 rfl) rfl
theorem q601 : (Jvm.Cond.methodLink "HammerTowers" (162 : Nat) ({ cls := "HammerTowers$Plate", name := "mark", desc := "()I" } : Jvm.MethodName)) ∈ lw_all := lw_g (lw_at lw_m3 64 rfl) rfl
theorem q604 : (Jvm.Cond.methodLink "HammerTowers" (165 : Nat) ({ cls := "HammerTowers$Snail", name := "mark", desc := "()I" } : Jvm.MethodName)) ∈ lw_all := lw_g (lw_at lw_m3 67 rfl) rfl
theorem q611 : (Jvm.Cond.methodLink "HammerTowers" (166 : Nat) ({ cls := "HammerTowers$Barrel", name := "mark", desc := "()I" } : Jvm.MethodName)) ∈ lw_all := lw_g (lw_at lw_m3 74 rfl) rfl
theorem q613 : (Jvm.Cond.instanceMethod ({ cls := "HammerTowers", name := "notch", desc := "(II)I" } : Jvm.MethodName)) ∈ lw_all := lw_g (lw_at lw_m3 76 rfl) rfl
theorem q614 : (Jvm.Cond.selects "HammerTowers" ({ cls := "HammerTowers", name := "notch", desc := "(II)I" } : Jvm.MethodName) ({ cls := "HammerTowers", name := "notch", desc := "(II)I" } : Jvm.MethodName)) ∈ lw_all := lw_g (lw_at lw_m3 77 rfl) rfl
theorem q615 : (Jvm.Cond.codeWith ({ cls := "HammerTowers", name := "notch", desc := "(II)I" } : Jvm.MethodName) prog_1_method_24_code (4 : Nat) (Option.some Jvm.ClassFile.FieldType.int) [((28 : Nat), (38 : Nat), (39 : Nat), (85 : Nat))]) ∈ lw_all := lw_g (lw_at lw_m3 78 rfl) rfl
theorem q616 : (Jvm.Cond.methodLink "HammerTowers" (169 : Nat) ({ cls := "HammerTowers$Train", name := "notch", desc := "(I)I" } : Jvm.MethodName)) ∈ lw_all := lw_g (lw_at lw_m3 79 rfl) rfl
theorem q629 : (Jvm.Cond.instanceMethod ({ cls := "HammerTowers", name := "cut", desc := "(III)I" } : Jvm.MethodName)) ∈ lw_all := lw_g (lw_at lw_m3 92 rfl) rfl
theorem q630 : (Jvm.Cond.selects "HammerTowers" ({ cls := "HammerTowers", name := "cut", desc := "(III)I" } : Jvm.MethodName) ({ cls := "HammerTowers", name := "cut", desc := "(III)I" } : Jvm.MethodName)) ∈ lw_all := lw_g (lw_at lw_m3 93 rfl) rfl
theorem q631 : (Jvm.Cond.codeWith ({ cls := "HammerTowers", name := "cut", desc := "(III)I" } : Jvm.MethodName) prog_1_method_25_code (5 : Nat) (Option.some Jvm.ClassFile.FieldType.int) [((38 : Nat), (63 : Nat), (64 : Nat), (85 : Nat))]) ∈ lw_all := lw_g (lw_at lw_m3 94 rfl) rfl
theorem q632 : (Jvm.Cond.methodLink "HammerTowers" (172 : Nat) ({ cls := "HammerTowers$Train", name := "cut", desc := "(II)V" } : Jvm.MethodName)) ∈ lw_all := lw_g (lw_at lw_m3 95 rfl) rfl
theorem q660 : (Jvm.Cond.instanceMethod ({ cls := "HammerTowers", name := "put", desc := "(II)I" } : Jvm.MethodName)) ∈ lw_all := lw_g (lw_at lw_m3 123 rfl) rfl
theorem q661 : (Jvm.Cond.selects "HammerTowers" ({ cls := "HammerTowers", name := "put", desc := "(II)I" } : Jvm.MethodName) ({ cls := "HammerTowers", name := "put", desc := "(II)I" } : Jvm.MethodName)) ∈ lw_all := lw_g (lw_at lw_m3 124 rfl) rfl
theorem q662 : (Jvm.Cond.codeWith ({ cls := "HammerTowers", name := "put", desc := "(II)I" } : Jvm.MethodName) prog_1_method_26_code (5 : Nat) (Option.some Jvm.ClassFile.FieldType.int) [((10 : Nat), (39 : Nat), (54 : Nat), (167 : Nat)), ((40 : Nat), (53 : Nat), (54 : Nat), (167 : Nat))]) ∈ lw_all := lw_g (lw_at lw_m3 125 rfl) rfl
theorem q663 : (Jvm.Cond.methodLink "HammerTowers" (176 : Nat) ({ cls := "HammerTowers$Plate", name := "many", desc := "()I" } : Jvm.MethodName)) ∈ lw_all := lw_g (lw_at lw_m3 126 rfl) rfl
theorem q665 : (Jvm.Cond.instanceMethod ({ cls := "HammerTowers", name := "mean", desc := "(I)I" } : Jvm.MethodName)) ∈ lw_all := lw_g (lw_at lw_m3 128 rfl) rfl
theorem q666 : (Jvm.Cond.selects "HammerTowers" ({ cls := "HammerTowers", name := "mean", desc := "(I)I" } : Jvm.MethodName) ({ cls := "HammerTowers", name := "mean", desc := "(I)I" } : Jvm.MethodName)) ∈ lw_all := lw_g (lw_at lw_m3 129 rfl) rfl
theorem q667 : (Jvm.Cond.codeWith ({ cls := "HammerTowers", name := "mean", desc := "(I)I" } : Jvm.MethodName) prog_1_method_27_code (5 : Nat) (Option.some Jvm.ClassFile.FieldType.int) [((46 : Nat), (52 : Nat), (53 : Nat), (179 : Nat))]) ∈ lw_all := lw_g (lw_at lw_m3 130 rfl) rfl
theorem q668 : (Jvm.Cond.classLink "HammerTowers" (179 : Nat) "java/lang/ArithmeticException") ∈ lw_all := lw_g (lw_at lw_m3 131 rfl) rfl
theorem q683 : (Jvm.Cond.instanceMethod ({ cls := "HammerTowers", name := "tower", desc := "(I)I" } : Jvm.MethodName)) ∈ lw_all := lw_g (lw_at lw_m3 146 rfl) rfl
theorem q684 : (Jvm.Cond.selects "HammerTowers" ({ cls := "HammerTowers", name := "tower", desc := "(I)I" } : Jvm.MethodName) ({ cls := "HammerTowers", name := "tower", desc := "(I)I" } : Jvm.MethodName)) ∈ lw_all := lw_g (lw_at lw_m3 147 rfl) rfl
theorem q685 : (Jvm.Cond.code ({ cls := "HammerTowers", name := "tower", desc := "(I)I" } : Jvm.MethodName) prog_1_method_36_code (4 : Nat) (Option.some Jvm.ClassFile.FieldType.int)) ∈ lw_all := lw_g (lw_at lw_m3 148 rfl) rfl
theorem q686 : (Jvm.Cond.methodLink "HammerTowers" (181 : Nat) ({ cls := "HammerTowers", name := "isTower", desc := "(I)Z" } : Jvm.MethodName)) ∈ lw_all := lw_g (lw_at lw_m3 149 rfl) rfl
theorem q687 : (Jvm.Cond.static ({ cls := "HammerTowers", name := "isTower", desc := "(I)Z" } : Jvm.MethodName)) ∈ lw_all := lw_g (lw_at lw_m3 150 rfl) rfl
theorem q688 : (Jvm.Cond.code ({ cls := "HammerTowers", name := "isTower", desc := "(I)Z" } : Jvm.MethodName) prog_1_method_32_code (1 : Nat) (Option.some Jvm.ClassFile.FieldType.boolean)) ∈ lw_all := lw_g (lw_at lw_m3 151 rfl) rfl
theorem q690 : (Jvm.Cond.methodLinkNest "HammerTowers" (195 : Nat) ({ cls := "HammerTowers$Tower", name := "<init>", desc := "(LHammerTowers;)V" } : Jvm.MethodName) "HammerTowers") ∈ lw_tbl := lw_at lw_m3 153 rfl
theorem q696 : (Jvm.Cond.fieldLinkNest "HammerTowers" (212 : Nat) "HammerTowers$Tower" "hands" "I" "HammerTowers") ∈ lw_tbl := lw_at lw_m3 159 rfl
theorem q698 : (Jvm.Cond.fieldLinkNest "HammerTowers" (254 : Nat) "HammerTowers$Tower" "sum" "I" "HammerTowers") ∈ lw_tbl := lw_at lw_m3 161 rfl
theorem q700 : (Jvm.Cond.fieldLinkNest "HammerTowers" (221 : Nat) "HammerTowers$Tower" "rate" "I" "HammerTowers") ∈ lw_tbl := lw_at lw_m3 163 rfl
theorem q702 : (Jvm.Cond.fieldLinkNest "HammerTowers" (227 : Nat) "HammerTowers$Tower" "going" "I" "HammerTowers") ∈ lw_tbl := lw_at lw_m3 165 rfl
theorem q704 : (Jvm.Cond.fieldLinkNest "HammerTowers" (224 : Nat) "HammerTowers$Tower" "goes" "Z" "HammerTowers") ∈ lw_tbl := lw_at lw_m3 167 rfl
theorem q706 : (Jvm.Cond.fieldLinkNest "HammerTowers" (188 : Nat) "HammerTowers$Tower" "own" "[LHammerTowers$Train;" "HammerTowers") ∈ lw_tbl := lw_at lw_m3 169 rfl
theorem q708 : (Jvm.Cond.fieldLinkNest "HammerTowers" (230 : Nat) "HammerTowers$Tower" "from" "I" "HammerTowers") ∈ lw_tbl := lw_at lw_m3 171 rfl
theorem q710 : (Jvm.Cond.fieldLinkNest "HammerTowers" (233 : Nat) "HammerTowers$Tower" "to" "I" "HammerTowers") ∈ lw_tbl := lw_at lw_m3 173 rfl
theorem q712 : (Jvm.Cond.fieldLinkNest "HammerTowers" (236 : Nat) "HammerTowers$Tower" "sort" "I" "HammerTowers") ∈ lw_tbl := lw_at lw_m3 175 rfl
theorem q714 : (Jvm.Cond.fieldLinkNest "HammerTowers" (270 : Nat) "HammerTowers$Tower" "logMany" "I" "HammerTowers") ∈ lw_tbl := lw_at lw_m3 177 rfl
theorem q716 : (Jvm.Cond.fieldLinkNest "HammerTowers" (273 : Nat) "HammerTowers$Tower" "log" "[I" "HammerTowers") ∈ lw_tbl := lw_at lw_m3 179 rfl
theorem q744 : (Jvm.Cond.instanceMethod ({ cls := "HammerTowers", name := "hang", desc := "(IIZ)I" } : Jvm.MethodName)) ∈ lw_all := lw_g (lw_at lw_m3 207 rfl) rfl
theorem q745 : (Jvm.Cond.selects "HammerTowers" ({ cls := "HammerTowers", name := "hang", desc := "(IIZ)I" } : Jvm.MethodName) ({ cls := "HammerTowers", name := "hang", desc := "(IIZ)I" } : Jvm.MethodName)) ∈ lw_all := lw_g (lw_at lw_m3 208 rfl) rfl
theorem q746 : (Jvm.Cond.code ({ cls := "HammerTowers", name := "hang", desc := "(IIZ)I" } : Jvm.MethodName) prog_1_method_37_code (7 : Nat) (Option.some Jvm.ClassFile.FieldType.int)) ∈ lw_all := lw_g (lw_at lw_m3 209 rfl) rfl
theorem q747 : (Jvm.Cond.methodLink "HammerTowers" (184 : Nat) ({ cls := "HammerTowers", name := "need", desc := "(ZI)I" } : Jvm.MethodName)) ∈ lw_all := lw_g (lw_at lw_m3 210 rfl) rfl
theorem q748 : (Jvm.Cond.privateMethod ({ cls := "HammerTowers", name := "need", desc := "(ZI)I" } : Jvm.MethodName)) ∈ lw_tbl := lw_at lw_m3 211 rfl
theorem q749 : (Jvm.Cond.instanceMethod ({ cls := "HammerTowers", name := "need", desc := "(ZI)I" } : Jvm.MethodName)) ∈ lw_all := lw_g (lw_at lw_m3 212 rfl) rfl
theorem q750 : (Jvm.Cond.code ({ cls := "HammerTowers", name := "need", desc := "(ZI)I" } : Jvm.MethodName) prog_1_method_33_code (3 : Nat) (Option.some Jvm.ClassFile.FieldType.int)) ∈ lw_all := lw_g (lw_at lw_m3 213 rfl) rfl
theorem q751 : (Jvm.Cond.methodLink "HammerTowers" (191 : Nat) ({ cls := "HammerTowers", name := "kOf", desc := "(Z)I" } : Jvm.MethodName)) ∈ lw_all := lw_g (lw_at lw_m3 214 rfl) rfl
theorem q752 : (Jvm.Cond.static ({ cls := "HammerTowers", name := "kOf", desc := "(Z)I" } : Jvm.MethodName)) ∈ lw_all := lw_g (lw_at lw_m3 215 rfl) rfl
theorem q753 : (Jvm.Cond.code ({ cls := "HammerTowers", name := "kOf", desc := "(Z)I" } : Jvm.MethodName) prog_1_method_34_code (1 : Nat) (Option.some Jvm.ClassFile.FieldType.int)) ∈ lw_all := lw_g (lw_at lw_m3 216 rfl) rfl
theorem q755 : (Jvm.Cond.instanceMethod ({ cls := "HammerTowers", name := "unhang", desc := "(IZ)I" } : Jvm.MethodName)) ∈ lw_all := lw_g (lw_at lw_m3 218 rfl) rfl
theorem q756 : (Jvm.Cond.selects "HammerTowers" ({ cls := "HammerTowers", name := "unhang", desc := "(IZ)I" } : Jvm.MethodName) ({ cls := "HammerTowers", name := "unhang", desc := "(IZ)I" } : Jvm.MethodName)) ∈ lw_all := lw_g (lw_at lw_m3 219 rfl) rfl
theorem q757 : (Jvm.Cond.code ({ cls := "HammerTowers", name := "unhang", desc := "(IZ)I" } : Jvm.MethodName) prog_1_method_38_code (5 : Nat) (Option.some Jvm.ClassFile.FieldType.int)) ∈ lw_all := lw_g (lw_at lw_m3 220 rfl) rfl
theorem q758 : (Jvm.Cond.methodLink "HammerTowers" (208 : Nat) ({ cls := "HammerTowers", name := "needOwn", desc := "(IZ)I" } : Jvm.MethodName)) ∈ lw_all := lw_g (lw_at lw_m3 221 rfl) rfl
theorem q759 : (Jvm.Cond.privateMethod ({ cls := "HammerTowers", name := "needOwn", desc := "(IZ)I" } : Jvm.MethodName)) ∈ lw_tbl := lw_at lw_m3 222 rfl
theorem q760 : (Jvm.Cond.instanceMethod ({ cls := "HammerTowers", name := "needOwn", desc := "(IZ)I" } : Jvm.MethodName)) ∈ lw_all := lw_g (lw_at lw_m3 223 rfl) rfl
theorem q761 : (Jvm.Cond.code ({ cls := "HammerTowers", name := "needOwn", desc := "(IZ)I" } : Jvm.MethodName) prog_1_method_35_code (4 : Nat) (Option.some Jvm.ClassFile.FieldType.int)) ∈ lw_all := lw_g (lw_at lw_m3 224 rfl) rfl
theorem q763 : (Jvm.Cond.instanceMethod ({ cls := "HammerTowers", name := "hands", desc := "(II)I" } : Jvm.MethodName)) ∈ lw_all := lw_g (lw_at lw_m3 226 rfl) rfl
theorem q764 : (Jvm.Cond.selects "HammerTowers" ({ cls := "HammerTowers", name := "hands", desc := "(II)I" } : Jvm.MethodName) ({ cls := "HammerTowers", name := "hands", desc := "(II)I" } : Jvm.MethodName)) ∈ lw_all := lw_g (lw_at lw_m3 227 rfl) rfl
theorem q765 : (Jvm.Cond.code ({ cls := "HammerTowers", name := "hands", desc := "(II)I" } : Jvm.MethodName) prog_1_method_39_code (5 : Nat) (Option.some Jvm.ClassFile.FieldType.int)) ∈ lw_all := lw_g (lw_at lw_m3 228 rfl) rfl
theorem q767 : (Jvm.Cond.instanceMethod ({ cls := "HammerTowers", name := "forward", desc := "(II)I" } : Jvm.MethodName)) ∈ lw_all := lw_g (lw_at lw_m3 230 rfl) rfl
theorem q768 : (Jvm.Cond.selects "HammerTowers" ({ cls := "HammerTowers", name := "forward", desc := "(II)I" } : Jvm.MethodName) ({ cls := "HammerTowers", name := "forward", desc := "(II)I" } : Jvm.MethodName)) ∈ lw_all := lw_g (lw_at lw_m3 231 rfl) rfl
theorem q769 : (Jvm.Cond.code ({ cls := "HammerTowers", name := "forward", desc := "(II)I" } : Jvm.MethodName) prog_1_method_40_code (5 : Nat) (Option.some Jvm.ClassFile.FieldType.int)) ∈ lw_all := lw_g (lw_at lw_m3 232 rfl) rfl
theorem q770 : (Jvm.Cond.methodLink "HammerTowers" (215 : Nat) ({ cls := "HammerTowers$Tower", name := "forward", desc := "()V" } : Jvm.MethodName)) ∈ lw_all := lw_g (lw_at lw_m3 233 rfl) rfl
theorem q796 : (Jvm.Cond.static ({ cls := "HammerTowers", name := "hourOf", desc := "(I)I" } : Jvm.MethodName)) ∈ lw_all := lw_g (lw_at lw_m4 19 rfl) rfl
theorem q797 : (Jvm.Cond.code ({ cls := "HammerTowers", name := "hourOf", desc := "(I)I" } : Jvm.MethodName) prog_1_method_28_code (2 : Nat) (Option.some Jvm.ClassFile.FieldType.int)) ∈ lw_all := lw_g (lw_at lw_m4 20 rfl) rfl
theorem q799 : (Jvm.Cond.static ({ cls := "HammerTowers", name := "quarterOf", desc := "(I)I" } : Jvm.MethodName)) ∈ lw_all := lw_g (lw_at lw_m4 22 rfl) rfl
theorem q800 : (Jvm.Cond.code ({ cls := "HammerTowers", name := "quarterOf", desc := "(I)I" } : Jvm.MethodName) prog_1_method_30_code (2 : Nat) (Option.some Jvm.ClassFile.FieldType.int)) ∈ lw_all := lw_g (lw_at lw_m4 23 rfl) rfl
theorem q814 : (Jvm.Cond.instanceMethod ({ cls := "HammerTowers", name := "back", desc := "(II)I" } : Jvm.MethodName)) ∈ lw_all := lw_g (lw_at lw_m4 37 rfl) rfl
theorem q815 : (Jvm.Cond.selects "HammerTowers" ({ cls := "HammerTowers", name := "back", desc := "(II)I" } : Jvm.MethodName) ({ cls := "HammerTowers", name := "back", desc := "(II)I" } : Jvm.MethodName)) ∈ lw_all := lw_g (lw_at lw_m4 38 rfl) rfl
theorem q816 : (Jvm.Cond.code ({ cls := "HammerTowers", name := "back", desc := "(II)I" } : Jvm.MethodName) prog_1_method_41_code (5 : Nat) (Option.some Jvm.ClassFile.FieldType.int)) ∈ lw_all := lw_g (lw_at lw_m4 39 rfl) rfl
theorem q817 : (Jvm.Cond.methodLink "HammerTowers" (218 : Nat) ({ cls := "HammerTowers$Tower", name := "back", desc := "()V" } : Jvm.MethodName)) ∈ lw_all := lw_g (lw_at lw_m4 40 rfl) rfl
theorem q822 : (Jvm.Cond.instanceMethod ({ cls := "HammerTowers", name := "rate", desc := "(II)I" } : Jvm.MethodName)) ∈ lw_all := lw_g (lw_at lw_m4 45 rfl) rfl
theorem q823 : (Jvm.Cond.selects "HammerTowers" ({ cls := "HammerTowers", name := "rate", desc := "(II)I" } : Jvm.MethodName) ({ cls := "HammerTowers", name := "rate", desc := "(II)I" } : Jvm.MethodName)) ∈ lw_all := lw_g (lw_at lw_m4 46 rfl) rfl
theorem q824 : (Jvm.Cond.code ({ cls := "HammerTowers", name := "rate", desc := "(II)I" } : Jvm.MethodName) prog_1_method_42_code (5 : Nat) (Option.some Jvm.ClassFile.FieldType.int)) ∈ lw_all := lw_g (lw_at lw_m4 47 rfl) rfl
theorem q826 : (Jvm.Cond.instanceMethod ({ cls := "HammerTowers", name := "go", desc := "(IZ)I" } : Jvm.MethodName)) ∈ lw_all := lw_g (lw_at lw_m4 49 rfl) rfl
theorem q827 : (Jvm.Cond.selects "HammerTowers" ({ cls := "HammerTowers", name := "go", desc := "(IZ)I" } : Jvm.MethodName) ({ cls := "HammerTowers", name := "go", desc := "(IZ)I" } : Jvm.MethodName)) ∈ lw_all := lw_g (lw_at lw_m4 50 rfl) rfl
theorem q828 : (Jvm.Cond.code ({ cls := "HammerTowers", name := "go", desc := "(IZ)I" } : Jvm.MethodName) prog_1_method_43_code (5 : Nat) (Option.some Jvm.ClassFile.FieldType.int)) ∈ lw_all := lw_g (lw_at lw_m4 51 rfl) rfl
theorem q830 : (Jvm.Cond.instanceMethod ({ cls := "HammerTowers", name := "windGoing", desc := "(II)I" } : Jvm.MethodName)) ∈ lw_all := lw_g (lw_at lw_m4 53 rfl) rfl
theorem q831 : (Jvm.Cond.selects "HammerTowers" ({ cls := "HammerTowers", name := "windGoing", desc := "(II)I" } : Jvm.MethodName) ({ cls := "HammerTowers", name := "windGoing", desc := "(II)I" } : Jvm.MethodName)) ∈ lw_all := lw_g (lw_at lw_m4 54 rfl) rfl
theorem q832 : (Jvm.Cond.code ({ cls := "HammerTowers", name := "windGoing", desc := "(II)I" } : Jvm.MethodName) prog_1_method_44_code (5 : Nat) (Option.some Jvm.ClassFile.FieldType.int)) ∈ lw_all := lw_g (lw_at lw_m4 55 rfl) rfl
theorem q834 : (Jvm.Cond.instanceMethod ({ cls := "HammerTowers", name := "silence", desc := "(IIII)I" } : Jvm.MethodName)) ∈ lw_all := lw_g (lw_at lw_m4 57 rfl) rfl
theorem q835 : (Jvm.Cond.selects "HammerTowers" ({ cls := "HammerTowers", name := "silence", desc := "(IIII)I" } : Jvm.MethodName) ({ cls := "HammerTowers", name := "silence", desc := "(IIII)I" } : Jvm.MethodName)) ∈ lw_all := lw_g (lw_at lw_m4 58 rfl) rfl
theorem q836 : (Jvm.Cond.code ({ cls := "HammerTowers", name := "silence", desc := "(IIII)I" } : Jvm.MethodName) prog_1_method_45_code (6 : Nat) (Option.some Jvm.ClassFile.FieldType.int)) ∈ lw_all := lw_g (lw_at lw_m4 59 rfl) rfl
theorem q838 : (Jvm.Cond.instanceMethod ({ cls := "HammerTowers", name := "letOff", desc := "(IZ)I" } : Jvm.MethodName)) ∈ lw_all := lw_g (lw_at lw_m4 61 rfl) rfl
theorem q839 : (Jvm.Cond.selects "HammerTowers" ({ cls := "HammerTowers", name := "letOff", desc := "(IZ)I" } : Jvm.MethodName) ({ cls := "HammerTowers", name := "letOff", desc := "(IZ)I" } : Jvm.MethodName)) ∈ lw_all := lw_g (lw_at lw_m4 62 rfl) rfl
theorem q840 : (Jvm.Cond.code ({ cls := "HammerTowers", name := "letOff", desc := "(IZ)I" } : Jvm.MethodName) prog_1_method_46_code (4 : Nat) (Option.some Jvm.ClassFile.FieldType.int)) ∈ lw_all := lw_g (lw_at lw_m4 63 rfl) rfl
theorem q841 : (Jvm.Cond.methodLink "HammerTowers" (239 : Nat) ({ cls := "HammerTowers$Tower", name := "letOff", desc := "(I)V" } : Jvm.MethodName)) ∈ lw_all := lw_g (lw_at lw_m4 64 rfl) rfl
theorem q843 : (Jvm.Cond.instanceMethod ({ cls := "HammerTowers", name := "runOut", desc := "(IZ)I" } : Jvm.MethodName)) ∈ lw_all := lw_g (lw_at lw_m4 66 rfl) rfl
theorem q844 : (Jvm.Cond.selects "HammerTowers" ({ cls := "HammerTowers", name := "runOut", desc := "(IZ)I" } : Jvm.MethodName) ({ cls := "HammerTowers", name := "runOut", desc := "(IZ)I" } : Jvm.MethodName)) ∈ lw_all := lw_g (lw_at lw_m4 67 rfl) rfl
theorem q845 : (Jvm.Cond.code ({ cls := "HammerTowers", name := "runOut", desc := "(IZ)I" } : Jvm.MethodName) prog_1_method_47_code (5 : Nat) (Option.some Jvm.ClassFile.FieldType.int)) ∈ lw_all := lw_g (lw_at lw_m4 68 rfl) rfl
theorem q846 : (Jvm.Cond.methodLink "HammerTowers" (243 : Nat) ({ cls := "HammerTowers$Tower", name := "run", desc := "(II)I" } : Jvm.MethodName)) ∈ lw_all := lw_g (lw_at lw_m4 69 rfl) rfl
theorem q890 : (Jvm.Cond.instanceMethod ({ cls := "HammerTowers", name := "pass", desc := "(I)I" } : Jvm.MethodName)) ∈ lw_all := lw_g (lw_at lw_m4 113 rfl) rfl
theorem q891 : (Jvm.Cond.selects "HammerTowers" ({ cls := "HammerTowers", name := "pass", desc := "(I)I" } : Jvm.MethodName) ({ cls := "HammerTowers", name := "pass", desc := "(I)I" } : Jvm.MethodName)) ∈ lw_all := lw_g (lw_at lw_m4 114 rfl) rfl
theorem q892 : (Jvm.Cond.code ({ cls := "HammerTowers", name := "pass", desc := "(I)I" } : Jvm.MethodName) prog_1_method_48_code (4 : Nat) (Option.some Jvm.ClassFile.FieldType.int)) ∈ lw_all := lw_g (lw_at lw_m4 115 rfl) rfl
theorem q893 : (Jvm.Cond.constant "HammerTowers" (250 : Nat) (1000000 : Int32)) ∈ lw_all := lw_g (lw_at lw_m4 116 rfl) rfl
theorem q894 : (Jvm.Cond.methodLink "HammerTowers" (251 : Nat) ({ cls := "HammerTowers$Tower", name := "minute", desc := "()V" } : Jvm.MethodName)) ∈ lw_all := lw_g (lw_at lw_m4 117 rfl) rfl
theorem q902 : (Jvm.Cond.instanceMethod ({ cls := "HammerTowers", name := "tells", desc := "(II)I" } : Jvm.MethodName)) ∈ lw_all := lw_g (lw_at lw_m4 125 rfl) rfl
theorem q903 : (Jvm.Cond.selects "HammerTowers" ({ cls := "HammerTowers", name := "tells", desc := "(II)I" } : Jvm.MethodName) ({ cls := "HammerTowers", name := "tells", desc := "(II)I" } : Jvm.MethodName)) ∈ lw_all := lw_g (lw_at lw_m4 126 rfl) rfl
theorem q904 : (Jvm.Cond.code ({ cls := "HammerTowers", name := "tells", desc := "(II)I" } : Jvm.MethodName) prog_1_method_52_code (4 : Nat) (Option.some Jvm.ClassFile.FieldType.int)) ∈ lw_all := lw_g (lw_at lw_m4 127 rfl) rfl
theorem q905 : (Jvm.Cond.methodLink "HammerTowers" (266 : Nat) ({ cls := "HammerTowers", name := "tellsOf", desc := "(LHammerTowers$Tower;I)I" } : Jvm.MethodName)) ∈ lw_all := lw_g (lw_at lw_m4 128 rfl) rfl
theorem q906 : (Jvm.Cond.static ({ cls := "HammerTowers", name := "tellsOf", desc := "(LHammerTowers$Tower;I)I" } : Jvm.MethodName)) ∈ lw_all := lw_g (lw_at lw_m4 129 rfl) rfl
theorem q907 : (Jvm.Cond.code ({ cls := "HammerTowers", name := "tellsOf", desc := "(LHammerTowers$Tower;I)I" } : Jvm.MethodName) prog_1_method_51_code (2 : Nat) (Option.some Jvm.ClassFile.FieldType.int)) ∈ lw_all := lw_g (lw_at lw_m4 130 rfl) rfl
theorem q908 : (Jvm.Cond.methodLink "HammerTowers" (257 : Nat) ({ cls := "HammerTowers", name := "trainOf", desc := "(LHammerTowers$Train;)I" } : Jvm.MethodName)) ∈ lw_all := lw_g (lw_at lw_m4 131 rfl) rfl
theorem q909 : (Jvm.Cond.static ({ cls := "HammerTowers", name := "trainOf", desc := "(LHammerTowers$Train;)I" } : Jvm.MethodName)) ∈ lw_all := lw_g (lw_at lw_m4 132 rfl) rfl
theorem q910 : (Jvm.Cond.code ({ cls := "HammerTowers", name := "trainOf", desc := "(LHammerTowers$Train;)I" } : Jvm.MethodName) prog_1_method_49_code (1 : Nat) (Option.some Jvm.ClassFile.FieldType.int)) ∈ lw_all := lw_g (lw_at lw_m4 133 rfl) rfl
theorem q911 : (Jvm.Cond.methodLink "HammerTowers" (260 : Nat) ({ cls := "HammerTowers", name := "warnedOf", desc := "(LHammerTowers$Train;)I" } : Jvm.MethodName)) ∈ lw_all := lw_g (lw_at lw_m4 134 rfl) rfl
theorem q912 : (Jvm.Cond.static ({ cls := "HammerTowers", name := "warnedOf", desc := "(LHammerTowers$Train;)I" } : Jvm.MethodName)) ∈ lw_all := lw_g (lw_at lw_m4 135 rfl) rfl
theorem q913 : (Jvm.Cond.code ({ cls := "HammerTowers", name := "warnedOf", desc := "(LHammerTowers$Train;)I" } : Jvm.MethodName) prog_1_method_50_code (1 : Nat) (Option.some Jvm.ClassFile.FieldType.int)) ∈ lw_all := lw_g (lw_at lw_m4 136 rfl) rfl
theorem q914 : (Jvm.Cond.methodLink "HammerTowers" (263 : Nat) ({ cls := "HammerTowers$Tower", name := "silence", desc := "()I" } : Jvm.MethodName)) ∈ lw_all := lw_g (lw_at lw_m4 137 rfl) rfl
theorem q916 : (Jvm.Cond.instanceMethod ({ cls := "HammerTowers", name := "log", desc := "(III)I" } : Jvm.MethodName)) ∈ lw_all := lw_g (lw_at lw_m4 139 rfl) rfl
theorem q917 : (Jvm.Cond.selects "HammerTowers" ({ cls := "HammerTowers", name := "log", desc := "(III)I" } : Jvm.MethodName) ({ cls := "HammerTowers", name := "log", desc := "(III)I" } : Jvm.MethodName)) ∈ lw_all := lw_g (lw_at lw_m4 140 rfl) rfl
theorem q918 : (Jvm.Cond.code ({ cls := "HammerTowers", name := "log", desc := "(III)I" } : Jvm.MethodName) prog_1_method_53_code (6 : Nat) (Option.some Jvm.ClassFile.FieldType.int)) ∈ lw_all := lw_g (lw_at lw_m4 141 rfl) rfl
theorem q920 : (Jvm.Cond.instanceMethod ({ cls := "HammerTowers", name := "heard", desc := "(III)I" } : Jvm.MethodName)) ∈ lw_all := lw_g (lw_at lw_m4 143 rfl) rfl
theorem q921 : (Jvm.Cond.selects "HammerTowers" ({ cls := "HammerTowers", name := "heard", desc := "(III)I" } : Jvm.MethodName) ({ cls := "HammerTowers", name := "heard", desc := "(III)I" } : Jvm.MethodName)) ∈ lw_all := lw_g (lw_at lw_m4 144 rfl) rfl
theorem q922 : (Jvm.Cond.code ({ cls := "HammerTowers", name := "heard", desc := "(III)I" } : Jvm.MethodName) prog_1_method_54_code (8 : Nat) (Option.some Jvm.ClassFile.FieldType.int)) ∈ lw_all := lw_g (lw_at lw_m4 145 rfl) rfl
theorem q924 : (Jvm.Cond.instanceMethod ({ cls := "HammerTowers", name := "ahead", desc := "(II)I" } : Jvm.MethodName)) ∈ lw_all := lw_g (lw_at lw_m4 147 rfl) rfl
theorem q925 : (Jvm.Cond.selects "HammerTowers" ({ cls := "HammerTowers", name := "ahead", desc := "(II)I" } : Jvm.MethodName) ({ cls := "HammerTowers", name := "ahead", desc := "(II)I" } : Jvm.MethodName)) ∈ lw_all := lw_g (lw_at lw_m4 148 rfl) rfl
theorem q926 : (Jvm.Cond.code ({ cls := "HammerTowers", name := "ahead", desc := "(II)I" } : Jvm.MethodName) prog_1_method_56_code (5 : Nat) (Option.some Jvm.ClassFile.FieldType.int)) ∈ lw_all := lw_g (lw_at lw_m4 149 rfl) rfl
theorem q927 : (Jvm.Cond.methodLink "HammerTowers" (276 : Nat) ({ cls := "HammerTowers", name := "needTwo", desc := "(II)I" } : Jvm.MethodName)) ∈ lw_all := lw_g (lw_at lw_m4 150 rfl) rfl
theorem q928 : (Jvm.Cond.privateMethod ({ cls := "HammerTowers", name := "needTwo", desc := "(II)I" } : Jvm.MethodName)) ∈ lw_tbl := lw_at lw_m4 151 rfl
theorem q929 : (Jvm.Cond.instanceMethod ({ cls := "HammerTowers", name := "needTwo", desc := "(II)I" } : Jvm.MethodName)) ∈ lw_all := lw_g (lw_at lw_m4 152 rfl) rfl
theorem q930 : (Jvm.Cond.code ({ cls := "HammerTowers", name := "needTwo", desc := "(II)I" } : Jvm.MethodName) prog_1_method_55_code (3 : Nat) (Option.some Jvm.ClassFile.FieldType.int)) ∈ lw_all := lw_g (lw_at lw_m4 153 rfl) rfl
theorem q931 : (Jvm.Cond.methodLink "HammerTowers" (279 : Nat) ({ cls := "java/lang/Math", name := "floorMod", desc := "(II)I" } : Jvm.MethodName)) ∈ lw_all := lw_g (lw_at lw_m4 154 rfl) rfl
theorem q935 : (Jvm.Cond.instanceMethod ({ cls := "HammerTowers", name := "meet", desc := "(II)I" } : Jvm.MethodName)) ∈ lw_all := lw_g (lw_at lw_m4 158 rfl) rfl
theorem q936 : (Jvm.Cond.selects "HammerTowers" ({ cls := "HammerTowers", name := "meet", desc := "(II)I" } : Jvm.MethodName) ({ cls := "HammerTowers", name := "meet", desc := "(II)I" } : Jvm.MethodName)) ∈ lw_all := lw_g (lw_at lw_m4 159 rfl) rfl
theorem q937 : (Jvm.Cond.code ({ cls := "HammerTowers", name := "meet", desc := "(II)I" } : Jvm.MethodName) prog_1_method_57_code (16 : Nat) (Option.some Jvm.ClassFile.FieldType.int)) ∈ lw_all := lw_g (lw_at lw_m4 160 rfl) rfl
theorem q938 : (Jvm.Cond.constantLong "HammerTowers" (284 : Nat) (124416000 : Int64)) ∈ lw_all := lw_g (lw_at lw_m4 161 rfl) rfl
theorem q939 : (Jvm.Cond.methodLink "HammerTowers" (286 : Nat) ({ cls := "HammerTowers$Tower", name := "exact", desc := "()J" } : Jvm.MethodName)) ∈ lw_all := lw_g (lw_at lw_m4 162 rfl) rfl
theorem q944 : (Jvm.Cond.methodLink "HammerTowers" (290 : Nat) ({ cls := "java/lang/Math", name := "floorMod", desc := "(JJ)J" } : Jvm.MethodName)) ∈ lw_all := lw_g (lw_at lw_m4 167 rfl) rfl
theorem q947 : (Jvm.Cond.methodLink "HammerTowers" (293 : Nat) ({ cls := "java/lang/Math", name := "abs", desc := "(J)J" } : Jvm.MethodName)) ∈ lw_all := lw_g (lw_at lw_m4 170 rfl) rfl
theorem q951 : (Jvm.Cond.instanceMethod ({ cls := "HammerTowers", name := "right", desc := "(IZ)I" } : Jvm.MethodName)) ∈ lw_all := lw_g (lw_at lw_m4 174 rfl) rfl
theorem q952 : (Jvm.Cond.selects "HammerTowers" ({ cls := "HammerTowers", name := "right", desc := "(IZ)I" } : Jvm.MethodName) ({ cls := "HammerTowers", name := "right", desc := "(IZ)I" } : Jvm.MethodName)) ∈ lw_all := lw_g (lw_at lw_m4 175 rfl) rfl
theorem q953 : (Jvm.Cond.code ({ cls := "HammerTowers", name := "right", desc := "(IZ)I" } : Jvm.MethodName) prog_1_method_60_code (4 : Nat) (Option.some Jvm.ClassFile.FieldType.int)) ∈ lw_all := lw_g (lw_at lw_m4 176 rfl) rfl
theorem q954 : (Jvm.Cond.methodLink "HammerTowers" (303 : Nat) ({ cls := "HammerTowers", name := "needPlate", desc := "(IZ)I" } : Jvm.MethodName)) ∈ lw_all := lw_g (lw_at lw_m4 177 rfl) rfl
theorem q955 : (Jvm.Cond.privateMethod ({ cls := "HammerTowers", name := "needPlate", desc := "(IZ)I" } : Jvm.MethodName)) ∈ lw_tbl := lw_at lw_m4 178 rfl
theorem q956 : (Jvm.Cond.instanceMethod ({ cls := "HammerTowers", name := "needPlate", desc := "(IZ)I" } : Jvm.MethodName)) ∈ lw_all := lw_g (lw_at lw_m4 179 rfl) rfl
theorem q957 : (Jvm.Cond.code ({ cls := "HammerTowers", name := "needPlate", desc := "(IZ)I" } : Jvm.MethodName) prog_1_method_58_code (4 : Nat) (Option.some Jvm.ClassFile.FieldType.int)) ∈ lw_all := lw_g (lw_at lw_m4 180 rfl) rfl
theorem q958 : (Jvm.Cond.methodLink "HammerTowers" (306 : Nat) ({ cls := "HammerTowers", name := "offOf", desc := "(LHammerTowers$Tower;I)I" } : Jvm.MethodName)) ∈ lw_all := lw_g (lw_at lw_m4 181 rfl) rfl
theorem q959 : (Jvm.Cond.privateMethod ({ cls := "HammerTowers", name := "offOf", desc := "(LHammerTowers$Tower;I)I" } : Jvm.MethodName)) ∈ lw_tbl := lw_at lw_m4 182 rfl
theorem q960 : (Jvm.Cond.instanceMethod ({ cls := "HammerTowers", name := "offOf", desc := "(LHammerTowers$Tower;I)I" } : Jvm.MethodName)) ∈ lw_all := lw_g (lw_at lw_m4 183 rfl) rfl
theorem q961 : (Jvm.Cond.code ({ cls := "HammerTowers", name := "offOf", desc := "(LHammerTowers$Tower;I)I" } : Jvm.MethodName) prog_1_method_59_code (5 : Nat) (Option.some Jvm.ClassFile.FieldType.int)) ∈ lw_all := lw_g (lw_at lw_m4 184 rfl) rfl
theorem q962 : (Jvm.Cond.methodLink "HammerTowers" (297 : Nat) ({ cls := "HammerTowers", name := "nextHour", desc := "(I)I" } : Jvm.MethodName)) ∈ lw_all := lw_g (lw_at lw_m4 185 rfl) rfl
theorem q963 : (Jvm.Cond.static ({ cls := "HammerTowers", name := "nextHour", desc := "(I)I" } : Jvm.MethodName)) ∈ lw_all := lw_g (lw_at lw_m4 186 rfl) rfl
theorem q964 : (Jvm.Cond.code ({ cls := "HammerTowers", name := "nextHour", desc := "(I)I" } : Jvm.MethodName) prog_1_method_29_code (1 : Nat) (Option.some Jvm.ClassFile.FieldType.int)) ∈ lw_all := lw_g (lw_at lw_m4 187 rfl) rfl
theorem q965 : (Jvm.Cond.methodLink "HammerTowers" (300 : Nat) ({ cls := "HammerTowers", name := "nextQuarter", desc := "(I)I" } : Jvm.MethodName)) ∈ lw_all := lw_g (lw_at lw_m4 188 rfl) rfl
theorem q966 : (Jvm.Cond.static ({ cls := "HammerTowers", name := "nextQuarter", desc := "(I)I" } : Jvm.MethodName)) ∈ lw_all := lw_g (lw_at lw_m4 189 rfl) rfl
theorem q967 : (Jvm.Cond.code ({ cls := "HammerTowers", name := "nextQuarter", desc := "(I)I" } : Jvm.MethodName) prog_1_method_31_code (1 : Nat) (Option.some Jvm.ClassFile.FieldType.int)) ∈ lw_all := lw_g (lw_at lw_m4 190 rfl) rfl
theorem q969 : (Jvm.Cond.instanceMethod ({ cls := "HammerTowers", name := "off", desc := "(IZ)I" } : Jvm.MethodName)) ∈ lw_all := lw_g (lw_at lw_m4 192 rfl) rfl
theorem q970 : (Jvm.Cond.selects "HammerTowers" ({ cls := "HammerTowers", name := "off", desc := "(IZ)I" } : Jvm.MethodName) ({ cls := "HammerTowers", name := "off", desc := "(IZ)I" } : Jvm.MethodName)) ∈ lw_all := lw_g (lw_at lw_m4 193 rfl) rfl
theorem q971 : (Jvm.Cond.code ({ cls := "HammerTowers", name := "off", desc := "(IZ)I" } : Jvm.MethodName) prog_1_method_61_code (4 : Nat) (Option.some Jvm.ClassFile.FieldType.int)) ∈ lw_all := lw_g (lw_at lw_m4 194 rfl) rfl
theorem q973 : (Jvm.Cond.instanceMethod ({ cls := "HammerTowers", name := "putRight", desc := "(II)I" } : Jvm.MethodName)) ∈ lw_all := lw_g (lw_at lw_m4 196 rfl) rfl
theorem q974 : (Jvm.Cond.selects "HammerTowers" ({ cls := "HammerTowers", name := "putRight", desc := "(II)I" } : Jvm.MethodName) ({ cls := "HammerTowers", name := "putRight", desc := "(II)I" } : Jvm.MethodName)) ∈ lw_all := lw_g (lw_at lw_m4 197 rfl) rfl
theorem q975 : (Jvm.Cond.code ({ cls := "HammerTowers", name := "putRight", desc := "(II)I" } : Jvm.MethodName) prog_1_method_66_code (8 : Nat) (Option.some Jvm.ClassFile.FieldType.int)) ∈ lw_all := lw_g (lw_at lw_m4 198 rfl) rfl
theorem q976 : (Jvm.Cond.methodLink "HammerTowers" (320 : Nat) ({ cls := "HammerTowers", name := "layCosts", desc := "(LHammerTowers$Plate;I)V" } : Jvm.MethodName)) ∈ lw_all := lw_g (lw_at lw_m4 199 rfl) rfl
theorem q977 : (Jvm.Cond.privateMethod ({ cls := "HammerTowers", name := "layCosts", desc := "(LHammerTowers$Plate;I)V" } : Jvm.MethodName)) ∈ lw_tbl := lw_at lw_m4 200 rfl
theorem q978 : (Jvm.Cond.instanceMethod ({ cls := "HammerTowers", name := "layCosts", desc := "(LHammerTowers$Plate;I)V" } : Jvm.MethodName)) ∈ lw_all := lw_g (lw_at lw_m4 201 rfl) rfl
theorem q979 : (Jvm.Cond.code ({ cls := "HammerTowers", name := "layCosts", desc := "(LHammerTowers$Plate;I)V" } : Jvm.MethodName) prog_1_method_65_code (7 : Nat) (Option.none : Option Jvm.ClassFile.FieldType)) ∈ lw_all := lw_g (lw_at lw_m4 202 rfl) rfl
theorem q980 : (Jvm.Cond.methodLink "HammerTowers" (317 : Nat) ({ cls := "HammerTowers", name := "throughOf", desc := "(LHammerTowers$Plate;II)I" } : Jvm.MethodName)) ∈ lw_all := lw_g (lw_at lw_m4 203 rfl) rfl
theorem q981 : (Jvm.Cond.privateMethod ({ cls := "HammerTowers", name := "throughOf", desc := "(LHammerTowers$Plate;II)I" } : Jvm.MethodName)) ∈ lw_tbl := lw_at lw_m4 204 rfl
theorem q982 : (Jvm.Cond.instanceMethod ({ cls := "HammerTowers", name := "throughOf", desc := "(LHammerTowers$Plate;II)I" } : Jvm.MethodName)) ∈ lw_all := lw_g (lw_at lw_m4 205 rfl) rfl
theorem q983 : (Jvm.Cond.code ({ cls := "HammerTowers", name := "throughOf", desc := "(LHammerTowers$Plate;II)I" } : Jvm.MethodName) prog_1_method_64_code (5 : Nat) (Option.some Jvm.ClassFile.FieldType.int)) ∈ lw_all := lw_g (lw_at lw_m4 206 rfl) rfl
theorem q984 : (Jvm.Cond.methodLink "HammerTowers" (310 : Nat) ({ cls := "HammerTowers", name := "led", desc := "(II)I" } : Jvm.MethodName)) ∈ lw_all := lw_g (lw_at lw_m4 207 rfl) rfl
theorem q985 : (Jvm.Cond.static ({ cls := "HammerTowers", name := "led", desc := "(II)I" } : Jvm.MethodName)) ∈ lw_all := lw_g (lw_at lw_m4 208 rfl) rfl
theorem q986 : (Jvm.Cond.code ({ cls := "HammerTowers", name := "led", desc := "(II)I" } : Jvm.MethodName) prog_1_method_62_code (4 : Nat) (Option.some Jvm.ClassFile.FieldType.int)) ∈ lw_all := lw_g (lw_at lw_m4 209 rfl) rfl
theorem q987 : (Jvm.Cond.methodLink "HammerTowers" (313 : Nat) ({ cls := "HammerTowers", name := "priceOf", desc := "(LHammerTowers$Plate;II)I" } : Jvm.MethodName)) ∈ lw_all := lw_g (lw_at lw_m4 210 rfl) rfl
theorem q988 : (Jvm.Cond.static ({ cls := "HammerTowers", name := "priceOf", desc := "(LHammerTowers$Plate;II)I" } : Jvm.MethodName)) ∈ lw_all := lw_g (lw_at lw_m4 211 rfl) rfl
theorem q989 : (Jvm.Cond.code ({ cls := "HammerTowers", name := "priceOf", desc := "(LHammerTowers$Plate;II)I" } : Jvm.MethodName) prog_1_method_63_code (3 : Nat) (Option.some Jvm.ClassFile.FieldType.int)) ∈ lw_all := lw_g (lw_at lw_m4 212 rfl) rfl
theorem q990 : (Jvm.Cond.methodLink "HammerTowers" (309 : Nat) ({ cls := "HammerTowers$Plate", name := "notch", desc := "(I)I" } : Jvm.MethodName)) ∈ lw_all := lw_g (lw_at lw_m4 213 rfl) rfl
theorem q991 : (Jvm.Cond.methodLink "HammerTowers" (327 : Nat) ({ cls := "HammerTowers", name := "say", desc := "(II)I" } : Jvm.MethodName)) ∈ lw_all := lw_g (lw_at lw_m4 214 rfl) rfl
theorem q992 : (Jvm.Cond.privateMethod ({ cls := "HammerTowers", name := "say", desc := "(II)I" } : Jvm.MethodName)) ∈ lw_tbl := lw_at lw_m4 215 rfl
theorem q993 : (Jvm.Cond.instanceMethod ({ cls := "HammerTowers", name := "say", desc := "(II)I" } : Jvm.MethodName)) ∈ lw_all := lw_g (lw_at lw_m4 216 rfl) rfl
theorem q994 : (Jvm.Cond.code ({ cls := "HammerTowers", name := "say", desc := "(II)I" } : Jvm.MethodName) prog_1_method_3_code (3 : Nat) (Option.some Jvm.ClassFile.FieldType.int)) ∈ lw_all := lw_g (lw_at lw_m4 217 rfl) rfl
theorem q996 : (Jvm.Cond.instanceMethod ({ cls := "HammerTowers", name := "act", desc := "(I)I" } : Jvm.MethodName)) ∈ lw_all := lw_g (lw_at lw_m4 219 rfl) rfl
theorem q997 : (Jvm.Cond.selects "HammerTowers" ({ cls := "HammerTowers", name := "act", desc := "(I)I" } : Jvm.MethodName) ({ cls := "HammerTowers", name := "act", desc := "(I)I" } : Jvm.MethodName)) ∈ lw_all := lw_g (lw_at lw_m4 220 rfl) rfl
theorem q998 : (Jvm.Cond.code ({ cls := "HammerTowers", name := "act", desc := "(I)I" } : Jvm.MethodName) prog_1_method_67_code (2 : Nat) (Option.some Jvm.ClassFile.FieldType.int)) ∈ lw_all := lw_g (lw_at lw_m4 221 rfl) rfl
theorem q1000 : (Jvm.Cond.instanceMethod ({ cls := "HammerTowers", name := "due", desc := "(IIIII)I" } : Jvm.MethodName)) ∈ lw_all := lw_g (lw_at lw_m4 223 rfl) rfl
theorem q1001 : (Jvm.Cond.selects "HammerTowers" ({ cls := "HammerTowers", name := "due", desc := "(IIIII)I" } : Jvm.MethodName) ({ cls := "HammerTowers", name := "due", desc := "(IIIII)I" } : Jvm.MethodName)) ∈ lw_all := lw_g (lw_at lw_m4 224 rfl) rfl
theorem q1002 : (Jvm.Cond.code ({ cls := "HammerTowers", name := "due", desc := "(IIIII)I" } : Jvm.MethodName) prog_1_method_70_code (6 : Nat) (Option.some Jvm.ClassFile.FieldType.int)) ∈ lw_all := lw_g (lw_at lw_m4 225 rfl) rfl
theorem q1003 : (Jvm.Cond.methodLink "HammerTowers" (333 : Nat) ({ cls := "HammerTowers", name := "isFault", desc := "(III)Z" } : Jvm.MethodName)) ∈ lw_all := lw_g (lw_at lw_m4 226 rfl) rfl
theorem q1004 : (Jvm.Cond.static ({ cls := "HammerTowers", name := "isFault", desc := "(III)Z" } : Jvm.MethodName)) ∈ lw_all := lw_g (lw_at lw_m4 227 rfl) rfl
theorem q1005 : (Jvm.Cond.code ({ cls := "HammerTowers", name := "isFault", desc := "(III)Z" } : Jvm.MethodName) prog_1_method_68_code (3 : Nat) (Option.some Jvm.ClassFile.FieldType.boolean)) ∈ lw_all := lw_g (lw_at lw_m4 228 rfl) rfl
theorem q1006 : (Jvm.Cond.methodLink "HammerTowers" (336 : Nat) ({ cls := "HammerTowers", name := "dueOf", desc := "(IIIII)I" } : Jvm.MethodName)) ∈ lw_all := lw_g (lw_at lw_m4 229 rfl) rfl
theorem q1007 : (Jvm.Cond.static ({ cls := "HammerTowers", name := "dueOf", desc := "(IIIII)I" } : Jvm.MethodName)) ∈ lw_all := lw_g (lw_at lw_m4 230 rfl) rfl
theorem q1008 : (Jvm.Cond.code ({ cls := "HammerTowers", name := "dueOf", desc := "(IIIII)I" } : Jvm.MethodName) prog_1_method_69_code (6 : Nat) (Option.some Jvm.ClassFile.FieldType.int)) ∈ lw_all := lw_g (lw_at lw_m4 231 rfl) rfl
theorem q1009 : (Jvm.Cond.methodLink "HammerTowers" (330 : Nat) ({ cls := "java/lang/Math", name := "max", desc := "(II)I" } : Jvm.MethodName)) ∈ lw_all := lw_g (lw_at lw_m4 232 rfl) rfl
theorem q1011 : (Jvm.Cond.instanceMethod ({ cls := "HammerTowers", name := "misfits", desc := "(IIIII)I" } : Jvm.MethodName)) ∈ lw_all := lw_g (lw_at lw_m4 234 rfl) rfl
theorem q1012 : (Jvm.Cond.selects "HammerTowers" ({ cls := "HammerTowers", name := "misfits", desc := "(IIIII)I" } : Jvm.MethodName) ({ cls := "HammerTowers", name := "misfits", desc := "(IIIII)I" } : Jvm.MethodName)) ∈ lw_all := lw_g (lw_at lw_m4 235 rfl) rfl
theorem q1013 : (Jvm.Cond.code ({ cls := "HammerTowers", name := "misfits", desc := "(IIIII)I" } : Jvm.MethodName) prog_1_method_73_code (7 : Nat) (Option.some Jvm.ClassFile.FieldType.int)) ∈ lw_all := lw_g (lw_at lw_m4 236 rfl) rfl
theorem q1014 : (Jvm.Cond.methodLink "HammerTowers" (340 : Nat) ({ cls := "HammerTowers", name := "needRow", desc := "(ZII)I" } : Jvm.MethodName)) ∈ lw_all := lw_g (lw_at lw_m4 237 rfl) rfl
theorem q1015 : (Jvm.Cond.privateMethod ({ cls := "HammerTowers", name := "needRow", desc := "(ZII)I" } : Jvm.MethodName)) ∈ lw_tbl := lw_at lw_m4 238 rfl
theorem q1016 : (Jvm.Cond.instanceMethod ({ cls := "HammerTowers", name := "needRow", desc := "(ZII)I" } : Jvm.MethodName)) ∈ lw_all := lw_g (lw_at lw_m4 239 rfl) rfl
theorem q1017 : (Jvm.Cond.code ({ cls := "HammerTowers", name := "needRow", desc := "(ZII)I" } : Jvm.MethodName) prog_1_method_72_code (4 : Nat) (Option.some Jvm.ClassFile.FieldType.int)) ∈ lw_all := lw_g (lw_at lw_m5 0 rfl) rfl
theorem q1018 : (Jvm.Cond.methodLink "HammerTowers" (344 : Nat) ({ cls := "HammerTowers", name := "misfitsOf", desc := "([BIIII)I" } : Jvm.MethodName)) ∈ lw_all := lw_g (lw_at lw_m5 1 rfl) rfl
theorem q1019 : (Jvm.Cond.static ({ cls := "HammerTowers", name := "misfitsOf", desc := "([BIIII)I" } : Jvm.MethodName)) ∈ lw_all := lw_g (lw_at lw_m5 2 rfl) rfl
theorem q1020 : (Jvm.Cond.code ({ cls := "HammerTowers", name := "misfitsOf", desc := "([BIIII)I" } : Jvm.MethodName) prog_1_method_71_code (7 : Nat) (Option.some Jvm.ClassFile.FieldType.int)) ∈ lw_all := lw_g (lw_at lw_m5 3 rfl) rfl
theorem q1022 : (Jvm.Cond.instanceMethod ({ cls := "HammerTowers", name := "fault", desc := "(II)I" } : Jvm.MethodName)) ∈ lw_all := lw_g (lw_at lw_m5 5 rfl) rfl
theorem q1023 : (Jvm.Cond.selects "HammerTowers" ({ cls := "HammerTowers", name := "fault", desc := "(II)I" } : Jvm.MethodName) ({ cls := "HammerTowers", name := "fault", desc := "(II)I" } : Jvm.MethodName)) ∈ lw_all := lw_g (lw_at lw_m5 6 rfl) rfl
theorem q1024 : (Jvm.Cond.code ({ cls := "HammerTowers", name := "fault", desc := "(II)I" } : Jvm.MethodName) prog_1_method_76_code (4 : Nat) (Option.some Jvm.ClassFile.FieldType.int)) ∈ lw_all := lw_g (lw_at lw_m5 7 rfl) rfl
theorem q1025 : (Jvm.Cond.methodLink "HammerTowers" (361 : Nat) ({ cls := "HammerTowers", name := "tryFaults", desc := "([BI)V" } : Jvm.MethodName)) ∈ lw_all := lw_g (lw_at lw_m5 8 rfl) rfl
theorem q1026 : (Jvm.Cond.privateMethod ({ cls := "HammerTowers", name := "tryFaults", desc := "([BI)V" } : Jvm.MethodName)) ∈ lw_tbl := lw_at lw_m5 9 rfl
theorem q1027 : (Jvm.Cond.instanceMethod ({ cls := "HammerTowers", name := "tryFaults", desc := "([BI)V" } : Jvm.MethodName)) ∈ lw_all := lw_g (lw_at lw_m5 10 rfl) rfl
theorem q1028 : (Jvm.Cond.code ({ cls := "HammerTowers", name := "tryFaults", desc := "([BI)V" } : Jvm.MethodName) prog_1_method_75_code (6 : Nat) (Option.none : Option Jvm.ClassFile.FieldType)) ∈ lw_all := lw_g (lw_at lw_m5 11 rfl) rfl
theorem q1029 : (Jvm.Cond.methodLink "HammerTowers" (357 : Nat) ({ cls := "HammerTowers", name := "tryFault", desc := "([BIIII)V" } : Jvm.MethodName)) ∈ lw_all := lw_g (lw_at lw_m5 12 rfl) rfl
theorem q1030 : (Jvm.Cond.privateMethod ({ cls := "HammerTowers", name := "tryFault", desc := "([BIIII)V" } : Jvm.MethodName)) ∈ lw_tbl := lw_at lw_m5 13 rfl
theorem q1031 : (Jvm.Cond.instanceMethod ({ cls := "HammerTowers", name := "tryFault", desc := "([BIIII)V" } : Jvm.MethodName)) ∈ lw_all := lw_g (lw_at lw_m5 14 rfl) rfl
theorem q1032 : (Jvm.Cond.code ({ cls := "HammerTowers", name := "tryFault", desc := "([BIIII)V" } : Jvm.MethodName) prog_1_method_74_code (7 : Nat) (Option.none : Option Jvm.ClassFile.FieldType)) ∈ lw_all := lw_g (lw_at lw_m5 15 rfl) rfl
theorem q1034 : (Jvm.Cond.instanceMethod ({ cls := "HammerTowers", name := "faultTold", desc := "(Z)I" } : Jvm.MethodName)) ∈ lw_all := lw_g (lw_at lw_m5 17 rfl) rfl
theorem q1035 : (Jvm.Cond.selects "HammerTowers" ({ cls := "HammerTowers", name := "faultTold", desc := "(Z)I" } : Jvm.MethodName) ({ cls := "HammerTowers", name := "faultTold", desc := "(Z)I" } : Jvm.MethodName)) ∈ lw_all := lw_g (lw_at lw_m5 18 rfl) rfl
theorem q1036 : (Jvm.Cond.code ({ cls := "HammerTowers", name := "faultTold", desc := "(Z)I" } : Jvm.MethodName) prog_1_method_77_code (2 : Nat) (Option.some Jvm.ClassFile.FieldType.int)) ∈ lw_all := lw_g (lw_at lw_m5 19 rfl) rfl
theorem q1038 : (Jvm.Cond.instanceMethod ({ cls := "HammerTowers", name := "explained", desc := "(II)I" } : Jvm.MethodName)) ∈ lw_all := lw_g (lw_at lw_m5 21 rfl) rfl
theorem q1039 : (Jvm.Cond.selects "HammerTowers" ({ cls := "HammerTowers", name := "explained", desc := "(II)I" } : Jvm.MethodName) ({ cls := "HammerTowers", name := "explained", desc := "(II)I" } : Jvm.MethodName)) ∈ lw_all := lw_g (lw_at lw_m5 22 rfl) rfl
theorem q1040 : (Jvm.Cond.code ({ cls := "HammerTowers", name := "explained", desc := "(II)I" } : Jvm.MethodName) prog_1_method_78_code (4 : Nat) (Option.some Jvm.ClassFile.FieldType.int)) ∈ lw_all := lw_g (lw_at lw_m5 23 rfl) rfl
theorem q1042 : (Jvm.Cond.instanceMethod ({ cls := "HammerTowers", name := "windy", desc := "(IIIII)I" } : Jvm.MethodName)) ∈ lw_all := lw_g (lw_at lw_m5 25 rfl) rfl
theorem q1043 : (Jvm.Cond.selects "HammerTowers" ({ cls := "HammerTowers", name := "windy", desc := "(IIIII)I" } : Jvm.MethodName) ({ cls := "HammerTowers", name := "windy", desc := "(IIIII)I" } : Jvm.MethodName)) ∈ lw_all := lw_g (lw_at lw_m5 26 rfl) rfl
theorem q1044 : (Jvm.Cond.code ({ cls := "HammerTowers", name := "windy", desc := "(IIIII)I" } : Jvm.MethodName) prog_1_method_79_code (8 : Nat) (Option.some Jvm.ClassFile.FieldType.int)) ∈ lw_all := lw_g (lw_at lw_m5 27 rfl) rfl
theorem q1046 : (Jvm.Cond.instanceMethod ({ cls := "HammerTowers", name := "upper", desc := "()J" } : Jvm.MethodName)) ∈ lw_all := lw_g (lw_at lw_m5 29 rfl) rfl
theorem q1047 : (Jvm.Cond.selects "HammerTowers" ({ cls := "HammerTowers", name := "upper", desc := "()J" } : Jvm.MethodName) ({ cls := "HammerTowers", name := "upper", desc := "()J" } : Jvm.MethodName)) ∈ lw_all := lw_g (lw_at lw_m5 30 rfl) rfl
theorem q1048 : (Jvm.Cond.code ({ cls := "HammerTowers", name := "upper", desc := "()J" } : Jvm.MethodName) prog_1_method_82_code (1 : Nat) (Option.some Jvm.ClassFile.FieldType.long)) ∈ lw_all := lw_g (lw_at lw_m5 31 rfl) rfl
theorem q1050 : (Jvm.Cond.instanceMethod ({ cls := "HammerTowers", name := "lower", desc := "()J" } : Jvm.MethodName)) ∈ lw_all := lw_g (lw_at lw_m5 33 rfl) rfl
theorem q1051 : (Jvm.Cond.selects "HammerTowers" ({ cls := "HammerTowers", name := "lower", desc := "()J" } : Jvm.MethodName) ({ cls := "HammerTowers", name := "lower", desc := "()J" } : Jvm.MethodName)) ∈ lw_all := lw_g (lw_at lw_m5 34 rfl) rfl
theorem q1052 : (Jvm.Cond.code ({ cls := "HammerTowers", name := "lower", desc := "()J" } : Jvm.MethodName) prog_1_method_83_code (1 : Nat) (Option.some Jvm.ClassFile.FieldType.long)) ∈ lw_all := lw_g (lw_at lw_m5 35 rfl) rfl
theorem q1054 : (Jvm.Cond.instanceMethod ({ cls := "HammerTowers", name := "wheel", desc := "(I)I" } : Jvm.MethodName)) ∈ lw_all := lw_g (lw_at lw_m5 37 rfl) rfl
theorem q1055 : (Jvm.Cond.selects "HammerTowers" ({ cls := "HammerTowers", name := "wheel", desc := "(I)I" } : Jvm.MethodName) ({ cls := "HammerTowers", name := "wheel", desc := "(I)I" } : Jvm.MethodName)) ∈ lw_all := lw_g (lw_at lw_m5 38 rfl) rfl
theorem q1056 : (Jvm.Cond.code ({ cls := "HammerTowers", name := "wheel", desc := "(I)I" } : Jvm.MethodName) prog_1_method_84_code (2 : Nat) (Option.some Jvm.ClassFile.FieldType.int)) ∈ lw_all := lw_g (lw_at lw_m5 39 rfl) rfl
theorem q1058 : (Jvm.Cond.instanceMethod ({ cls := "HammerTowers", name := "nearest", desc := "(III)I" } : Jvm.MethodName)) ∈ lw_all := lw_g (lw_at lw_m5 41 rfl) rfl
theorem q1059 : (Jvm.Cond.selects "HammerTowers" ({ cls := "HammerTowers", name := "nearest", desc := "(III)I" } : Jvm.MethodName) ({ cls := "HammerTowers", name := "nearest", desc := "(III)I" } : Jvm.MethodName)) ∈ lw_all := lw_g (lw_at lw_m5 42 rfl) rfl
theorem q1060 : (Jvm.Cond.code ({ cls := "HammerTowers", name := "nearest", desc := "(III)I" } : Jvm.MethodName) prog_1_method_86_code (4 : Nat) (Option.some Jvm.ClassFile.FieldType.int)) ∈ lw_all := lw_g (lw_at lw_m5 43 rfl) rfl
theorem q1061 : (Jvm.Cond.methodLink "HammerTowers" (389 : Nat) ({ cls := "HammerTowers", name := "tryGears", desc := "(IIJJJJ)V" } : Jvm.MethodName)) ∈ lw_all := lw_g (lw_at lw_m5 44 rfl) rfl
theorem q1062 : (Jvm.Cond.privateMethod ({ cls := "HammerTowers", name := "tryGears", desc := "(IIJJJJ)V" } : Jvm.MethodName)) ∈ lw_tbl := lw_at lw_m5 45 rfl
theorem q1063 : (Jvm.Cond.instanceMethod ({ cls := "HammerTowers", name := "tryGears", desc := "(IIJJJJ)V" } : Jvm.MethodName)) ∈ lw_all := lw_g (lw_at lw_m5 46 rfl) rfl
theorem q1064 : (Jvm.Cond.code ({ cls := "HammerTowers", name := "tryGears", desc := "(IIJJJJ)V" } : Jvm.MethodName) prog_1_method_85_code (14 : Nat) (Option.none : Option Jvm.ClassFile.FieldType)) ∈ lw_all := lw_g (lw_at lw_m5 47 rfl) rfl
theorem q1065 : (Jvm.Cond.methodLink "HammerTowers" (393 : Nat) ({ cls := "HammerTowers", name := "fraction", desc := "(JJ)I" } : Jvm.MethodName)) ∈ lw_all := lw_g (lw_at lw_m5 48 rfl) rfl
theorem q1066 : (Jvm.Cond.privateMethod ({ cls := "HammerTowers", name := "fraction", desc := "(JJ)I" } : Jvm.MethodName)) ∈ lw_tbl := lw_at lw_m5 49 rfl
theorem q1067 : (Jvm.Cond.instanceMethod ({ cls := "HammerTowers", name := "fraction", desc := "(JJ)I" } : Jvm.MethodName)) ∈ lw_all := lw_g (lw_at lw_m5 50 rfl) rfl
theorem q1068 : (Jvm.Cond.code ({ cls := "HammerTowers", name := "fraction", desc := "(JJ)I" } : Jvm.MethodName) prog_1_method_81_code (7 : Nat) (Option.some Jvm.ClassFile.FieldType.int)) ∈ lw_all := lw_g (lw_at lw_m5 51 rfl) rfl
theorem q1069 : (Jvm.Cond.methodLink "HammerTowers" (365 : Nat) ({ cls := "HammerTowers", name := "gcd", desc := "(JJ)J" } : Jvm.MethodName)) ∈ lw_all := lw_g (lw_at lw_m5 52 rfl) rfl
theorem q1070 : (Jvm.Cond.static ({ cls := "HammerTowers", name := "gcd", desc := "(JJ)J" } : Jvm.MethodName)) ∈ lw_all := lw_g (lw_at lw_m5 53 rfl) rfl
theorem q1071 : (Jvm.Cond.code ({ cls := "HammerTowers", name := "gcd", desc := "(JJ)J" } : Jvm.MethodName) prog_1_method_80_code (10 : Nat) (Option.some Jvm.ClassFile.FieldType.long)) ∈ lw_all := lw_g (lw_at lw_m5 54 rfl) rfl
theorem q1073 : (Jvm.Cond.instanceMethod ({ cls := "HammerTowers", name := "chosen", desc := "(I)I" } : Jvm.MethodName)) ∈ lw_all := lw_g (lw_at lw_m5 56 rfl) rfl
theorem q1074 : (Jvm.Cond.selects "HammerTowers" ({ cls := "HammerTowers", name := "chosen", desc := "(I)I" } : Jvm.MethodName) ({ cls := "HammerTowers", name := "chosen", desc := "(I)I" } : Jvm.MethodName)) ∈ lw_all := lw_g (lw_at lw_m5 57 rfl) rfl
theorem q1075 : (Jvm.Cond.code ({ cls := "HammerTowers", name := "chosen", desc := "(I)I" } : Jvm.MethodName) prog_1_method_87_code (2 : Nat) (Option.some Jvm.ClassFile.FieldType.int)) ∈ lw_all := lw_g (lw_at lw_m5 58 rfl) rfl
theorem q1077 : (Jvm.Cond.instanceMethod ({ cls := "HammerTowers", name := "daily", desc := "(IZ)I" } : Jvm.MethodName)) ∈ lw_all := lw_g (lw_at lw_m5 60 rfl) rfl
theorem q1078 : (Jvm.Cond.selects "HammerTowers" ({ cls := "HammerTowers", name := "daily", desc := "(IZ)I" } : Jvm.MethodName) ({ cls := "HammerTowers", name := "daily", desc := "(IZ)I" } : Jvm.MethodName)) ∈ lw_all := lw_g (lw_at lw_m5 61 rfl) rfl
theorem q1079 : (Jvm.Cond.code ({ cls := "HammerTowers", name := "daily", desc := "(IZ)I" } : Jvm.MethodName) prog_1_method_89_code (3 : Nat) (Option.some Jvm.ClassFile.FieldType.int)) ∈ lw_all := lw_g (lw_at lw_m5 62 rfl) rfl
theorem q1080 : (Jvm.Cond.methodLink "HammerTowers" (400 : Nat) ({ cls := "HammerTowers", name := "dayOf", desc := "(LHammerTowers$Train;II)I" } : Jvm.MethodName)) ∈ lw_all := lw_g (lw_at lw_m5 63 rfl) rfl
theorem q1081 : (Jvm.Cond.static ({ cls := "HammerTowers", name := "dayOf", desc := "(LHammerTowers$Train;II)I" } : Jvm.MethodName)) ∈ lw_all := lw_g (lw_at lw_m5 64 rfl) rfl
theorem q1082 : (Jvm.Cond.code ({ cls := "HammerTowers", name := "dayOf", desc := "(LHammerTowers$Train;II)I" } : Jvm.MethodName) prog_1_method_88_code (6 : Nat) (Option.some Jvm.ClassFile.FieldType.int)) ∈ lw_all := lw_g (lw_at lw_m5 65 rfl) rfl
theorem q1083 : (Jvm.Cond.methodLink "HammerTowers" (397 : Nat) ({ cls := "HammerTowers$Train", name := "lets", desc := "(II)I" } : Jvm.MethodName)) ∈ lw_all := lw_g (lw_at lw_m5 66 rfl) rfl
theorem q1096 : (Jvm.Cond.instanceMethod ({ cls := "HammerTowers", name := "lasting", desc := "(I)I" } : Jvm.MethodName)) ∈ lw_all := lw_g (lw_at lw_m5 79 rfl) rfl
theorem q1097 : (Jvm.Cond.selects "HammerTowers" ({ cls := "HammerTowers", name := "lasting", desc := "(I)I" } : Jvm.MethodName) ({ cls := "HammerTowers", name := "lasting", desc := "(I)I" } : Jvm.MethodName)) ∈ lw_all := lw_g (lw_at lw_m5 80 rfl) rfl
theorem q1098 : (Jvm.Cond.code ({ cls := "HammerTowers", name := "lasting", desc := "(I)I" } : Jvm.MethodName) prog_1_method_90_code (10 : Nat) (Option.some Jvm.ClassFile.FieldType.int)) ∈ lw_all := lw_g (lw_at lw_m5 81 rfl) rfl
theorem q1099 : (Jvm.Cond.constantLong "HammerTowers" (404 : Nat) (86400 : Int64)) ∈ lw_all := lw_g (lw_at lw_m5 82 rfl) rfl
theorem q1100 : (Jvm.Cond.constant "HammerTowers" (406 : Nat) (86400 : Int32)) ∈ lw_all := lw_g (lw_at lw_m5 83 rfl) rfl
theorem q1101 : (Jvm.Cond.constantLong "HammerTowers" (407 : Nat) (1000000 : Int64)) ∈ lw_all := lw_g (lw_at lw_m5 84 rfl) rfl
theorem q1102 : (Jvm.Cond.constant "HammerTowers" (409 : Nat) (1000001 : Int32)) ∈ lw_all := lw_g (lw_at lw_m5 85 rfl) rfl
theorem q1104 : (Jvm.Cond.instanceMethod ({ cls := "HammerTowers", name := "lastingDays", desc := "(IZ)I" } : Jvm.MethodName)) ∈ lw_all := lw_g (lw_at lw_m5 87 rfl) rfl
theorem q1105 : (Jvm.Cond.selects "HammerTowers" ({ cls := "HammerTowers", name := "lastingDays", desc := "(IZ)I" } : Jvm.MethodName) ({ cls := "HammerTowers", name := "lastingDays", desc := "(IZ)I" } : Jvm.MethodName)) ∈ lw_all := lw_g (lw_at lw_m5 88 rfl) rfl
theorem q1106 : (Jvm.Cond.code ({ cls := "HammerTowers", name := "lastingDays", desc := "(IZ)I" } : Jvm.MethodName) prog_1_method_91_code (7 : Nat) (Option.some Jvm.ClassFile.FieldType.int)) ∈ lw_all := lw_g (lw_at lw_m5 89 rfl) rfl
theorem q1108 : (Jvm.Cond.instanceMethod ({ cls := "HammerTowers", name := "count", desc := "(I)I" } : Jvm.MethodName)) ∈ lw_all := lw_g (lw_at lw_m5 91 rfl) rfl
theorem q1109 : (Jvm.Cond.selects "HammerTowers" ({ cls := "HammerTowers", name := "count", desc := "(I)I" } : Jvm.MethodName) ({ cls := "HammerTowers", name := "count", desc := "(I)I" } : Jvm.MethodName)) ∈ lw_all := lw_g (lw_at lw_m5 92 rfl) rfl
theorem q1110 : (Jvm.Cond.code ({ cls := "HammerTowers", name := "count", desc := "(I)I" } : Jvm.MethodName) prog_1_method_92_code (6 : Nat) (Option.some Jvm.ClassFile.FieldType.int)) ∈ lw_all := lw_g (lw_at lw_m5 93 rfl) rfl
theorem q1112 : (Jvm.Cond.instanceMethod ({ cls := "HammerTowers", name := "finding", desc := "()I" } : Jvm.MethodName)) ∈ lw_all := lw_g (lw_at lw_m5 95 rfl) rfl
theorem q1113 : (Jvm.Cond.selects "HammerTowers" ({ cls := "HammerTowers", name := "finding", desc := "()I" } : Jvm.MethodName) ({ cls := "HammerTowers", name := "finding", desc := "()I" } : Jvm.MethodName)) ∈ lw_all := lw_g (lw_at lw_m5 96 rfl) rfl
theorem q1114 : (Jvm.Cond.code ({ cls := "HammerTowers", name := "finding", desc := "()I" } : Jvm.MethodName) prog_1_method_93_code (1 : Nat) (Option.some Jvm.ClassFile.FieldType.int)) ∈ lw_all := lw_g (lw_at lw_m5 97 rfl) rfl
theorem q1116 : (Jvm.Cond.instanceMethod ({ cls := "HammerTowers", name := "findings", desc := "(I)I" } : Jvm.MethodName)) ∈ lw_all := lw_g (lw_at lw_m5 99 rfl) rfl
theorem q1117 : (Jvm.Cond.selects "HammerTowers" ({ cls := "HammerTowers", name := "findings", desc := "(I)I" } : Jvm.MethodName) ({ cls := "HammerTowers", name := "findings", desc := "(I)I" } : Jvm.MethodName)) ∈ lw_all := lw_g (lw_at lw_m5 100 rfl) rfl
theorem q1118 : (Jvm.Cond.code ({ cls := "HammerTowers", name := "findings", desc := "(I)I" } : Jvm.MethodName) prog_1_method_94_code (2 : Nat) (Option.some Jvm.ClassFile.FieldType.int)) ∈ lw_all := lw_g (lw_at lw_m5 101 rfl) rfl
theorem q1120 : (Jvm.Cond.instanceMethod ({ cls := "HammerTowers", name := "digest", desc := "()J" } : Jvm.MethodName)) ∈ lw_all := lw_g (lw_at lw_m5 103 rfl) rfl
theorem q1121 : (Jvm.Cond.selects "HammerTowers" ({ cls := "HammerTowers", name := "digest", desc := "()J" } : Jvm.MethodName) ({ cls := "HammerTowers", name := "digest", desc := "()J" } : Jvm.MethodName)) ∈ lw_all := lw_g (lw_at lw_m5 104 rfl) rfl
theorem q1122 : (Jvm.Cond.code ({ cls := "HammerTowers", name := "digest", desc := "()J" } : Jvm.MethodName) prog_1_method_97_code (6 : Nat) (Option.some Jvm.ClassFile.FieldType.long)) ∈ lw_all := lw_g (lw_at lw_m5 105 rfl) rfl
theorem q1123 : (Jvm.Cond.constantLong "HammerTowers" (415 : Nat) (527 : Int64)) ∈ lw_all := lw_g (lw_at lw_m5 106 rfl) rfl
theorem q1124 : (Jvm.Cond.methodLink "HammerTowers" (417 : Nat) ({ cls := "HammerTowers", name := "digestOf", desc := "(LHammerTowers$Train;J)J" } : Jvm.MethodName)) ∈ lw_all := lw_g (lw_at lw_m5 107 rfl) rfl
theorem q1125 : (Jvm.Cond.static ({ cls := "HammerTowers", name := "digestOf", desc := "(LHammerTowers$Train;J)J" } : Jvm.MethodName)) ∈ lw_all := lw_g (lw_at lw_m5 108 rfl) rfl
theorem q1126 : (Jvm.Cond.code ({ cls := "HammerTowers", name := "digestOf", desc := "(LHammerTowers$Train;J)J" } : Jvm.MethodName) prog_1_method_95_code (7 : Nat) (Option.some Jvm.ClassFile.FieldType.long)) ∈ lw_all := lw_g (lw_at lw_m5 109 rfl) rfl
theorem q1127 : (Jvm.Cond.constantLong "HammerTowers" (410 : Nat) (31 : Int64)) ∈ lw_all := lw_g (lw_at lw_m5 110 rfl) rfl
theorem q1128 : (Jvm.Cond.methodLink "HammerTowers" (421 : Nat) ({ cls := "HammerTowers", name := "digestOf", desc := "(LHammerTowers$Tower;J)J" } : Jvm.MethodName)) ∈ lw_all := lw_g (lw_at lw_m5 111 rfl) rfl
theorem q1129 : (Jvm.Cond.static ({ cls := "HammerTowers", name := "digestOf", desc := "(LHammerTowers$Tower;J)J" } : Jvm.MethodName)) ∈ lw_all := lw_g (lw_at lw_m5 112 rfl) rfl
theorem q1130 : (Jvm.Cond.code ({ cls := "HammerTowers", name := "digestOf", desc := "(LHammerTowers$Tower;J)J" } : Jvm.MethodName) prog_1_method_96_code (6 : Nat) (Option.some Jvm.ClassFile.FieldType.long)) ∈ lw_all := lw_g (lw_at lw_m5 113 rfl) rfl
theorem in_X0 : ∀ w ∈ wsX00, w ∈ lw_all := lw_in wsX00 [126, 128, 130, 132, 134, 136, 138, 140, 142, 144, 146, 148, 150, 152, 154, 156, 158, 160, 162, 164, 166, 168, 170, 172, 174, 176, 178, 180, 182] (by decide +kernel) (by decide +kernel)
theorem q59 : (Jvm.Cond.initialized "HammerTowersModel") ∈ lw_all := lw_g (lw_at lw_m1 2 rfl) rfl
theorem q1132 : (Jvm.Cond.instantiable "HammerTowersModel" (56 : Nat)) ∈ lw_all := lw_g (lw_at lw_m5 115 rfl) rfl
theorem q1134 : (Jvm.Cond.instanceMethod ({ cls := "HammerTowersModel", name := "<init>", desc := "()V" } : Jvm.MethodName)) ∈ lw_all := lw_g (lw_at lw_m5 117 rfl) rfl
theorem q1135 : (Jvm.Cond.code ({ cls := "HammerTowersModel", name := "<init>", desc := "()V" } : Jvm.MethodName) prog_9_method_1_code (2 : Nat) (Option.none : Option Jvm.ClassFile.FieldType)) ∈ lw_all := lw_g (lw_at lw_m5 118 rfl) rfl
theorem q1136 : (Jvm.Cond.methodLink "HammerTowersModel" (1 : Nat) ({ cls := "java/lang/Object", name := "<init>", desc := "()V" } : Jvm.MethodName)) ∈ lw_all := lw_g (lw_at lw_m5 119 rfl) rfl
theorem q1137 : (Jvm.Cond.fieldLink "HammerTowersModel" (139 : Nat) "HammerTowersModel" "finding" "I") ∈ lw_all := lw_g (lw_at lw_m5 120 rfl) rfl
theorem q1138 : (Jvm.Cond.fieldLink "HammerTowersModel" (7 : Nat) "HammerTowersModel" "findings" "[I") ∈ lw_all := lw_g (lw_at lw_m5 121 rfl) rfl
theorem q1139 : (Jvm.Cond.fieldLink "HammerTowersModel" (280 : Nat) "HammerTowersModel" "asked" "I") ∈ lw_all := lw_g (lw_at lw_m5 122 rfl) rfl
theorem q1140 : (Jvm.Cond.fieldLink "HammerTowersModel" (142 : Nat) "HammerTowersModel" "upper" "J") ∈ lw_all := lw_g (lw_at lw_m5 123 rfl) rfl
theorem q1141 : (Jvm.Cond.fieldLink "HammerTowersModel" (13 : Nat) "HammerTowersModel" "lower" "J") ∈ lw_all := lw_g (lw_at lw_m5 124 rfl) rfl
theorem q1142 : (Jvm.Cond.fieldLink "HammerTowersModel" (238 : Nat) "HammerTowersModel" "now" "I") ∈ lw_all := lw_g (lw_at lw_m5 125 rfl) rfl
theorem q1143 : (Jvm.Cond.fieldLink "HammerTowersModel" (231 : Nat) "HammerTowersModel" "struckEver" "I") ∈ lw_all := lw_g (lw_at lw_m5 126 rfl) rfl
theorem q1144 : (Jvm.Cond.fieldLink "HammerTowersModel" (17 : Nat) "HammerTowersModel" "sizes" "[I") ∈ lw_all := lw_g (lw_at lw_m5 127 rfl) rfl
theorem q1145 : (Jvm.Cond.fieldLink "HammerTowersModel" (20 : Nat) "HammerTowersModel" "rows" "[I") ∈ lw_all := lw_g (lw_at lw_m5 128 rfl) rfl
theorem q1146 : (Jvm.Cond.fieldLink "HammerTowersModel" (23 : Nat) "HammerTowersModel" "moving" "[I") ∈ lw_all := lw_g (lw_at lw_m5 129 rfl) rfl
theorem q1147 : (Jvm.Cond.fieldLink "HammerTowersModel" (160 : Nat) "HammerTowersModel" "trains" "I") ∈ lw_all := lw_g (lw_at lw_m5 130 rfl) rfl
theorem q1148 : (Jvm.Cond.fieldLink "HammerTowersModel" (26 : Nat) "HammerTowersModel" "kinds" "[I") ∈ lw_all := lw_g (lw_at lw_m5 131 rfl) rfl
theorem q1149 : (Jvm.Cond.fieldLink "HammerTowersModel" (29 : Nat) "HammerTowersModel" "many" "[I") ∈ lw_all := lw_g (lw_at lw_m5 132 rfl) rfl
theorem q1150 : (Jvm.Cond.fieldLink "HammerTowersModel" (32 : Nat) "HammerTowersModel" "notches" "[I") ∈ lw_all := lw_g (lw_at lw_m5 133 rfl) rfl
theorem q1151 : (Jvm.Cond.fieldLink "HammerTowersModel" (35 : Nat) "HammerTowersModel" "stands" "[I") ∈ lw_all := lw_g (lw_at lw_m5 134 rfl) rfl
theorem q1152 : (Jvm.Cond.fieldLink "HammerTowersModel" (38 : Nat) "HammerTowersModel" "pinMany" "[I") ∈ lw_all := lw_g (lw_at lw_m5 135 rfl) rfl
theorem q1153 : (Jvm.Cond.fieldLink "HammerTowersModel" (41 : Nat) "HammerTowersModel" "pins" "[I") ∈ lw_all := lw_g (lw_at lw_m5 136 rfl) rfl
theorem q1154 : (Jvm.Cond.fieldLink "HammerTowersModel" (44 : Nat) "HammerTowersModel" "pinAt" "[I") ∈ lw_all := lw_g (lw_at lw_m5 137 rfl) rfl
theorem q1155 : (Jvm.Cond.fieldLink "HammerTowersModel" (47 : Nat) "HammerTowersModel" "paces" "[I") ∈ lw_all := lw_g (lw_at lw_m5 138 rfl) rfl
theorem q1156 : (Jvm.Cond.fieldLink "HammerTowersModel" (50 : Nat) "HammerTowersModel" "falls" "[I") ∈ lw_all := lw_g (lw_at lw_m5 139 rfl) rfl
theorem q1157 : (Jvm.Cond.fieldLink "HammerTowersModel" (53 : Nat) "HammerTowersModel" "weights" "[I") ∈ lw_all := lw_g (lw_at lw_m5 140 rfl) rfl
theorem q1158 : (Jvm.Cond.fieldLink "HammerTowersModel" (56 : Nat) "HammerTowersModel" "dues" "[I") ∈ lw_all := lw_g (lw_at lw_m5 141 rfl) rfl
theorem q1159 : (Jvm.Cond.fieldLink "HammerTowersModel" (59 : Nat) "HammerTowersModel" "places" "[I") ∈ lw_all := lw_g (lw_at lw_m5 142 rfl) rfl
theorem q1160 : (Jvm.Cond.fieldLink "HammerTowersModel" (62 : Nat) "HammerTowersModel" "brokens" "[I") ∈ lw_all := lw_g (lw_at lw_m5 143 rfl) rfl
theorem q1161 : (Jvm.Cond.fieldLink "HammerTowersModel" (65 : Nat) "HammerTowersModel" "strucks" "[I") ∈ lw_all := lw_g (lw_at lw_m5 144 rfl) rfl
theorem q1162 : (Jvm.Cond.fieldLink "HammerTowersModel" (68 : Nat) "HammerTowersModel" "lifts" "[Z") ∈ lw_all := lw_g (lw_at lw_m5 145 rfl) rfl
theorem q1163 : (Jvm.Cond.fieldLink "HammerTowersModel" (72 : Nat) "HammerTowersModel" "isTower" "[Z") ∈ lw_all := lw_g (lw_at lw_m5 146 rfl) rfl
theorem q1164 : (Jvm.Cond.fieldLink "HammerTowersModel" (75 : Nat) "HammerTowersModel" "handsAt" "[I") ∈ lw_all := lw_g (lw_at lw_m5 147 rfl) rfl
theorem q1165 : (Jvm.Cond.fieldLink "HammerTowersModel" (78 : Nat) "HammerTowersModel" "rates" "[I") ∈ lw_all := lw_g (lw_at lw_m5 148 rfl) rfl
theorem q1166 : (Jvm.Cond.fieldLink "HammerTowersModel" (81 : Nat) "HammerTowersModel" "goings" "[I") ∈ lw_all := lw_g (lw_at lw_m5 149 rfl) rfl
theorem q1167 : (Jvm.Cond.fieldLink "HammerTowersModel" (84 : Nat) "HammerTowersModel" "sums" "[I") ∈ lw_all := lw_g (lw_at lw_m5 150 rfl) rfl
theorem q1168 : (Jvm.Cond.fieldLink "HammerTowersModel" (87 : Nat) "HammerTowersModel" "goes" "[Z") ∈ lw_all := lw_g (lw_at lw_m5 151 rfl) rfl
theorem q1169 : (Jvm.Cond.fieldLink "HammerTowersModel" (90 : Nat) "HammerTowersModel" "silentFrom" "[I") ∈ lw_all := lw_g (lw_at lw_m5 152 rfl) rfl
theorem q1170 : (Jvm.Cond.fieldLink "HammerTowersModel" (93 : Nat) "HammerTowersModel" "silentTo" "[I") ∈ lw_all := lw_g (lw_at lw_m5 153 rfl) rfl
theorem q1171 : (Jvm.Cond.fieldLink "HammerTowersModel" (96 : Nat) "HammerTowersModel" "silentSort" "[I") ∈ lw_all := lw_g (lw_at lw_m5 154 rfl) rfl
theorem q1172 : (Jvm.Cond.fieldLink "HammerTowersModel" (99 : Nat) "HammerTowersModel" "hung" "[I") ∈ lw_all := lw_g (lw_at lw_m5 155 rfl) rfl
theorem q1173 : (Jvm.Cond.fieldLink "HammerTowersModel" (102 : Nat) "HammerTowersModel" "isWarned" "[Z") ∈ lw_all := lw_g (lw_at lw_m5 156 rfl) rfl
theorem q1174 : (Jvm.Cond.fieldLink "HammerTowersModel" (105 : Nat) "HammerTowersModel" "entries" "[I") ∈ lw_all := lw_g (lw_at lw_m5 157 rfl) rfl
theorem q1175 : (Jvm.Cond.fieldLink "HammerTowersModel" (108 : Nat) "HammerTowersModel" "logs" "[I") ∈ lw_all := lw_g (lw_at lw_m5 158 rfl) rfl
theorem q1176 : (Jvm.Cond.fieldLink "HammerTowersModel" (111 : Nat) "HammerTowersModel" "best" "[I") ∈ lw_all := lw_g (lw_at lw_m5 159 rfl) rfl
theorem q1177 : (Jvm.Cond.fieldLink "HammerTowersModel" (114 : Nat) "HammerTowersModel" "acts" "I") ∈ lw_all := lw_g (lw_at lw_m5 160 rfl) rfl
theorem q1178 : (Jvm.Cond.fieldLink "HammerTowersModel" (118 : Nat) "HammerTowersModel" "actRow" "[I") ∈ lw_all := lw_g (lw_at lw_m5 161 rfl) rfl
theorem q1179 : (Jvm.Cond.fieldLink "HammerTowersModel" (307 : Nat) "HammerTowersModel" "faultSort" "I") ∈ lw_all := lw_g (lw_at lw_m5 162 rfl) rfl
theorem q1180 : (Jvm.Cond.fieldLink "HammerTowersModel" (133 : Nat) "HammerTowersModel" "faultFirst" "I") ∈ lw_all := lw_g (lw_at lw_m5 163 rfl) rfl
theorem q1181 : (Jvm.Cond.fieldLink "HammerTowersModel" (136 : Nat) "HammerTowersModel" "faultSecond" "I") ∈ lw_all := lw_g (lw_at lw_m5 164 rfl) rfl
theorem q1182 : (Jvm.Cond.fieldLink "HammerTowersModel" (296 : Nat) "HammerTowersModel" "fewest" "I") ∈ lw_all := lw_g (lw_at lw_m5 165 rfl) rfl
theorem q1183 : (Jvm.Cond.fieldLink "HammerTowersModel" (293 : Nat) "HammerTowersModel" "without" "I") ∈ lw_all := lw_g (lw_at lw_m5 166 rfl) rfl
theorem q1184 : (Jvm.Cond.fieldLink "HammerTowersModel" (121 : Nat) "HammerTowersModel" "held" "[I") ∈ lw_all := lw_g (lw_at lw_m5 167 rfl) rfl
theorem q1185 : (Jvm.Cond.fieldLink "HammerTowersModel" (310 : Nat) "HammerTowersModel" "wheels" "I") ∈ lw_all := lw_g (lw_at lw_m5 168 rfl) rfl
theorem q1186 : (Jvm.Cond.fieldLink "HammerTowersModel" (124 : Nat) "HammerTowersModel" "teeth" "[I") ∈ lw_all := lw_g (lw_at lw_m5 169 rfl) rfl
theorem q1187 : (Jvm.Cond.fieldLink "HammerTowersModel" (331 : Nat) "HammerTowersModel" "chosenMany" "I") ∈ lw_all := lw_g (lw_at lw_m5 170 rfl) rfl
theorem q1188 : (Jvm.Cond.fieldLink "HammerTowersModel" (127 : Nat) "HammerTowersModel" "chosen" "[I") ∈ lw_all := lw_g (lw_at lw_m5 171 rfl) rfl
theorem q1189 : (Jvm.Cond.fieldLink "HammerTowersModel" (130 : Nat) "HammerTowersModel" "four" "[I") ∈ lw_all := lw_g (lw_at lw_m5 172 rfl) rfl
theorem q1190 : (Jvm.Cond.fieldLink "HammerTowersModel" (324 : Nat) "HammerTowersModel" "bestUp" "J") ∈ lw_all := lw_g (lw_at lw_m5 173 rfl) rfl
theorem q1191 : (Jvm.Cond.fieldLink "HammerTowersModel" (321 : Nat) "HammerTowersModel" "bestLow" "J") ∈ lw_all := lw_g (lw_at lw_m5 174 rfl) rfl
theorem q1192 : (Jvm.Cond.fieldLink "HammerTowersModel" (313 : Nat) "HammerTowersModel" "isAny" "Z") ∈ lw_all := lw_g (lw_at lw_m5 175 rfl) rfl
theorem q1193 : (Jvm.Cond.lays "HammerTowersModel" "HammerTowersModel" "finding" "I") ∈ lw_all := lw_g (lw_at lw_m5 176 rfl) rfl
theorem q1194 : (Jvm.Cond.soleField "HammerTowersModel" "finding") ∈ lw_all := lw_g (lw_at lw_m5 177 rfl) rfl
theorem q1195 : (Jvm.Cond.laysFinal "HammerTowersModel" "HammerTowersModel" "findings" "[I") ∈ lw_all := lw_g (lw_at lw_m5 178 rfl) rfl
theorem q1196 : (Jvm.Cond.soleField "HammerTowersModel" "findings") ∈ lw_all := lw_g (lw_at lw_m5 179 rfl) rfl
theorem q1197 : (Jvm.Cond.lays "HammerTowersModel" "HammerTowersModel" "asked" "I") ∈ lw_all := lw_g (lw_at lw_m5 180 rfl) rfl
theorem q1198 : (Jvm.Cond.soleField "HammerTowersModel" "asked") ∈ lw_all := lw_g (lw_at lw_m5 181 rfl) rfl
theorem q1199 : (Jvm.Cond.lays "HammerTowersModel" "HammerTowersModel" "upper" "J") ∈ lw_all := lw_g (lw_at lw_m5 182 rfl) rfl
theorem q1200 : (Jvm.Cond.soleField "HammerTowersModel" "upper") ∈ lw_all := lw_g (lw_at lw_m5 183 rfl) rfl
theorem q1201 : (Jvm.Cond.lays "HammerTowersModel" "HammerTowersModel" "lower" "J") ∈ lw_all := lw_g (lw_at lw_m5 184 rfl) rfl
theorem q1202 : (Jvm.Cond.soleField "HammerTowersModel" "lower") ∈ lw_all := lw_g (lw_at lw_m5 185 rfl) rfl
theorem q1203 : (Jvm.Cond.lays "HammerTowersModel" "HammerTowersModel" "now" "I") ∈ lw_all := lw_g (lw_at lw_m5 186 rfl) rfl
theorem q1204 : (Jvm.Cond.soleField "HammerTowersModel" "now") ∈ lw_all := lw_g (lw_at lw_m5 187 rfl) rfl
theorem q1205 : (Jvm.Cond.lays "HammerTowersModel" "HammerTowersModel" "struckEver" "I") ∈ lw_all := lw_g (lw_at lw_m5 188 rfl) rfl
theorem q1206 : (Jvm.Cond.soleField "HammerTowersModel" "struckEver") ∈ lw_all := lw_g (lw_at lw_m5 189 rfl) rfl
theorem q1207 : (Jvm.Cond.laysFinal "HammerTowersModel" "HammerTowersModel" "sizes" "[I") ∈ lw_all := lw_g (lw_at lw_m5 190 rfl) rfl
theorem q1208 : (Jvm.Cond.soleField "HammerTowersModel" "sizes") ∈ lw_all := lw_g (lw_at lw_m5 191 rfl) rfl
theorem q1209 : (Jvm.Cond.laysFinal "HammerTowersModel" "HammerTowersModel" "rows" "[I") ∈ lw_all := lw_g (lw_at lw_m5 192 rfl) rfl
theorem q1210 : (Jvm.Cond.soleField "HammerTowersModel" "rows") ∈ lw_all := lw_g (lw_at lw_m5 193 rfl) rfl
theorem q1211 : (Jvm.Cond.laysFinal "HammerTowersModel" "HammerTowersModel" "moving" "[I") ∈ lw_all := lw_g (lw_at lw_m5 194 rfl) rfl
theorem q1212 : (Jvm.Cond.soleField "HammerTowersModel" "moving") ∈ lw_all := lw_g (lw_at lw_m5 195 rfl) rfl
theorem q1213 : (Jvm.Cond.lays "HammerTowersModel" "HammerTowersModel" "trains" "I") ∈ lw_all := lw_g (lw_at lw_m5 196 rfl) rfl
theorem q1214 : (Jvm.Cond.soleField "HammerTowersModel" "trains") ∈ lw_all := lw_g (lw_at lw_m5 197 rfl) rfl
theorem q1215 : (Jvm.Cond.laysFinal "HammerTowersModel" "HammerTowersModel" "kinds" "[I") ∈ lw_all := lw_g (lw_at lw_m5 198 rfl) rfl
theorem q1216 : (Jvm.Cond.soleField "HammerTowersModel" "kinds") ∈ lw_all := lw_g (lw_at lw_m5 199 rfl) rfl
theorem q1217 : (Jvm.Cond.laysFinal "HammerTowersModel" "HammerTowersModel" "many" "[I") ∈ lw_all := lw_g (lw_at lw_m5 200 rfl) rfl
theorem q1218 : (Jvm.Cond.soleField "HammerTowersModel" "many") ∈ lw_all := lw_g (lw_at lw_m5 201 rfl) rfl
theorem q1219 : (Jvm.Cond.laysFinal "HammerTowersModel" "HammerTowersModel" "notches" "[I") ∈ lw_all := lw_g (lw_at lw_m5 202 rfl) rfl
theorem q1220 : (Jvm.Cond.soleField "HammerTowersModel" "notches") ∈ lw_all := lw_g (lw_at lw_m5 203 rfl) rfl
theorem q1221 : (Jvm.Cond.laysFinal "HammerTowersModel" "HammerTowersModel" "stands" "[I") ∈ lw_all := lw_g (lw_at lw_m5 204 rfl) rfl
theorem q1222 : (Jvm.Cond.soleField "HammerTowersModel" "stands") ∈ lw_all := lw_g (lw_at lw_m5 205 rfl) rfl
theorem q1223 : (Jvm.Cond.laysFinal "HammerTowersModel" "HammerTowersModel" "pinMany" "[I") ∈ lw_all := lw_g (lw_at lw_m5 206 rfl) rfl
theorem q1224 : (Jvm.Cond.soleField "HammerTowersModel" "pinMany") ∈ lw_all := lw_g (lw_at lw_m5 207 rfl) rfl
theorem q1225 : (Jvm.Cond.laysFinal "HammerTowersModel" "HammerTowersModel" "pins" "[I") ∈ lw_all := lw_g (lw_at lw_m5 208 rfl) rfl
theorem q1226 : (Jvm.Cond.soleField "HammerTowersModel" "pins") ∈ lw_all := lw_g (lw_at lw_m5 209 rfl) rfl
theorem q1227 : (Jvm.Cond.laysFinal "HammerTowersModel" "HammerTowersModel" "pinAt" "[I") ∈ lw_all := lw_g (lw_at lw_m5 210 rfl) rfl
theorem q1228 : (Jvm.Cond.soleField "HammerTowersModel" "pinAt") ∈ lw_all := lw_g (lw_at lw_m5 211 rfl) rfl
theorem q1229 : (Jvm.Cond.laysFinal "HammerTowersModel" "HammerTowersModel" "paces" "[I") ∈ lw_all := lw_g (lw_at lw_m5 212 rfl) rfl
theorem q1230 : (Jvm.Cond.soleField "HammerTowersModel" "paces") ∈ lw_all := lw_g (lw_at lw_m5 213 rfl) rfl
theorem q1231 : (Jvm.Cond.laysFinal "HammerTowersModel" "HammerTowersModel" "falls" "[I") ∈ lw_all := lw_g (lw_at lw_m5 214 rfl) rfl
theorem q1232 : (Jvm.Cond.soleField "HammerTowersModel" "falls") ∈ lw_all := lw_g (lw_at lw_m5 215 rfl) rfl
theorem q1233 : (Jvm.Cond.laysFinal "HammerTowersModel" "HammerTowersModel" "weights" "[I") ∈ lw_all := lw_g (lw_at lw_m5 216 rfl) rfl
theorem q1234 : (Jvm.Cond.soleField "HammerTowersModel" "weights") ∈ lw_all := lw_g (lw_at lw_m5 217 rfl) rfl
theorem q1235 : (Jvm.Cond.laysFinal "HammerTowersModel" "HammerTowersModel" "dues" "[I") ∈ lw_all := lw_g (lw_at lw_m5 218 rfl) rfl
theorem q1236 : (Jvm.Cond.soleField "HammerTowersModel" "dues") ∈ lw_all := lw_g (lw_at lw_m5 219 rfl) rfl
theorem q1237 : (Jvm.Cond.laysFinal "HammerTowersModel" "HammerTowersModel" "places" "[I") ∈ lw_all := lw_g (lw_at lw_m5 220 rfl) rfl
theorem q1238 : (Jvm.Cond.soleField "HammerTowersModel" "places") ∈ lw_all := lw_g (lw_at lw_m5 221 rfl) rfl
theorem q1239 : (Jvm.Cond.laysFinal "HammerTowersModel" "HammerTowersModel" "brokens" "[I") ∈ lw_all := lw_g (lw_at lw_m5 222 rfl) rfl
theorem q1240 : (Jvm.Cond.soleField "HammerTowersModel" "brokens") ∈ lw_all := lw_g (lw_at lw_m5 223 rfl) rfl
theorem q1241 : (Jvm.Cond.laysFinal "HammerTowersModel" "HammerTowersModel" "strucks" "[I") ∈ lw_all := lw_g (lw_at lw_m5 224 rfl) rfl
theorem q1242 : (Jvm.Cond.soleField "HammerTowersModel" "strucks") ∈ lw_all := lw_g (lw_at lw_m5 225 rfl) rfl
theorem q1243 : (Jvm.Cond.laysFinal "HammerTowersModel" "HammerTowersModel" "lifts" "[Z") ∈ lw_all := lw_g (lw_at lw_m5 226 rfl) rfl
theorem q1244 : (Jvm.Cond.soleField "HammerTowersModel" "lifts") ∈ lw_all := lw_g (lw_at lw_m5 227 rfl) rfl
theorem q1245 : (Jvm.Cond.laysFinal "HammerTowersModel" "HammerTowersModel" "isTower" "[Z") ∈ lw_all := lw_g (lw_at lw_m5 228 rfl) rfl
theorem q1246 : (Jvm.Cond.soleField "HammerTowersModel" "isTower") ∈ lw_all := lw_g (lw_at lw_m5 229 rfl) rfl
theorem q1247 : (Jvm.Cond.laysFinal "HammerTowersModel" "HammerTowersModel" "handsAt" "[I") ∈ lw_all := lw_g (lw_at lw_m5 230 rfl) rfl
theorem q1248 : (Jvm.Cond.soleField "HammerTowersModel" "handsAt") ∈ lw_all := lw_g (lw_at lw_m5 231 rfl) rfl
theorem q1249 : (Jvm.Cond.laysFinal "HammerTowersModel" "HammerTowersModel" "rates" "[I") ∈ lw_all := lw_g (lw_at lw_m5 232 rfl) rfl
theorem q1250 : (Jvm.Cond.soleField "HammerTowersModel" "rates") ∈ lw_all := lw_g (lw_at lw_m5 233 rfl) rfl
theorem q1251 : (Jvm.Cond.laysFinal "HammerTowersModel" "HammerTowersModel" "goings" "[I") ∈ lw_all := lw_g (lw_at lw_m5 234 rfl) rfl
theorem q1252 : (Jvm.Cond.soleField "HammerTowersModel" "goings") ∈ lw_all := lw_g (lw_at lw_m5 235 rfl) rfl
theorem q1253 : (Jvm.Cond.laysFinal "HammerTowersModel" "HammerTowersModel" "sums" "[I") ∈ lw_all := lw_g (lw_at lw_m5 236 rfl) rfl
theorem q1254 : (Jvm.Cond.soleField "HammerTowersModel" "sums") ∈ lw_all := lw_g (lw_at lw_m5 237 rfl) rfl
theorem q1255 : (Jvm.Cond.laysFinal "HammerTowersModel" "HammerTowersModel" "goes" "[Z") ∈ lw_all := lw_g (lw_at lw_m5 238 rfl) rfl
theorem q1256 : (Jvm.Cond.soleField "HammerTowersModel" "goes") ∈ lw_all := lw_g (lw_at lw_m5 239 rfl) rfl
theorem q1257 : (Jvm.Cond.laysFinal "HammerTowersModel" "HammerTowersModel" "silentFrom" "[I") ∈ lw_all := lw_g (lw_at lw_m6 0 rfl) rfl
theorem q1258 : (Jvm.Cond.soleField "HammerTowersModel" "silentFrom") ∈ lw_all := lw_g (lw_at lw_m6 1 rfl) rfl
theorem q1259 : (Jvm.Cond.laysFinal "HammerTowersModel" "HammerTowersModel" "silentTo" "[I") ∈ lw_all := lw_g (lw_at lw_m6 2 rfl) rfl
theorem q1260 : (Jvm.Cond.soleField "HammerTowersModel" "silentTo") ∈ lw_all := lw_g (lw_at lw_m6 3 rfl) rfl
theorem q1261 : (Jvm.Cond.laysFinal "HammerTowersModel" "HammerTowersModel" "silentSort" "[I") ∈ lw_all := lw_g (lw_at lw_m6 4 rfl) rfl
theorem q1262 : (Jvm.Cond.soleField "HammerTowersModel" "silentSort") ∈ lw_all := lw_g (lw_at lw_m6 5 rfl) rfl
theorem q1263 : (Jvm.Cond.laysFinal "HammerTowersModel" "HammerTowersModel" "hung" "[I") ∈ lw_all := lw_g (lw_at lw_m6 6 rfl) rfl
theorem q1264 : (Jvm.Cond.soleField "HammerTowersModel" "hung") ∈ lw_all := lw_g (lw_at lw_m6 7 rfl) rfl
theorem q1265 : (Jvm.Cond.laysFinal "HammerTowersModel" "HammerTowersModel" "isWarned" "[Z") ∈ lw_all := lw_g (lw_at lw_m6 8 rfl) rfl
theorem q1266 : (Jvm.Cond.soleField "HammerTowersModel" "isWarned") ∈ lw_all := lw_g (lw_at lw_m6 9 rfl) rfl
theorem q1267 : (Jvm.Cond.laysFinal "HammerTowersModel" "HammerTowersModel" "entries" "[I") ∈ lw_all := lw_g (lw_at lw_m6 10 rfl) rfl
theorem q1268 : (Jvm.Cond.soleField "HammerTowersModel" "entries") ∈ lw_all := lw_g (lw_at lw_m6 11 rfl) rfl
theorem q1269 : (Jvm.Cond.laysFinal "HammerTowersModel" "HammerTowersModel" "logs" "[I") ∈ lw_all := lw_g (lw_at lw_m6 12 rfl) rfl
theorem q1270 : (Jvm.Cond.soleField "HammerTowersModel" "logs") ∈ lw_all := lw_g (lw_at lw_m6 13 rfl) rfl
theorem q1271 : (Jvm.Cond.laysFinal "HammerTowersModel" "HammerTowersModel" "best" "[I") ∈ lw_all := lw_g (lw_at lw_m6 14 rfl) rfl
theorem q1272 : (Jvm.Cond.soleField "HammerTowersModel" "best") ∈ lw_all := lw_g (lw_at lw_m6 15 rfl) rfl
theorem q1273 : (Jvm.Cond.lays "HammerTowersModel" "HammerTowersModel" "acts" "I") ∈ lw_all := lw_g (lw_at lw_m6 16 rfl) rfl
theorem q1274 : (Jvm.Cond.soleField "HammerTowersModel" "acts") ∈ lw_all := lw_g (lw_at lw_m6 17 rfl) rfl
theorem q1275 : (Jvm.Cond.laysFinal "HammerTowersModel" "HammerTowersModel" "actRow" "[I") ∈ lw_all := lw_g (lw_at lw_m6 18 rfl) rfl
theorem q1276 : (Jvm.Cond.soleField "HammerTowersModel" "actRow") ∈ lw_all := lw_g (lw_at lw_m6 19 rfl) rfl
theorem q1277 : (Jvm.Cond.lays "HammerTowersModel" "HammerTowersModel" "faultSort" "I") ∈ lw_all := lw_g (lw_at lw_m6 20 rfl) rfl
theorem q1278 : (Jvm.Cond.soleField "HammerTowersModel" "faultSort") ∈ lw_all := lw_g (lw_at lw_m6 21 rfl) rfl
theorem q1279 : (Jvm.Cond.lays "HammerTowersModel" "HammerTowersModel" "faultFirst" "I") ∈ lw_all := lw_g (lw_at lw_m6 22 rfl) rfl
theorem q1280 : (Jvm.Cond.soleField "HammerTowersModel" "faultFirst") ∈ lw_all := lw_g (lw_at lw_m6 23 rfl) rfl
theorem q1281 : (Jvm.Cond.lays "HammerTowersModel" "HammerTowersModel" "faultSecond" "I") ∈ lw_all := lw_g (lw_at lw_m6 24 rfl) rfl
theorem q1282 : (Jvm.Cond.soleField "HammerTowersModel" "faultSecond") ∈ lw_all := lw_g (lw_at lw_m6 25 rfl) rfl
theorem q1283 : (Jvm.Cond.lays "HammerTowersModel" "HammerTowersModel" "fewest" "I") ∈ lw_all := lw_g (lw_at lw_m6 26 rfl) rfl
theorem q1284 : (Jvm.Cond.soleField "HammerTowersModel" "fewest") ∈ lw_all := lw_g (lw_at lw_m6 27 rfl) rfl
theorem q1285 : (Jvm.Cond.lays "HammerTowersModel" "HammerTowersModel" "without" "I") ∈ lw_all := lw_g (lw_at lw_m6 28 rfl) rfl
theorem q1286 : (Jvm.Cond.soleField "HammerTowersModel" "without") ∈ lw_all := lw_g (lw_at lw_m6 29 rfl) rfl
theorem q1287 : (Jvm.Cond.laysFinal "HammerTowersModel" "HammerTowersModel" "held" "[I") ∈ lw_all := lw_g (lw_at lw_m6 30 rfl) rfl
theorem q1288 : (Jvm.Cond.soleField "HammerTowersModel" "held") ∈ lw_all := lw_g (lw_at lw_m6 31 rfl) rfl
theorem q1289 : (Jvm.Cond.lays "HammerTowersModel" "HammerTowersModel" "wheels" "I") ∈ lw_all := lw_g (lw_at lw_m6 32 rfl) rfl
theorem q1290 : (Jvm.Cond.soleField "HammerTowersModel" "wheels") ∈ lw_all := lw_g (lw_at lw_m6 33 rfl) rfl
theorem q1291 : (Jvm.Cond.laysFinal "HammerTowersModel" "HammerTowersModel" "teeth" "[I") ∈ lw_all := lw_g (lw_at lw_m6 34 rfl) rfl
theorem q1292 : (Jvm.Cond.soleField "HammerTowersModel" "teeth") ∈ lw_all := lw_g (lw_at lw_m6 35 rfl) rfl
theorem q1293 : (Jvm.Cond.lays "HammerTowersModel" "HammerTowersModel" "chosenMany" "I") ∈ lw_all := lw_g (lw_at lw_m6 36 rfl) rfl
theorem q1294 : (Jvm.Cond.soleField "HammerTowersModel" "chosenMany") ∈ lw_all := lw_g (lw_at lw_m6 37 rfl) rfl
theorem q1295 : (Jvm.Cond.laysFinal "HammerTowersModel" "HammerTowersModel" "chosen" "[I") ∈ lw_all := lw_g (lw_at lw_m6 38 rfl) rfl
theorem q1296 : (Jvm.Cond.soleField "HammerTowersModel" "chosen") ∈ lw_all := lw_g (lw_at lw_m6 39 rfl) rfl
theorem q1297 : (Jvm.Cond.laysFinal "HammerTowersModel" "HammerTowersModel" "four" "[I") ∈ lw_all := lw_g (lw_at lw_m6 40 rfl) rfl
theorem q1298 : (Jvm.Cond.soleField "HammerTowersModel" "four") ∈ lw_all := lw_g (lw_at lw_m6 41 rfl) rfl
theorem q1299 : (Jvm.Cond.lays "HammerTowersModel" "HammerTowersModel" "bestUp" "J") ∈ lw_all := lw_g (lw_at lw_m6 42 rfl) rfl
theorem q1300 : (Jvm.Cond.soleField "HammerTowersModel" "bestUp") ∈ lw_all := lw_g (lw_at lw_m6 43 rfl) rfl
theorem q1301 : (Jvm.Cond.lays "HammerTowersModel" "HammerTowersModel" "bestLow" "J") ∈ lw_all := lw_g (lw_at lw_m6 44 rfl) rfl
theorem q1302 : (Jvm.Cond.soleField "HammerTowersModel" "bestLow") ∈ lw_all := lw_g (lw_at lw_m6 45 rfl) rfl
theorem q1303 : (Jvm.Cond.lays "HammerTowersModel" "HammerTowersModel" "isAny" "Z") ∈ lw_all := lw_g (lw_at lw_m6 46 rfl) rfl
theorem q1304 : (Jvm.Cond.soleField "HammerTowersModel" "isAny") ∈ lw_all := lw_g (lw_at lw_m6 47 rfl) rfl
theorem q1305 : (Jvm.Cond.superclass "HammerTowersModel" "java/lang/Object") ∈ lw_all := lw_g (lw_at lw_m6 48 rfl) rfl
theorem q1308 : (Jvm.Cond.instanceMethod ({ cls := "HammerTowersModel", name := "row", desc := "(II)I" } : Jvm.MethodName)) ∈ lw_all := lw_g (lw_at lw_m6 51 rfl) rfl
theorem q1309 : (Jvm.Cond.selects "HammerTowersModel" ({ cls := "HammerTowersModel", name := "row", desc := "(II)I" } : Jvm.MethodName) ({ cls := "HammerTowersModel", name := "row", desc := "(II)I" } : Jvm.MethodName)) ∈ lw_all := lw_g (lw_at lw_m6 52 rfl) rfl
theorem q1310 : (Jvm.Cond.code ({ cls := "HammerTowersModel", name := "row", desc := "(II)I" } : Jvm.MethodName) prog_9_method_8_code (4 : Nat) (Option.some Jvm.ClassFile.FieldType.int)) ∈ lw_all := lw_g (lw_at lw_m6 53 rfl) rfl
theorem q1311 : (Jvm.Cond.methodLink "HammerTowersModel" (149 : Nat) ({ cls := "HammerTowersModel", name := "isRow", desc := "(I)Z" } : Jvm.MethodName)) ∈ lw_all := lw_g (lw_at lw_m6 54 rfl) rfl
theorem q1312 : (Jvm.Cond.static ({ cls := "HammerTowersModel", name := "isRow", desc := "(I)Z" } : Jvm.MethodName)) ∈ lw_all := lw_g (lw_at lw_m6 55 rfl) rfl
theorem q1313 : (Jvm.Cond.code ({ cls := "HammerTowersModel", name := "isRow", desc := "(I)Z" } : Jvm.MethodName) prog_9_method_6_code (1 : Nat) (Option.some Jvm.ClassFile.FieldType.boolean)) ∈ lw_all := lw_g (lw_at lw_m6 56 rfl) rfl
theorem q1314 : (Jvm.Cond.methodLink "HammerTowersModel" (145 : Nat) ({ cls := "HammerTowersModel", name := "in", desc := "(III)Z" } : Jvm.MethodName)) ∈ lw_all := lw_g (lw_at lw_m6 57 rfl) rfl
theorem q1315 : (Jvm.Cond.static ({ cls := "HammerTowersModel", name := "in", desc := "(III)Z" } : Jvm.MethodName)) ∈ lw_all := lw_g (lw_at lw_m6 58 rfl) rfl
theorem q1316 : (Jvm.Cond.code ({ cls := "HammerTowersModel", name := "in", desc := "(III)Z" } : Jvm.MethodName) prog_9_method_3_code (3 : Nat) (Option.some Jvm.ClassFile.FieldType.boolean)) ∈ lw_all := lw_g (lw_at lw_m6 59 rfl) rfl
theorem q1317 : (Jvm.Cond.methodLink "HammerTowersModel" (153 : Nat) ({ cls := "HammerTowersModel", name := "meets", desc := "(I)I" } : Jvm.MethodName)) ∈ lw_all := lw_g (lw_at lw_m6 60 rfl) rfl
theorem q1318 : (Jvm.Cond.privateMethod ({ cls := "HammerTowersModel", name := "meets", desc := "(I)I" } : Jvm.MethodName)) ∈ lw_tbl := lw_at lw_m6 61 rfl
theorem q1319 : (Jvm.Cond.instanceMethod ({ cls := "HammerTowersModel", name := "meets", desc := "(I)I" } : Jvm.MethodName)) ∈ lw_all := lw_g (lw_at lw_m6 62 rfl) rfl
theorem q1320 : (Jvm.Cond.code ({ cls := "HammerTowersModel", name := "meets", desc := "(I)I" } : Jvm.MethodName) prog_9_method_4_code (2 : Nat) (Option.some Jvm.ClassFile.FieldType.int)) ∈ lw_all := lw_g (lw_at lw_m6 63 rfl) rfl
theorem q1322 : (Jvm.Cond.instanceMethod ({ cls := "HammerTowersModel", name := "lay", desc := "(III)I" } : Jvm.MethodName)) ∈ lw_all := lw_g (lw_at lw_m6 65 rfl) rfl
theorem q1323 : (Jvm.Cond.selects "HammerTowersModel" ({ cls := "HammerTowersModel", name := "lay", desc := "(III)I" } : Jvm.MethodName) ({ cls := "HammerTowersModel", name := "lay", desc := "(III)I" } : Jvm.MethodName)) ∈ lw_all := lw_g (lw_at lw_m6 66 rfl) rfl
theorem q1324 : (Jvm.Cond.code ({ cls := "HammerTowersModel", name := "lay", desc := "(III)I" } : Jvm.MethodName) prog_9_method_9_code (6 : Nat) (Option.some Jvm.ClassFile.FieldType.int)) ∈ lw_all := lw_g (lw_at lw_m6 67 rfl) rfl
theorem q1325 : (Jvm.Cond.methodLink "HammerTowersModel" (157 : Nat) ({ cls := "HammerTowersModel", name := "looked", desc := "(I)I" } : Jvm.MethodName)) ∈ lw_all := lw_g (lw_at lw_m6 68 rfl) rfl
theorem q1326 : (Jvm.Cond.privateMethod ({ cls := "HammerTowersModel", name := "looked", desc := "(I)I" } : Jvm.MethodName)) ∈ lw_tbl := lw_at lw_m6 69 rfl
theorem q1327 : (Jvm.Cond.instanceMethod ({ cls := "HammerTowersModel", name := "looked", desc := "(I)I" } : Jvm.MethodName)) ∈ lw_all := lw_g (lw_at lw_m6 70 rfl) rfl
theorem q1328 : (Jvm.Cond.code ({ cls := "HammerTowersModel", name := "looked", desc := "(I)I" } : Jvm.MethodName) prog_9_method_7_code (2 : Nat) (Option.some Jvm.ClassFile.FieldType.int)) ∈ lw_all := lw_g (lw_at lw_m6 71 rfl) rfl
theorem q1330 : (Jvm.Cond.instanceMethod ({ cls := "HammerTowersModel", name := "tear", desc := "(I)I" } : Jvm.MethodName)) ∈ lw_all := lw_g (lw_at lw_m6 73 rfl) rfl
theorem q1331 : (Jvm.Cond.selects "HammerTowersModel" ({ cls := "HammerTowersModel", name := "tear", desc := "(I)I" } : Jvm.MethodName) ({ cls := "HammerTowersModel", name := "tear", desc := "(I)I" } : Jvm.MethodName)) ∈ lw_all := lw_g (lw_at lw_m6 74 rfl) rfl
theorem q1332 : (Jvm.Cond.code ({ cls := "HammerTowersModel", name := "tear", desc := "(I)I" } : Jvm.MethodName) prog_9_method_10_code (3 : Nat) (Option.some Jvm.ClassFile.FieldType.int)) ∈ lw_all := lw_g (lw_at lw_m6 75 rfl) rfl
theorem q1334 : (Jvm.Cond.instanceMethod ({ cls := "HammerTowersModel", name := "copy", desc := "(IIIII)I" } : Jvm.MethodName)) ∈ lw_all := lw_g (lw_at lw_m6 77 rfl) rfl
theorem q1335 : (Jvm.Cond.selects "HammerTowersModel" ({ cls := "HammerTowersModel", name := "copy", desc := "(IIIII)I" } : Jvm.MethodName) ({ cls := "HammerTowersModel", name := "copy", desc := "(IIIII)I" } : Jvm.MethodName)) ∈ lw_all := lw_g (lw_at lw_m6 78 rfl) rfl
theorem q1336 : (Jvm.Cond.code ({ cls := "HammerTowersModel", name := "copy", desc := "(IIIII)I" } : Jvm.MethodName) prog_9_method_11_code (7 : Nat) (Option.some Jvm.ClassFile.FieldType.int)) ∈ lw_all := lw_g (lw_at lw_m6 79 rfl) rfl
theorem q1338 : (Jvm.Cond.instanceMethod ({ cls := "HammerTowersModel", name := "train", desc := "()I" } : Jvm.MethodName)) ∈ lw_all := lw_g (lw_at lw_m6 81 rfl) rfl
theorem q1339 : (Jvm.Cond.selects "HammerTowersModel" ({ cls := "HammerTowersModel", name := "train", desc := "()I" } : Jvm.MethodName) ({ cls := "HammerTowersModel", name := "train", desc := "()I" } : Jvm.MethodName)) ∈ lw_all := lw_g (lw_at lw_m6 82 rfl) rfl
theorem q1340 : (Jvm.Cond.code ({ cls := "HammerTowersModel", name := "train", desc := "()I" } : Jvm.MethodName) prog_9_method_13_code (1 : Nat) (Option.some Jvm.ClassFile.FieldType.int)) ∈ lw_all := lw_g (lw_at lw_m6 83 rfl) rfl
theorem q1341 : (Jvm.Cond.methodLink "HammerTowersModel" (163 : Nat) ({ cls := "HammerTowersModel", name := "makes", desc := "(I)I" } : Jvm.MethodName)) ∈ lw_all := lw_g (lw_at lw_m6 84 rfl) rfl
theorem q1342 : (Jvm.Cond.privateMethod ({ cls := "HammerTowersModel", name := "makes", desc := "(I)I" } : Jvm.MethodName)) ∈ lw_tbl := lw_at lw_m6 85 rfl
theorem q1343 : (Jvm.Cond.instanceMethod ({ cls := "HammerTowersModel", name := "makes", desc := "(I)I" } : Jvm.MethodName)) ∈ lw_all := lw_g (lw_at lw_m6 86 rfl) rfl
theorem q1344 : (Jvm.Cond.code ({ cls := "HammerTowersModel", name := "makes", desc := "(I)I" } : Jvm.MethodName) prog_9_method_12_code (2 : Nat) (Option.some Jvm.ClassFile.FieldType.int)) ∈ lw_all := lw_g (lw_at lw_m6 87 rfl) rfl
theorem q1346 : (Jvm.Cond.instanceMethod ({ cls := "HammerTowersModel", name := "plate", desc := "(I)I" } : Jvm.MethodName)) ∈ lw_all := lw_g (lw_at lw_m6 89 rfl) rfl
theorem q1347 : (Jvm.Cond.selects "HammerTowersModel" ({ cls := "HammerTowersModel", name := "plate", desc := "(I)I" } : Jvm.MethodName) ({ cls := "HammerTowersModel", name := "plate", desc := "(I)I" } : Jvm.MethodName)) ∈ lw_all := lw_g (lw_at lw_m6 90 rfl) rfl
theorem q1348 : (Jvm.Cond.code ({ cls := "HammerTowersModel", name := "plate", desc := "(I)I" } : Jvm.MethodName) prog_9_method_17_code (2 : Nat) (Option.some Jvm.ClassFile.FieldType.int)) ∈ lw_all := lw_g (lw_at lw_m6 91 rfl) rfl
theorem q1349 : (Jvm.Cond.methodLink "HammerTowersModel" (173 : Nat) ({ cls := "HammerTowersModel", name := "plateOf", desc := "(II)I" } : Jvm.MethodName)) ∈ lw_all := lw_g (lw_at lw_m6 92 rfl) rfl
theorem q1350 : (Jvm.Cond.privateMethod ({ cls := "HammerTowersModel", name := "plateOf", desc := "(II)I" } : Jvm.MethodName)) ∈ lw_tbl := lw_at lw_m6 93 rfl
theorem q1351 : (Jvm.Cond.instanceMethod ({ cls := "HammerTowersModel", name := "plateOf", desc := "(II)I" } : Jvm.MethodName)) ∈ lw_all := lw_g (lw_at lw_m6 94 rfl) rfl
theorem q1352 : (Jvm.Cond.code ({ cls := "HammerTowersModel", name := "plateOf", desc := "(II)I" } : Jvm.MethodName) prog_9_method_16_code (3 : Nat) (Option.some Jvm.ClassFile.FieldType.int)) ∈ lw_all := lw_g (lw_at lw_m6 95 rfl) rfl
theorem q1353 : (Jvm.Cond.methodLink "HammerTowersModel" (166 : Nat) ({ cls := "HammerTowersModel", name := "areNotches", desc := "(I)Z" } : Jvm.MethodName)) ∈ lw_all := lw_g (lw_at lw_m6 96 rfl) rfl
theorem q1354 : (Jvm.Cond.privateMethod ({ cls := "HammerTowersModel", name := "areNotches", desc := "(I)Z" } : Jvm.MethodName)) ∈ lw_tbl := lw_at lw_m6 97 rfl
theorem q1355 : (Jvm.Cond.instanceMethod ({ cls := "HammerTowersModel", name := "areNotches", desc := "(I)Z" } : Jvm.MethodName)) ∈ lw_all := lw_g (lw_at lw_m6 98 rfl) rfl
theorem q1356 : (Jvm.Cond.code ({ cls := "HammerTowersModel", name := "areNotches", desc := "(I)Z" } : Jvm.MethodName) prog_9_method_14_code (4 : Nat) (Option.some Jvm.ClassFile.FieldType.boolean)) ∈ lw_all := lw_g (lw_at lw_m6 99 rfl) rfl
theorem q1357 : (Jvm.Cond.methodLink "HammerTowersModel" (169 : Nat) ({ cls := "HammerTowersModel", name := "cutOf", desc := "(II)I" } : Jvm.MethodName)) ∈ lw_all := lw_g (lw_at lw_m6 100 rfl) rfl
theorem q1358 : (Jvm.Cond.privateMethod ({ cls := "HammerTowersModel", name := "cutOf", desc := "(II)I" } : Jvm.MethodName)) ∈ lw_tbl := lw_at lw_m6 101 rfl
theorem q1359 : (Jvm.Cond.instanceMethod ({ cls := "HammerTowersModel", name := "cutOf", desc := "(II)I" } : Jvm.MethodName)) ∈ lw_all := lw_g (lw_at lw_m6 102 rfl) rfl
theorem q1360 : (Jvm.Cond.code ({ cls := "HammerTowersModel", name := "cutOf", desc := "(II)I" } : Jvm.MethodName) prog_9_method_15_code (4 : Nat) (Option.some Jvm.ClassFile.FieldType.int)) ∈ lw_all := lw_g (lw_at lw_m6 103 rfl) rfl
theorem q1362 : (Jvm.Cond.instanceMethod ({ cls := "HammerTowersModel", name := "snail", desc := "(I)I" } : Jvm.MethodName)) ∈ lw_all := lw_g (lw_at lw_m6 105 rfl) rfl
theorem q1363 : (Jvm.Cond.selects "HammerTowersModel" ({ cls := "HammerTowersModel", name := "snail", desc := "(I)I" } : Jvm.MethodName) ({ cls := "HammerTowersModel", name := "snail", desc := "(I)I" } : Jvm.MethodName)) ∈ lw_all := lw_g (lw_at lw_m6 106 rfl) rfl
theorem q1364 : (Jvm.Cond.code ({ cls := "HammerTowersModel", name := "snail", desc := "(I)I" } : Jvm.MethodName) prog_9_method_18_code (2 : Nat) (Option.some Jvm.ClassFile.FieldType.int)) ∈ lw_all := lw_g (lw_at lw_m6 107 rfl) rfl
theorem q1366 : (Jvm.Cond.instanceMethod ({ cls := "HammerTowersModel", name := "barrel", desc := "(II)I" } : Jvm.MethodName)) ∈ lw_all := lw_g (lw_at lw_m6 109 rfl) rfl
theorem q1367 : (Jvm.Cond.selects "HammerTowersModel" ({ cls := "HammerTowersModel", name := "barrel", desc := "(II)I" } : Jvm.MethodName) ({ cls := "HammerTowersModel", name := "barrel", desc := "(II)I" } : Jvm.MethodName)) ∈ lw_all := lw_g (lw_at lw_m6 110 rfl) rfl
theorem q1368 : (Jvm.Cond.code ({ cls := "HammerTowersModel", name := "barrel", desc := "(II)I" } : Jvm.MethodName) prog_9_method_19_code (4 : Nat) (Option.some Jvm.ClassFile.FieldType.int)) ∈ lw_all := lw_g (lw_at lw_m6 111 rfl) rfl
theorem q1370 : (Jvm.Cond.instanceMethod ({ cls := "HammerTowersModel", name := "gear", desc := "(III)I" } : Jvm.MethodName)) ∈ lw_all := lw_g (lw_at lw_m6 113 rfl) rfl
theorem q1371 : (Jvm.Cond.selects "HammerTowersModel" ({ cls := "HammerTowersModel", name := "gear", desc := "(III)I" } : Jvm.MethodName) ({ cls := "HammerTowersModel", name := "gear", desc := "(III)I" } : Jvm.MethodName)) ∈ lw_all := lw_g (lw_at lw_m6 114 rfl) rfl
theorem q1372 : (Jvm.Cond.code ({ cls := "HammerTowersModel", name := "gear", desc := "(III)I" } : Jvm.MethodName) prog_9_method_22_code (5 : Nat) (Option.some Jvm.ClassFile.FieldType.int)) ∈ lw_all := lw_g (lw_at lw_m6 115 rfl) rfl
theorem q1373 : (Jvm.Cond.methodLink "HammerTowersModel" (176 : Nat) ({ cls := "HammerTowersModel", name := "isTrain", desc := "(I)Z" } : Jvm.MethodName)) ∈ lw_all := lw_g (lw_at lw_m6 116 rfl) rfl
theorem q1374 : (Jvm.Cond.privateMethod ({ cls := "HammerTowersModel", name := "isTrain", desc := "(I)Z" } : Jvm.MethodName)) ∈ lw_tbl := lw_at lw_m6 117 rfl
theorem q1375 : (Jvm.Cond.instanceMethod ({ cls := "HammerTowersModel", name := "isTrain", desc := "(I)Z" } : Jvm.MethodName)) ∈ lw_all := lw_g (lw_at lw_m6 118 rfl) rfl
theorem q1376 : (Jvm.Cond.code ({ cls := "HammerTowersModel", name := "isTrain", desc := "(I)Z" } : Jvm.MethodName) prog_9_method_20_code (2 : Nat) (Option.some Jvm.ClassFile.FieldType.boolean)) ∈ lw_all := lw_g (lw_at lw_m6 119 rfl) rfl
theorem q1377 : (Jvm.Cond.constant "HammerTowersModel" (179 : Nat) (100000 : Int32)) ∈ lw_all := lw_g (lw_at lw_m6 120 rfl) rfl
theorem q1379 : (Jvm.Cond.instanceMethod ({ cls := "HammerTowersModel", name := "wind", desc := "(I)I" } : Jvm.MethodName)) ∈ lw_all := lw_g (lw_at lw_m6 122 rfl) rfl
theorem q1380 : (Jvm.Cond.selects "HammerTowersModel" ({ cls := "HammerTowersModel", name := "wind", desc := "(I)I" } : Jvm.MethodName) ({ cls := "HammerTowersModel", name := "wind", desc := "(I)I" } : Jvm.MethodName)) ∈ lw_all := lw_g (lw_at lw_m6 123 rfl) rfl
theorem q1381 : (Jvm.Cond.code ({ cls := "HammerTowersModel", name := "wind", desc := "(I)I" } : Jvm.MethodName) prog_9_method_23_code (3 : Nat) (Option.some Jvm.ClassFile.FieldType.int)) ∈ lw_all := lw_g (lw_at lw_m6 124 rfl) rfl
theorem q1383 : (Jvm.Cond.instanceMethod ({ cls := "HammerTowersModel", name := "broken", desc := "(II)I" } : Jvm.MethodName)) ∈ lw_all := lw_g (lw_at lw_m6 126 rfl) rfl
theorem q1384 : (Jvm.Cond.selects "HammerTowersModel" ({ cls := "HammerTowersModel", name := "broken", desc := "(II)I" } : Jvm.MethodName) ({ cls := "HammerTowersModel", name := "broken", desc := "(II)I" } : Jvm.MethodName)) ∈ lw_all := lw_g (lw_at lw_m6 127 rfl) rfl
theorem q1385 : (Jvm.Cond.code ({ cls := "HammerTowersModel", name := "broken", desc := "(II)I" } : Jvm.MethodName) prog_9_method_24_code (4 : Nat) (Option.some Jvm.ClassFile.FieldType.int)) ∈ lw_all := lw_g (lw_at lw_m6 128 rfl) rfl
theorem q1387 : (Jvm.Cond.instanceMethod ({ cls := "HammerTowersModel", name := "told", desc := "(II)I" } : Jvm.MethodName)) ∈ lw_all := lw_g (lw_at lw_m6 130 rfl) rfl
theorem q1388 : (Jvm.Cond.selects "HammerTowersModel" ({ cls := "HammerTowersModel", name := "told", desc := "(II)I" } : Jvm.MethodName) ({ cls := "HammerTowersModel", name := "told", desc := "(II)I" } : Jvm.MethodName)) ∈ lw_all := lw_g (lw_at lw_m6 131 rfl) rfl
theorem q1389 : (Jvm.Cond.code ({ cls := "HammerTowersModel", name := "told", desc := "(II)I" } : Jvm.MethodName) prog_9_method_26_code (3 : Nat) (Option.some Jvm.ClassFile.FieldType.int)) ∈ lw_all := lw_g (lw_at lw_m6 132 rfl) rfl
theorem q1390 : (Jvm.Cond.methodLink "HammerTowersModel" (183 : Nat) ({ cls := "HammerTowersModel", name := "trainTells", desc := "(II)I" } : Jvm.MethodName)) ∈ lw_all := lw_g (lw_at lw_m6 133 rfl) rfl
theorem q1391 : (Jvm.Cond.privateMethod ({ cls := "HammerTowersModel", name := "trainTells", desc := "(II)I" } : Jvm.MethodName)) ∈ lw_tbl := lw_at lw_m6 134 rfl
theorem q1392 : (Jvm.Cond.instanceMethod ({ cls := "HammerTowersModel", name := "trainTells", desc := "(II)I" } : Jvm.MethodName)) ∈ lw_all := lw_g (lw_at lw_m6 135 rfl) rfl
theorem q1393 : (Jvm.Cond.code ({ cls := "HammerTowersModel", name := "trainTells", desc := "(II)I" } : Jvm.MethodName) prog_9_method_25_code (3 : Nat) (Option.some Jvm.ClassFile.FieldType.int)) ∈ lw_all := lw_g (lw_at lw_m6 136 rfl) rfl
theorem q1394 : (Jvm.Cond.methodLink "HammerTowersModel" (180 : Nat) ({ cls := "HammerTowersModel", name := "isPlate", desc := "(I)Z" } : Jvm.MethodName)) ∈ lw_all := lw_g (lw_at lw_m6 137 rfl) rfl
theorem q1395 : (Jvm.Cond.privateMethod ({ cls := "HammerTowersModel", name := "isPlate", desc := "(I)Z" } : Jvm.MethodName)) ∈ lw_tbl := lw_at lw_m6 138 rfl
theorem q1396 : (Jvm.Cond.instanceMethod ({ cls := "HammerTowersModel", name := "isPlate", desc := "(I)Z" } : Jvm.MethodName)) ∈ lw_all := lw_g (lw_at lw_m6 139 rfl) rfl
theorem q1397 : (Jvm.Cond.code ({ cls := "HammerTowersModel", name := "isPlate", desc := "(I)Z" } : Jvm.MethodName) prog_9_method_21_code (2 : Nat) (Option.some Jvm.ClassFile.FieldType.boolean)) ∈ lw_all := lw_g (lw_at lw_m6 140 rfl) rfl
theorem q1399 : (Jvm.Cond.instanceMethod ({ cls := "HammerTowersModel", name := "mark", desc := "(II)I" } : Jvm.MethodName)) ∈ lw_all := lw_g (lw_at lw_m6 142 rfl) rfl
theorem q1400 : (Jvm.Cond.selects "HammerTowersModel" ({ cls := "HammerTowersModel", name := "mark", desc := "(II)I" } : Jvm.MethodName) ({ cls := "HammerTowersModel", name := "mark", desc := "(II)I" } : Jvm.MethodName)) ∈ lw_all := lw_g (lw_at lw_m6 143 rfl) rfl
theorem q1401 : (Jvm.Cond.code ({ cls := "HammerTowersModel", name := "mark", desc := "(II)I" } : Jvm.MethodName) prog_9_method_28_code (3 : Nat) (Option.some Jvm.ClassFile.FieldType.int)) ∈ lw_all := lw_g (lw_at lw_m6 144 rfl) rfl
theorem q1402 : (Jvm.Cond.methodLink "HammerTowersModel" (186 : Nat) ({ cls := "HammerTowersModel", name := "over", desc := "(IZ)I" } : Jvm.MethodName)) ∈ lw_all := lw_g (lw_at lw_m6 145 rfl) rfl
theorem q1403 : (Jvm.Cond.privateMethod ({ cls := "HammerTowersModel", name := "over", desc := "(IZ)I" } : Jvm.MethodName)) ∈ lw_tbl := lw_at lw_m6 146 rfl
theorem q1404 : (Jvm.Cond.instanceMethod ({ cls := "HammerTowersModel", name := "over", desc := "(IZ)I" } : Jvm.MethodName)) ∈ lw_all := lw_g (lw_at lw_m6 147 rfl) rfl
theorem q1405 : (Jvm.Cond.code ({ cls := "HammerTowersModel", name := "over", desc := "(IZ)I" } : Jvm.MethodName) prog_9_method_27_code (6 : Nat) (Option.some Jvm.ClassFile.FieldType.int)) ∈ lw_all := lw_g (lw_at lw_m6 148 rfl) rfl
theorem q1407 : (Jvm.Cond.instanceMethod ({ cls := "HammerTowersModel", name := "notch", desc := "(II)I" } : Jvm.MethodName)) ∈ lw_all := lw_g (lw_at lw_m6 150 rfl) rfl
theorem q1408 : (Jvm.Cond.selects "HammerTowersModel" ({ cls := "HammerTowersModel", name := "notch", desc := "(II)I" } : Jvm.MethodName) ({ cls := "HammerTowersModel", name := "notch", desc := "(II)I" } : Jvm.MethodName)) ∈ lw_all := lw_g (lw_at lw_m6 151 rfl) rfl
theorem q1409 : (Jvm.Cond.code ({ cls := "HammerTowersModel", name := "notch", desc := "(II)I" } : Jvm.MethodName) prog_9_method_30_code (4 : Nat) (Option.some Jvm.ClassFile.FieldType.int)) ∈ lw_all := lw_g (lw_at lw_m6 152 rfl) rfl
theorem q1410 : (Jvm.Cond.methodLink "HammerTowersModel" (190 : Nat) ({ cls := "HammerTowersModel", name := "askedNotch", desc := "(II)I" } : Jvm.MethodName)) ∈ lw_all := lw_g (lw_at lw_m6 153 rfl) rfl
theorem q1411 : (Jvm.Cond.privateMethod ({ cls := "HammerTowersModel", name := "askedNotch", desc := "(II)I" } : Jvm.MethodName)) ∈ lw_tbl := lw_at lw_m6 154 rfl
theorem q1412 : (Jvm.Cond.instanceMethod ({ cls := "HammerTowersModel", name := "askedNotch", desc := "(II)I" } : Jvm.MethodName)) ∈ lw_all := lw_g (lw_at lw_m6 155 rfl) rfl
theorem q1413 : (Jvm.Cond.code ({ cls := "HammerTowersModel", name := "askedNotch", desc := "(II)I" } : Jvm.MethodName) prog_9_method_29_code (3 : Nat) (Option.some Jvm.ClassFile.FieldType.int)) ∈ lw_all := lw_g (lw_at lw_m6 156 rfl) rfl
theorem q1415 : (Jvm.Cond.instanceMethod ({ cls := "HammerTowersModel", name := "cut", desc := "(III)I" } : Jvm.MethodName)) ∈ lw_all := lw_g (lw_at lw_m6 158 rfl) rfl
theorem q1416 : (Jvm.Cond.selects "HammerTowersModel" ({ cls := "HammerTowersModel", name := "cut", desc := "(III)I" } : Jvm.MethodName) ({ cls := "HammerTowersModel", name := "cut", desc := "(III)I" } : Jvm.MethodName)) ∈ lw_all := lw_g (lw_at lw_m6 159 rfl) rfl
theorem q1417 : (Jvm.Cond.code ({ cls := "HammerTowersModel", name := "cut", desc := "(III)I" } : Jvm.MethodName) prog_9_method_31_code (6 : Nat) (Option.some Jvm.ClassFile.FieldType.int)) ∈ lw_all := lw_g (lw_at lw_m6 160 rfl) rfl
theorem q1419 : (Jvm.Cond.instanceMethod ({ cls := "HammerTowersModel", name := "put", desc := "(II)I" } : Jvm.MethodName)) ∈ lw_all := lw_g (lw_at lw_m6 162 rfl) rfl
theorem q1420 : (Jvm.Cond.selects "HammerTowersModel" ({ cls := "HammerTowersModel", name := "put", desc := "(II)I" } : Jvm.MethodName) ({ cls := "HammerTowersModel", name := "put", desc := "(II)I" } : Jvm.MethodName)) ∈ lw_all := lw_g (lw_at lw_m6 163 rfl) rfl
theorem q1421 : (Jvm.Cond.code ({ cls := "HammerTowersModel", name := "put", desc := "(II)I" } : Jvm.MethodName) prog_9_method_32_code (4 : Nat) (Option.some Jvm.ClassFile.FieldType.int)) ∈ lw_all := lw_g (lw_at lw_m6 164 rfl) rfl
theorem q1423 : (Jvm.Cond.instanceMethod ({ cls := "HammerTowersModel", name := "mean", desc := "(I)I" } : Jvm.MethodName)) ∈ lw_all := lw_g (lw_at lw_m6 166 rfl) rfl
theorem q1424 : (Jvm.Cond.selects "HammerTowersModel" ({ cls := "HammerTowersModel", name := "mean", desc := "(I)I" } : Jvm.MethodName) ({ cls := "HammerTowersModel", name := "mean", desc := "(I)I" } : Jvm.MethodName)) ∈ lw_all := lw_g (lw_at lw_m6 167 rfl) rfl
theorem q1425 : (Jvm.Cond.code ({ cls := "HammerTowersModel", name := "mean", desc := "(I)I" } : Jvm.MethodName) prog_9_method_33_code (2 : Nat) (Option.some Jvm.ClassFile.FieldType.int)) ∈ lw_all := lw_g (lw_at lw_m6 168 rfl) rfl
theorem q1427 : (Jvm.Cond.instanceMethod ({ cls := "HammerTowersModel", name := "tower", desc := "(I)I" } : Jvm.MethodName)) ∈ lw_all := lw_g (lw_at lw_m6 170 rfl) rfl
theorem q1428 : (Jvm.Cond.selects "HammerTowersModel" ({ cls := "HammerTowersModel", name := "tower", desc := "(I)I" } : Jvm.MethodName) ({ cls := "HammerTowersModel", name := "tower", desc := "(I)I" } : Jvm.MethodName)) ∈ lw_all := lw_g (lw_at lw_m6 171 rfl) rfl
theorem q1429 : (Jvm.Cond.code ({ cls := "HammerTowersModel", name := "tower", desc := "(I)I" } : Jvm.MethodName) prog_9_method_37_code (3 : Nat) (Option.some Jvm.ClassFile.FieldType.int)) ∈ lw_all := lw_g (lw_at lw_m6 172 rfl) rfl
theorem q1430 : (Jvm.Cond.methodLink "HammerTowersModel" (193 : Nat) ({ cls := "HammerTowersModel", name := "isNumber", desc := "(I)Z" } : Jvm.MethodName)) ∈ lw_all := lw_g (lw_at lw_m6 173 rfl) rfl
theorem q1431 : (Jvm.Cond.static ({ cls := "HammerTowersModel", name := "isNumber", desc := "(I)Z" } : Jvm.MethodName)) ∈ lw_all := lw_g (lw_at lw_m6 174 rfl) rfl
theorem q1432 : (Jvm.Cond.code ({ cls := "HammerTowersModel", name := "isNumber", desc := "(I)Z" } : Jvm.MethodName) prog_9_method_34_code (1 : Nat) (Option.some Jvm.ClassFile.FieldType.boolean)) ∈ lw_all := lw_g (lw_at lw_m6 175 rfl) rfl
theorem q1433 : (Jvm.Cond.methodLink "HammerTowersModel" (196 : Nat) ({ cls := "HammerTowersModel", name := "free", desc := "(I)V" } : Jvm.MethodName)) ∈ lw_all := lw_g (lw_at lw_m6 176 rfl) rfl
theorem q1434 : (Jvm.Cond.privateMethod ({ cls := "HammerTowersModel", name := "free", desc := "(I)V" } : Jvm.MethodName)) ∈ lw_tbl := lw_at lw_m6 177 rfl
theorem q1435 : (Jvm.Cond.instanceMethod ({ cls := "HammerTowersModel", name := "free", desc := "(I)V" } : Jvm.MethodName)) ∈ lw_all := lw_g (lw_at lw_m6 178 rfl) rfl
theorem q1436 : (Jvm.Cond.code ({ cls := "HammerTowersModel", name := "free", desc := "(I)V" } : Jvm.MethodName) prog_9_method_36_code (2 : Nat) (Option.none : Option Jvm.ClassFile.FieldType)) ∈ lw_all := lw_g (lw_at lw_m6 179 rfl) rfl
theorem q1438 : (Jvm.Cond.instanceMethod ({ cls := "HammerTowersModel", name := "hang", desc := "(IIZ)I" } : Jvm.MethodName)) ∈ lw_all := lw_g (lw_at lw_m6 181 rfl) rfl
theorem q1439 : (Jvm.Cond.selects "HammerTowersModel" ({ cls := "HammerTowersModel", name := "hang", desc := "(IIZ)I" } : Jvm.MethodName) ({ cls := "HammerTowersModel", name := "hang", desc := "(IIZ)I" } : Jvm.MethodName)) ∈ lw_all := lw_g (lw_at lw_m6 182 rfl) rfl
theorem q1440 : (Jvm.Cond.code ({ cls := "HammerTowersModel", name := "hang", desc := "(IIZ)I" } : Jvm.MethodName) prog_9_method_39_code (6 : Nat) (Option.some Jvm.ClassFile.FieldType.int)) ∈ lw_all := lw_g (lw_at lw_m6 183 rfl) rfl
theorem q1441 : (Jvm.Cond.methodLink "HammerTowersModel" (200 : Nat) ({ cls := "HammerTowersModel", name := "placeOf", desc := "(IZ)I" } : Jvm.MethodName)) ∈ lw_all := lw_g (lw_at lw_m6 184 rfl) rfl
theorem q1442 : (Jvm.Cond.static ({ cls := "HammerTowersModel", name := "placeOf", desc := "(IZ)I" } : Jvm.MethodName)) ∈ lw_all := lw_g (lw_at lw_m6 185 rfl) rfl
theorem q1443 : (Jvm.Cond.code ({ cls := "HammerTowersModel", name := "placeOf", desc := "(IZ)I" } : Jvm.MethodName) prog_9_method_38_code (2 : Nat) (Option.some Jvm.ClassFile.FieldType.int)) ∈ lw_all := lw_g (lw_at lw_m6 186 rfl) rfl
theorem q1445 : (Jvm.Cond.instanceMethod ({ cls := "HammerTowersModel", name := "unhang", desc := "(IZ)I" } : Jvm.MethodName)) ∈ lw_all := lw_g (lw_at lw_m6 188 rfl) rfl
theorem q1446 : (Jvm.Cond.selects "HammerTowersModel" ({ cls := "HammerTowersModel", name := "unhang", desc := "(IZ)I" } : Jvm.MethodName) ({ cls := "HammerTowersModel", name := "unhang", desc := "(IZ)I" } : Jvm.MethodName)) ∈ lw_all := lw_g (lw_at lw_m6 189 rfl) rfl
theorem q1447 : (Jvm.Cond.code ({ cls := "HammerTowersModel", name := "unhang", desc := "(IZ)I" } : Jvm.MethodName) prog_9_method_41_code (5 : Nat) (Option.some Jvm.ClassFile.FieldType.int)) ∈ lw_all := lw_g (lw_at lw_m6 190 rfl) rfl
theorem q1448 : (Jvm.Cond.methodLink "HammerTowersModel" (206 : Nat) ({ cls := "HammerTowersModel", name := "askedPlace", desc := "(IZ)I" } : Jvm.MethodName)) ∈ lw_all := lw_g (lw_at lw_m6 191 rfl) rfl
theorem q1449 : (Jvm.Cond.privateMethod ({ cls := "HammerTowersModel", name := "askedPlace", desc := "(IZ)I" } : Jvm.MethodName)) ∈ lw_tbl := lw_at lw_m6 192 rfl
theorem q1450 : (Jvm.Cond.instanceMethod ({ cls := "HammerTowersModel", name := "askedPlace", desc := "(IZ)I" } : Jvm.MethodName)) ∈ lw_all := lw_g (lw_at lw_m6 193 rfl) rfl
theorem q1451 : (Jvm.Cond.code ({ cls := "HammerTowersModel", name := "askedPlace", desc := "(IZ)I" } : Jvm.MethodName) prog_9_method_40_code (4 : Nat) (Option.some Jvm.ClassFile.FieldType.int)) ∈ lw_all := lw_g (lw_at lw_m6 194 rfl) rfl
theorem q1452 : (Jvm.Cond.methodLink "HammerTowersModel" (203 : Nat) ({ cls := "HammerTowersModel", name := "askedFor", desc := "(I)I" } : Jvm.MethodName)) ∈ lw_all := lw_g (lw_at lw_m6 195 rfl) rfl
theorem q1453 : (Jvm.Cond.privateMethod ({ cls := "HammerTowersModel", name := "askedFor", desc := "(I)I" } : Jvm.MethodName)) ∈ lw_tbl := lw_at lw_m6 196 rfl
theorem q1454 : (Jvm.Cond.instanceMethod ({ cls := "HammerTowersModel", name := "askedFor", desc := "(I)I" } : Jvm.MethodName)) ∈ lw_all := lw_g (lw_at lw_m6 197 rfl) rfl
theorem q1455 : (Jvm.Cond.code ({ cls := "HammerTowersModel", name := "askedFor", desc := "(I)I" } : Jvm.MethodName) prog_9_method_35_code (2 : Nat) (Option.some Jvm.ClassFile.FieldType.int)) ∈ lw_all := lw_g (lw_at lw_m6 198 rfl) rfl
theorem q1457 : (Jvm.Cond.instanceMethod ({ cls := "HammerTowersModel", name := "hands", desc := "(II)I" } : Jvm.MethodName)) ∈ lw_all := lw_g (lw_at lw_m6 200 rfl) rfl
theorem q1458 : (Jvm.Cond.selects "HammerTowersModel" ({ cls := "HammerTowersModel", name := "hands", desc := "(II)I" } : Jvm.MethodName) ({ cls := "HammerTowersModel", name := "hands", desc := "(II)I" } : Jvm.MethodName)) ∈ lw_all := lw_g (lw_at lw_m6 201 rfl) rfl
theorem q1459 : (Jvm.Cond.code ({ cls := "HammerTowersModel", name := "hands", desc := "(II)I" } : Jvm.MethodName) prog_9_method_42_code (5 : Nat) (Option.some Jvm.ClassFile.FieldType.int)) ∈ lw_all := lw_g (lw_at lw_m6 202 rfl) rfl
theorem q1461 : (Jvm.Cond.instanceMethod ({ cls := "HammerTowersModel", name := "forward", desc := "(II)I" } : Jvm.MethodName)) ∈ lw_all := lw_g (lw_at lw_m6 204 rfl) rfl
theorem q1462 : (Jvm.Cond.selects "HammerTowersModel" ({ cls := "HammerTowersModel", name := "forward", desc := "(II)I" } : Jvm.MethodName) ({ cls := "HammerTowersModel", name := "forward", desc := "(II)I" } : Jvm.MethodName)) ∈ lw_all := lw_g (lw_at lw_m6 205 rfl) rfl
theorem q1463 : (Jvm.Cond.code ({ cls := "HammerTowersModel", name := "forward", desc := "(II)I" } : Jvm.MethodName) prog_9_method_50_code (5 : Nat) (Option.some Jvm.ClassFile.FieldType.int)) ∈ lw_all := lw_g (lw_at lw_m6 206 rfl) rfl
theorem q1464 : (Jvm.Cond.methodLink "HammerTowersModel" (228 : Nat) ({ cls := "HammerTowersModel", name := "stepOn", desc := "(I)V" } : Jvm.MethodName)) ∈ lw_all := lw_g (lw_at lw_m6 207 rfl) rfl
theorem q1465 : (Jvm.Cond.privateMethod ({ cls := "HammerTowersModel", name := "stepOn", desc := "(I)V" } : Jvm.MethodName)) ∈ lw_tbl := lw_at lw_m6 208 rfl
theorem q1466 : (Jvm.Cond.instanceMethod ({ cls := "HammerTowersModel", name := "stepOn", desc := "(I)V" } : Jvm.MethodName)) ∈ lw_all := lw_g (lw_at lw_m6 209 rfl) rfl
theorem q1467 : (Jvm.Cond.code ({ cls := "HammerTowersModel", name := "stepOn", desc := "(I)V" } : Jvm.MethodName) prog_9_method_49_code (5 : Nat) (Option.none : Option Jvm.ClassFile.FieldType)) ∈ lw_all := lw_g (lw_at lw_m6 210 rfl) rfl
theorem q1468 : (Jvm.Cond.methodLink "HammerTowersModel" (225 : Nat) ({ cls := "HammerTowersModel", name := "warnedGoes", desc := "(IZ)V" } : Jvm.MethodName)) ∈ lw_all := lw_g (lw_at lw_m6 211 rfl) rfl
theorem q1469 : (Jvm.Cond.privateMethod ({ cls := "HammerTowersModel", name := "warnedGoes", desc := "(IZ)V" } : Jvm.MethodName)) ∈ lw_tbl := lw_at lw_m6 212 rfl
theorem q1470 : (Jvm.Cond.instanceMethod ({ cls := "HammerTowersModel", name := "warnedGoes", desc := "(IZ)V" } : Jvm.MethodName)) ∈ lw_all := lw_g (lw_at lw_m6 213 rfl) rfl
theorem q1471 : (Jvm.Cond.code ({ cls := "HammerTowersModel", name := "warnedGoes", desc := "(IZ)V" } : Jvm.MethodName) prog_9_method_48_code (3 : Nat) (Option.none : Option Jvm.ClassFile.FieldType)) ∈ lw_all := lw_g (lw_at lw_m6 214 rfl) rfl
theorem q1472 : (Jvm.Cond.methodLink "HammerTowersModel" (218 : Nat) ({ cls := "HammerTowersModel", name := "silenceOf", desc := "(I)I" } : Jvm.MethodName)) ∈ lw_all := lw_g (lw_at lw_m6 215 rfl) rfl
theorem q1473 : (Jvm.Cond.privateMethod ({ cls := "HammerTowersModel", name := "silenceOf", desc := "(I)I" } : Jvm.MethodName)) ∈ lw_tbl := lw_at lw_m6 216 rfl
theorem q1474 : (Jvm.Cond.instanceMethod ({ cls := "HammerTowersModel", name := "silenceOf", desc := "(I)I" } : Jvm.MethodName)) ∈ lw_all := lw_g (lw_at lw_m6 217 rfl) rfl
theorem q1475 : (Jvm.Cond.code ({ cls := "HammerTowersModel", name := "silenceOf", desc := "(I)I" } : Jvm.MethodName) prog_9_method_43_code (4 : Nat) (Option.some Jvm.ClassFile.FieldType.int)) ∈ lw_all := lw_g (lw_at lw_m6 218 rfl) rfl
theorem q1476 : (Jvm.Cond.methodLink "HammerTowersModel" (221 : Nat) ({ cls := "HammerTowersModel", name := "offGoes", desc := "(IZ)V" } : Jvm.MethodName)) ∈ lw_all := lw_g (lw_at lw_m6 219 rfl) rfl
theorem q1477 : (Jvm.Cond.privateMethod ({ cls := "HammerTowersModel", name := "offGoes", desc := "(IZ)V" } : Jvm.MethodName)) ∈ lw_tbl := lw_at lw_m6 220 rfl
theorem q1478 : (Jvm.Cond.instanceMethod ({ cls := "HammerTowersModel", name := "offGoes", desc := "(IZ)V" } : Jvm.MethodName)) ∈ lw_all := lw_g (lw_at lw_m6 221 rfl) rfl
theorem q1479 : (Jvm.Cond.code ({ cls := "HammerTowersModel", name := "offGoes", desc := "(IZ)V" } : Jvm.MethodName) prog_9_method_47_code (5 : Nat) (Option.none : Option Jvm.ClassFile.FieldType)) ∈ lw_all := lw_g (lw_at lw_m6 222 rfl) rfl
theorem q1480 : (Jvm.Cond.methodLink "HammerTowersModel" (212 : Nat) ({ cls := "HammerTowersModel", name := "quarterNow", desc := "(I)I" } : Jvm.MethodName)) ∈ lw_all := lw_g (lw_at lw_m6 223 rfl) rfl
theorem q1481 : (Jvm.Cond.privateMethod ({ cls := "HammerTowersModel", name := "quarterNow", desc := "(I)I" } : Jvm.MethodName)) ∈ lw_tbl := lw_at lw_m6 224 rfl
theorem q1482 : (Jvm.Cond.instanceMethod ({ cls := "HammerTowersModel", name := "quarterNow", desc := "(I)I" } : Jvm.MethodName)) ∈ lw_all := lw_g (lw_at lw_m6 225 rfl) rfl
theorem q1483 : (Jvm.Cond.code ({ cls := "HammerTowersModel", name := "quarterNow", desc := "(I)I" } : Jvm.MethodName) prog_9_method_46_code (3 : Nat) (Option.some Jvm.ClassFile.FieldType.int)) ∈ lw_all := lw_g (lw_at lw_m6 226 rfl) rfl
theorem q1484 : (Jvm.Cond.methodLink "HammerTowersModel" (215 : Nat) ({ cls := "HammerTowersModel", name := "hourNow", desc := "(I)I" } : Jvm.MethodName)) ∈ lw_all := lw_g (lw_at lw_m6 227 rfl) rfl
theorem q1485 : (Jvm.Cond.privateMethod ({ cls := "HammerTowersModel", name := "hourNow", desc := "(I)I" } : Jvm.MethodName)) ∈ lw_tbl := lw_at lw_m6 228 rfl
theorem q1486 : (Jvm.Cond.instanceMethod ({ cls := "HammerTowersModel", name := "hourNow", desc := "(I)I" } : Jvm.MethodName)) ∈ lw_all := lw_g (lw_at lw_m6 229 rfl) rfl
theorem q1487 : (Jvm.Cond.code ({ cls := "HammerTowersModel", name := "hourNow", desc := "(I)I" } : Jvm.MethodName) prog_9_method_45_code (2 : Nat) (Option.some Jvm.ClassFile.FieldType.int)) ∈ lw_all := lw_g (lw_at lw_m6 230 rfl) rfl
theorem q1488 : (Jvm.Cond.methodLink "HammerTowersModel" (209 : Nat) ({ cls := "HammerTowersModel", name := "hourOf", desc := "(I)I" } : Jvm.MethodName)) ∈ lw_all := lw_g (lw_at lw_m6 231 rfl) rfl
theorem q1489 : (Jvm.Cond.static ({ cls := "HammerTowersModel", name := "hourOf", desc := "(I)I" } : Jvm.MethodName)) ∈ lw_all := lw_g (lw_at lw_m6 232 rfl) rfl
theorem q1490 : (Jvm.Cond.code ({ cls := "HammerTowersModel", name := "hourOf", desc := "(I)I" } : Jvm.MethodName) prog_9_method_44_code (1 : Nat) (Option.some Jvm.ClassFile.FieldType.int)) ∈ lw_all := lw_g (lw_at lw_m6 233 rfl) rfl
theorem q1492 : (Jvm.Cond.instanceMethod ({ cls := "HammerTowersModel", name := "back", desc := "(II)I" } : Jvm.MethodName)) ∈ lw_all := lw_g (lw_at lw_m6 235 rfl) rfl
theorem q1493 : (Jvm.Cond.selects "HammerTowersModel" ({ cls := "HammerTowersModel", name := "back", desc := "(II)I" } : Jvm.MethodName) ({ cls := "HammerTowersModel", name := "back", desc := "(II)I" } : Jvm.MethodName)) ∈ lw_all := lw_g (lw_at lw_m6 236 rfl) rfl
theorem q1494 : (Jvm.Cond.code ({ cls := "HammerTowersModel", name := "back", desc := "(II)I" } : Jvm.MethodName) prog_9_method_51_code (4 : Nat) (Option.some Jvm.ClassFile.FieldType.int)) ∈ lw_all := lw_g (lw_at lw_m6 237 rfl) rfl
theorem q1496 : (Jvm.Cond.instanceMethod ({ cls := "HammerTowersModel", name := "rate", desc := "(II)I" } : Jvm.MethodName)) ∈ lw_all := lw_g (lw_at lw_m6 239 rfl) rfl
theorem q1497 : (Jvm.Cond.selects "HammerTowersModel" ({ cls := "HammerTowersModel", name := "rate", desc := "(II)I" } : Jvm.MethodName) ({ cls := "HammerTowersModel", name := "rate", desc := "(II)I" } : Jvm.MethodName)) ∈ lw_all := lw_g (lw_at lw_m7 0 rfl) rfl
theorem q1498 : (Jvm.Cond.code ({ cls := "HammerTowersModel", name := "rate", desc := "(II)I" } : Jvm.MethodName) prog_9_method_52_code (5 : Nat) (Option.some Jvm.ClassFile.FieldType.int)) ∈ lw_all := lw_g (lw_at lw_m7 1 rfl) rfl
theorem q1500 : (Jvm.Cond.instanceMethod ({ cls := "HammerTowersModel", name := "go", desc := "(IZ)I" } : Jvm.MethodName)) ∈ lw_all := lw_g (lw_at lw_m7 3 rfl) rfl
theorem q1501 : (Jvm.Cond.selects "HammerTowersModel" ({ cls := "HammerTowersModel", name := "go", desc := "(IZ)I" } : Jvm.MethodName) ({ cls := "HammerTowersModel", name := "go", desc := "(IZ)I" } : Jvm.MethodName)) ∈ lw_all := lw_g (lw_at lw_m7 4 rfl) rfl
theorem q1502 : (Jvm.Cond.code ({ cls := "HammerTowersModel", name := "go", desc := "(IZ)I" } : Jvm.MethodName) prog_9_method_53_code (5 : Nat) (Option.some Jvm.ClassFile.FieldType.int)) ∈ lw_all := lw_g (lw_at lw_m7 5 rfl) rfl
theorem q1504 : (Jvm.Cond.instanceMethod ({ cls := "HammerTowersModel", name := "windGoing", desc := "(II)I" } : Jvm.MethodName)) ∈ lw_all := lw_g (lw_at lw_m7 7 rfl) rfl
theorem q1505 : (Jvm.Cond.selects "HammerTowersModel" ({ cls := "HammerTowersModel", name := "windGoing", desc := "(II)I" } : Jvm.MethodName) ({ cls := "HammerTowersModel", name := "windGoing", desc := "(II)I" } : Jvm.MethodName)) ∈ lw_all := lw_g (lw_at lw_m7 8 rfl) rfl
theorem q1506 : (Jvm.Cond.code ({ cls := "HammerTowersModel", name := "windGoing", desc := "(II)I" } : Jvm.MethodName) prog_9_method_54_code (5 : Nat) (Option.some Jvm.ClassFile.FieldType.int)) ∈ lw_all := lw_g (lw_at lw_m7 9 rfl) rfl
theorem q1508 : (Jvm.Cond.instanceMethod ({ cls := "HammerTowersModel", name := "silence", desc := "(IIII)I" } : Jvm.MethodName)) ∈ lw_all := lw_g (lw_at lw_m7 11 rfl) rfl
theorem q1509 : (Jvm.Cond.selects "HammerTowersModel" ({ cls := "HammerTowersModel", name := "silence", desc := "(IIII)I" } : Jvm.MethodName) ({ cls := "HammerTowersModel", name := "silence", desc := "(IIII)I" } : Jvm.MethodName)) ∈ lw_all := lw_g (lw_at lw_m7 12 rfl) rfl
theorem q1510 : (Jvm.Cond.code ({ cls := "HammerTowersModel", name := "silence", desc := "(IIII)I" } : Jvm.MethodName) prog_9_method_55_code (6 : Nat) (Option.some Jvm.ClassFile.FieldType.int)) ∈ lw_all := lw_g (lw_at lw_m7 13 rfl) rfl
theorem q1512 : (Jvm.Cond.instanceMethod ({ cls := "HammerTowersModel", name := "letOff", desc := "(IZ)I" } : Jvm.MethodName)) ∈ lw_all := lw_g (lw_at lw_m7 15 rfl) rfl
theorem q1513 : (Jvm.Cond.selects "HammerTowersModel" ({ cls := "HammerTowersModel", name := "letOff", desc := "(IZ)I" } : Jvm.MethodName) ({ cls := "HammerTowersModel", name := "letOff", desc := "(IZ)I" } : Jvm.MethodName)) ∈ lw_all := lw_g (lw_at lw_m7 16 rfl) rfl
theorem q1514 : (Jvm.Cond.code ({ cls := "HammerTowersModel", name := "letOff", desc := "(IZ)I" } : Jvm.MethodName) prog_9_method_56_code (4 : Nat) (Option.some Jvm.ClassFile.FieldType.int)) ∈ lw_all := lw_g (lw_at lw_m7 17 rfl) rfl
theorem q1516 : (Jvm.Cond.instanceMethod ({ cls := "HammerTowersModel", name := "runOut", desc := "(IZ)I" } : Jvm.MethodName)) ∈ lw_all := lw_g (lw_at lw_m7 19 rfl) rfl
theorem q1517 : (Jvm.Cond.selects "HammerTowersModel" ({ cls := "HammerTowersModel", name := "runOut", desc := "(IZ)I" } : Jvm.MethodName) ({ cls := "HammerTowersModel", name := "runOut", desc := "(IZ)I" } : Jvm.MethodName)) ∈ lw_all := lw_g (lw_at lw_m7 20 rfl) rfl
theorem q1518 : (Jvm.Cond.code ({ cls := "HammerTowersModel", name := "runOut", desc := "(IZ)I" } : Jvm.MethodName) prog_9_method_59_code (4 : Nat) (Option.some Jvm.ClassFile.FieldType.int)) ∈ lw_all := lw_g (lw_at lw_m7 21 rfl) rfl
theorem q1519 : (Jvm.Cond.constant "HammerTowersModel" (243 : Nat) (2147483647 : Int32)) ∈ lw_all := lw_g (lw_at lw_m7 22 rfl) rfl
theorem q1520 : (Jvm.Cond.methodLink "HammerTowersModel" (244 : Nat) ({ cls := "HammerTowersModel", name := "runs", desc := "(IZI)I" } : Jvm.MethodName)) ∈ lw_all := lw_g (lw_at lw_m7 23 rfl) rfl
theorem q1521 : (Jvm.Cond.privateMethod ({ cls := "HammerTowersModel", name := "runs", desc := "(IZI)I" } : Jvm.MethodName)) ∈ lw_tbl := lw_at lw_m7 24 rfl
theorem q1522 : (Jvm.Cond.instanceMethod ({ cls := "HammerTowersModel", name := "runs", desc := "(IZI)I" } : Jvm.MethodName)) ∈ lw_all := lw_g (lw_at lw_m7 25 rfl) rfl
theorem q1523 : (Jvm.Cond.code ({ cls := "HammerTowersModel", name := "runs", desc := "(IZI)I" } : Jvm.MethodName) prog_9_method_57_code (11 : Nat) (Option.some Jvm.ClassFile.FieldType.int)) ∈ lw_all := lw_g (lw_at lw_m7 26 rfl) rfl
theorem q1524 : (Jvm.Cond.methodLink "HammerTowersModel" (234 : Nat) ({ cls := "HammerTowersModel", name := "writeLog", desc := "(IIII)V" } : Jvm.MethodName)) ∈ lw_all := lw_g (lw_at lw_m7 27 rfl) rfl
theorem q1525 : (Jvm.Cond.privateMethod ({ cls := "HammerTowersModel", name := "writeLog", desc := "(IIII)V" } : Jvm.MethodName)) ∈ lw_tbl := lw_at lw_m7 28 rfl
theorem q1526 : (Jvm.Cond.instanceMethod ({ cls := "HammerTowersModel", name := "writeLog", desc := "(IIII)V" } : Jvm.MethodName)) ∈ lw_all := lw_g (lw_at lw_m7 29 rfl) rfl
theorem q1527 : (Jvm.Cond.code ({ cls := "HammerTowersModel", name := "writeLog", desc := "(IIII)V" } : Jvm.MethodName) prog_9_method_58_code (6 : Nat) (Option.none : Option Jvm.ClassFile.FieldType)) ∈ lw_all := lw_g (lw_at lw_m7 30 rfl) rfl
theorem q1529 : (Jvm.Cond.instanceMethod ({ cls := "HammerTowersModel", name := "pass", desc := "(I)I" } : Jvm.MethodName)) ∈ lw_all := lw_g (lw_at lw_m7 32 rfl) rfl
theorem q1530 : (Jvm.Cond.selects "HammerTowersModel" ({ cls := "HammerTowersModel", name := "pass", desc := "(I)I" } : Jvm.MethodName) ({ cls := "HammerTowersModel", name := "pass", desc := "(I)I" } : Jvm.MethodName)) ∈ lw_all := lw_g (lw_at lw_m7 33 rfl) rfl
theorem q1531 : (Jvm.Cond.code ({ cls := "HammerTowersModel", name := "pass", desc := "(I)I" } : Jvm.MethodName) prog_9_method_61_code (4 : Nat) (Option.some Jvm.ClassFile.FieldType.int)) ∈ lw_all := lw_g (lw_at lw_m7 34 rfl) rfl
theorem q1532 : (Jvm.Cond.constant "HammerTowersModel" (249 : Nat) (1000000 : Int32)) ∈ lw_all := lw_g (lw_at lw_m7 35 rfl) rfl
theorem q1533 : (Jvm.Cond.methodLink "HammerTowersModel" (250 : Nat) ({ cls := "HammerTowersModel", name := "minuteOf", desc := "(I)V" } : Jvm.MethodName)) ∈ lw_all := lw_g (lw_at lw_m7 36 rfl) rfl
theorem q1534 : (Jvm.Cond.privateMethod ({ cls := "HammerTowersModel", name := "minuteOf", desc := "(I)V" } : Jvm.MethodName)) ∈ lw_tbl := lw_at lw_m7 37 rfl
theorem q1535 : (Jvm.Cond.instanceMethod ({ cls := "HammerTowersModel", name := "minuteOf", desc := "(I)V" } : Jvm.MethodName)) ∈ lw_all := lw_g (lw_at lw_m7 38 rfl) rfl
theorem q1536 : (Jvm.Cond.code ({ cls := "HammerTowersModel", name := "minuteOf", desc := "(I)V" } : Jvm.MethodName) prog_9_method_60_code (4 : Nat) (Option.none : Option Jvm.ClassFile.FieldType)) ∈ lw_all := lw_g (lw_at lw_m7 39 rfl) rfl
theorem q1537 : (Jvm.Cond.constant "HammerTowersModel" (248 : Nat) (86400 : Int32)) ∈ lw_all := lw_g (lw_at lw_m7 40 rfl) rfl
theorem q1539 : (Jvm.Cond.instanceMethod ({ cls := "HammerTowersModel", name := "tells", desc := "(II)I" } : Jvm.MethodName)) ∈ lw_all := lw_g (lw_at lw_m7 42 rfl) rfl
theorem q1540 : (Jvm.Cond.selects "HammerTowersModel" ({ cls := "HammerTowersModel", name := "tells", desc := "(II)I" } : Jvm.MethodName) ({ cls := "HammerTowersModel", name := "tells", desc := "(II)I" } : Jvm.MethodName)) ∈ lw_all := lw_g (lw_at lw_m7 43 rfl) rfl
theorem q1541 : (Jvm.Cond.code ({ cls := "HammerTowersModel", name := "tells", desc := "(II)I" } : Jvm.MethodName) prog_9_method_63_code (4 : Nat) (Option.some Jvm.ClassFile.FieldType.int)) ∈ lw_all := lw_g (lw_at lw_m7 44 rfl) rfl
theorem q1542 : (Jvm.Cond.methodLink "HammerTowersModel" (253 : Nat) ({ cls := "HammerTowersModel", name := "towerTells", desc := "(II)I" } : Jvm.MethodName)) ∈ lw_all := lw_g (lw_at lw_m7 45 rfl) rfl
theorem q1543 : (Jvm.Cond.privateMethod ({ cls := "HammerTowersModel", name := "towerTells", desc := "(II)I" } : Jvm.MethodName)) ∈ lw_tbl := lw_at lw_m7 46 rfl
theorem q1544 : (Jvm.Cond.instanceMethod ({ cls := "HammerTowersModel", name := "towerTells", desc := "(II)I" } : Jvm.MethodName)) ∈ lw_all := lw_g (lw_at lw_m7 47 rfl) rfl
theorem q1545 : (Jvm.Cond.code ({ cls := "HammerTowersModel", name := "towerTells", desc := "(II)I" } : Jvm.MethodName) prog_9_method_62_code (3 : Nat) (Option.some Jvm.ClassFile.FieldType.int)) ∈ lw_all := lw_g (lw_at lw_m7 48 rfl) rfl
theorem q1547 : (Jvm.Cond.instanceMethod ({ cls := "HammerTowersModel", name := "log", desc := "(III)I" } : Jvm.MethodName)) ∈ lw_all := lw_g (lw_at lw_m7 50 rfl) rfl
theorem q1548 : (Jvm.Cond.selects "HammerTowersModel" ({ cls := "HammerTowersModel", name := "log", desc := "(III)I" } : Jvm.MethodName) ({ cls := "HammerTowersModel", name := "log", desc := "(III)I" } : Jvm.MethodName)) ∈ lw_all := lw_g (lw_at lw_m7 51 rfl) rfl
theorem q1549 : (Jvm.Cond.code ({ cls := "HammerTowersModel", name := "log", desc := "(III)I" } : Jvm.MethodName) prog_9_method_64_code (5 : Nat) (Option.some Jvm.ClassFile.FieldType.int)) ∈ lw_all := lw_g (lw_at lw_m7 52 rfl) rfl
theorem q1551 : (Jvm.Cond.instanceMethod ({ cls := "HammerTowersModel", name := "heard", desc := "(III)I" } : Jvm.MethodName)) ∈ lw_all := lw_g (lw_at lw_m7 54 rfl) rfl
theorem q1552 : (Jvm.Cond.selects "HammerTowersModel" ({ cls := "HammerTowersModel", name := "heard", desc := "(III)I" } : Jvm.MethodName) ({ cls := "HammerTowersModel", name := "heard", desc := "(III)I" } : Jvm.MethodName)) ∈ lw_all := lw_g (lw_at lw_m7 55 rfl) rfl
theorem q1553 : (Jvm.Cond.code ({ cls := "HammerTowersModel", name := "heard", desc := "(III)I" } : Jvm.MethodName) prog_9_method_65_code (8 : Nat) (Option.some Jvm.ClassFile.FieldType.int)) ∈ lw_all := lw_g (lw_at lw_m7 56 rfl) rfl
theorem q1555 : (Jvm.Cond.instanceMethod ({ cls := "HammerTowersModel", name := "ahead", desc := "(II)I" } : Jvm.MethodName)) ∈ lw_all := lw_g (lw_at lw_m7 58 rfl) rfl
theorem q1556 : (Jvm.Cond.selects "HammerTowersModel" ({ cls := "HammerTowersModel", name := "ahead", desc := "(II)I" } : Jvm.MethodName) ({ cls := "HammerTowersModel", name := "ahead", desc := "(II)I" } : Jvm.MethodName)) ∈ lw_all := lw_g (lw_at lw_m7 59 rfl) rfl
theorem q1557 : (Jvm.Cond.code ({ cls := "HammerTowersModel", name := "ahead", desc := "(II)I" } : Jvm.MethodName) prog_9_method_67_code (5 : Nat) (Option.some Jvm.ClassFile.FieldType.int)) ∈ lw_all := lw_g (lw_at lw_m7 60 rfl) rfl
theorem q1558 : (Jvm.Cond.methodLink "HammerTowersModel" (256 : Nat) ({ cls := "HammerTowersModel", name := "askedTwo", desc := "(II)I" } : Jvm.MethodName)) ∈ lw_all := lw_g (lw_at lw_m7 61 rfl) rfl
theorem q1559 : (Jvm.Cond.privateMethod ({ cls := "HammerTowersModel", name := "askedTwo", desc := "(II)I" } : Jvm.MethodName)) ∈ lw_tbl := lw_at lw_m7 62 rfl
theorem q1560 : (Jvm.Cond.instanceMethod ({ cls := "HammerTowersModel", name := "askedTwo", desc := "(II)I" } : Jvm.MethodName)) ∈ lw_all := lw_g (lw_at lw_m7 63 rfl) rfl
theorem q1561 : (Jvm.Cond.code ({ cls := "HammerTowersModel", name := "askedTwo", desc := "(II)I" } : Jvm.MethodName) prog_9_method_66_code (3 : Nat) (Option.some Jvm.ClassFile.FieldType.int)) ∈ lw_all := lw_g (lw_at lw_m7 64 rfl) rfl
theorem q1563 : (Jvm.Cond.instanceMethod ({ cls := "HammerTowersModel", name := "meet", desc := "(II)I" } : Jvm.MethodName)) ∈ lw_all := lw_g (lw_at lw_m7 66 rfl) rfl
theorem q1564 : (Jvm.Cond.selects "HammerTowersModel" ({ cls := "HammerTowersModel", name := "meet", desc := "(II)I" } : Jvm.MethodName) ({ cls := "HammerTowersModel", name := "meet", desc := "(II)I" } : Jvm.MethodName)) ∈ lw_all := lw_g (lw_at lw_m7 67 rfl) rfl
theorem q1565 : (Jvm.Cond.code ({ cls := "HammerTowersModel", name := "meet", desc := "(II)I" } : Jvm.MethodName) prog_9_method_68_code (14 : Nat) (Option.some Jvm.ClassFile.FieldType.int)) ∈ lw_all := lw_g (lw_at lw_m7 68 rfl) rfl
theorem q1566 : (Jvm.Cond.constantLong "HammerTowersModel" (259 : Nat) (124416000 : Int64)) ∈ lw_all := lw_g (lw_at lw_m7 69 rfl) rfl
theorem q1567 : (Jvm.Cond.constantLong "HammerTowersModel" (261 : Nat) (86400 : Int64)) ∈ lw_all := lw_g (lw_at lw_m7 70 rfl) rfl
theorem q1569 : (Jvm.Cond.instanceMethod ({ cls := "HammerTowersModel", name := "right", desc := "(IZ)I" } : Jvm.MethodName)) ∈ lw_all := lw_g (lw_at lw_m7 72 rfl) rfl
theorem q1570 : (Jvm.Cond.selects "HammerTowersModel" ({ cls := "HammerTowersModel", name := "right", desc := "(IZ)I" } : Jvm.MethodName) ({ cls := "HammerTowersModel", name := "right", desc := "(IZ)I" } : Jvm.MethodName)) ∈ lw_all := lw_g (lw_at lw_m7 73 rfl) rfl
theorem q1571 : (Jvm.Cond.code ({ cls := "HammerTowersModel", name := "right", desc := "(IZ)I" } : Jvm.MethodName) prog_9_method_72_code (4 : Nat) (Option.some Jvm.ClassFile.FieldType.int)) ∈ lw_all := lw_g (lw_at lw_m7 74 rfl) rfl
theorem q1572 : (Jvm.Cond.methodLink "HammerTowersModel" (266 : Nat) ({ cls := "HammerTowersModel", name := "askedPlate", desc := "(IZ)I" } : Jvm.MethodName)) ∈ lw_all := lw_g (lw_at lw_m7 75 rfl) rfl
theorem q1573 : (Jvm.Cond.privateMethod ({ cls := "HammerTowersModel", name := "askedPlate", desc := "(IZ)I" } : Jvm.MethodName)) ∈ lw_tbl := lw_at lw_m7 76 rfl
theorem q1574 : (Jvm.Cond.instanceMethod ({ cls := "HammerTowersModel", name := "askedPlate", desc := "(IZ)I" } : Jvm.MethodName)) ∈ lw_all := lw_g (lw_at lw_m7 77 rfl) rfl
theorem q1575 : (Jvm.Cond.code ({ cls := "HammerTowersModel", name := "askedPlate", desc := "(IZ)I" } : Jvm.MethodName) prog_9_method_71_code (4 : Nat) (Option.some Jvm.ClassFile.FieldType.int)) ∈ lw_all := lw_g (lw_at lw_m7 78 rfl) rfl
theorem q1576 : (Jvm.Cond.methodLink "HammerTowersModel" (269 : Nat) ({ cls := "HammerTowersModel", name := "rightNotch", desc := "(IZ)I" } : Jvm.MethodName)) ∈ lw_all := lw_g (lw_at lw_m7 79 rfl) rfl
theorem q1577 : (Jvm.Cond.privateMethod ({ cls := "HammerTowersModel", name := "rightNotch", desc := "(IZ)I" } : Jvm.MethodName)) ∈ lw_tbl := lw_at lw_m7 80 rfl
theorem q1578 : (Jvm.Cond.instanceMethod ({ cls := "HammerTowersModel", name := "rightNotch", desc := "(IZ)I" } : Jvm.MethodName)) ∈ lw_all := lw_g (lw_at lw_m7 81 rfl) rfl
theorem q1579 : (Jvm.Cond.code ({ cls := "HammerTowersModel", name := "rightNotch", desc := "(IZ)I" } : Jvm.MethodName) prog_9_method_70_code (4 : Nat) (Option.some Jvm.ClassFile.FieldType.int)) ∈ lw_all := lw_g (lw_at lw_m7 82 rfl) rfl
theorem q1580 : (Jvm.Cond.methodLink "HammerTowersModel" (263 : Nat) ({ cls := "HammerTowersModel", name := "nextHour", desc := "(I)I" } : Jvm.MethodName)) ∈ lw_all := lw_g (lw_at lw_m7 83 rfl) rfl
theorem q1581 : (Jvm.Cond.privateMethod ({ cls := "HammerTowersModel", name := "nextHour", desc := "(I)I" } : Jvm.MethodName)) ∈ lw_tbl := lw_at lw_m7 84 rfl
theorem q1582 : (Jvm.Cond.instanceMethod ({ cls := "HammerTowersModel", name := "nextHour", desc := "(I)I" } : Jvm.MethodName)) ∈ lw_all := lw_g (lw_at lw_m7 85 rfl) rfl
theorem q1583 : (Jvm.Cond.code ({ cls := "HammerTowersModel", name := "nextHour", desc := "(I)I" } : Jvm.MethodName) prog_9_method_69_code (2 : Nat) (Option.some Jvm.ClassFile.FieldType.int)) ∈ lw_all := lw_g (lw_at lw_m7 86 rfl) rfl
theorem q1585 : (Jvm.Cond.instanceMethod ({ cls := "HammerTowersModel", name := "off", desc := "(IZ)I" } : Jvm.MethodName)) ∈ lw_all := lw_g (lw_at lw_m7 88 rfl) rfl
theorem q1586 : (Jvm.Cond.selects "HammerTowersModel" ({ cls := "HammerTowersModel", name := "off", desc := "(IZ)I" } : Jvm.MethodName) ({ cls := "HammerTowersModel", name := "off", desc := "(IZ)I" } : Jvm.MethodName)) ∈ lw_all := lw_g (lw_at lw_m7 89 rfl) rfl
theorem q1587 : (Jvm.Cond.code ({ cls := "HammerTowersModel", name := "off", desc := "(IZ)I" } : Jvm.MethodName) prog_9_method_73_code (5 : Nat) (Option.some Jvm.ClassFile.FieldType.int)) ∈ lw_all := lw_g (lw_at lw_m7 90 rfl) rfl
theorem q1589 : (Jvm.Cond.instanceMethod ({ cls := "HammerTowersModel", name := "putRight", desc := "(II)I" } : Jvm.MethodName)) ∈ lw_all := lw_g (lw_at lw_m7 92 rfl) rfl
theorem q1590 : (Jvm.Cond.selects "HammerTowersModel" ({ cls := "HammerTowersModel", name := "putRight", desc := "(II)I" } : Jvm.MethodName) ({ cls := "HammerTowersModel", name := "putRight", desc := "(II)I" } : Jvm.MethodName)) ∈ lw_all := lw_g (lw_at lw_m7 93 rfl) rfl
theorem q1591 : (Jvm.Cond.code ({ cls := "HammerTowersModel", name := "putRight", desc := "(II)I" } : Jvm.MethodName) prog_9_method_76_code (11 : Nat) (Option.some Jvm.ClassFile.FieldType.int)) ∈ lw_all := lw_g (lw_at lw_m7 94 rfl) rfl
theorem q1592 : (Jvm.Cond.constant "HammerTowersModel" (272 : Nat) (100000000 : Int32)) ∈ lw_all := lw_g (lw_at lw_m7 95 rfl) rfl
theorem q1593 : (Jvm.Cond.methodLink "HammerTowersModel" (273 : Nat) ({ cls := "HammerTowersModel", name := "after", desc := "(II)I" } : Jvm.MethodName)) ∈ lw_all := lw_g (lw_at lw_m7 96 rfl) rfl
theorem q1594 : (Jvm.Cond.static ({ cls := "HammerTowersModel", name := "after", desc := "(II)I" } : Jvm.MethodName)) ∈ lw_all := lw_g (lw_at lw_m7 97 rfl) rfl
theorem q1595 : (Jvm.Cond.code ({ cls := "HammerTowersModel", name := "after", desc := "(II)I" } : Jvm.MethodName) prog_9_method_74_code (4 : Nat) (Option.some Jvm.ClassFile.FieldType.int)) ∈ lw_all := lw_g (lw_at lw_m7 98 rfl) rfl
theorem q1596 : (Jvm.Cond.methodLink "HammerTowersModel" (276 : Nat) ({ cls := "HammerTowersModel", name := "costOf", desc := "(III)I" } : Jvm.MethodName)) ∈ lw_all := lw_g (lw_at lw_m7 99 rfl) rfl
theorem q1597 : (Jvm.Cond.privateMethod ({ cls := "HammerTowersModel", name := "costOf", desc := "(III)I" } : Jvm.MethodName)) ∈ lw_tbl := lw_at lw_m7 100 rfl
theorem q1598 : (Jvm.Cond.instanceMethod ({ cls := "HammerTowersModel", name := "costOf", desc := "(III)I" } : Jvm.MethodName)) ∈ lw_all := lw_g (lw_at lw_m7 101 rfl) rfl
theorem q1599 : (Jvm.Cond.code ({ cls := "HammerTowersModel", name := "costOf", desc := "(III)I" } : Jvm.MethodName) prog_9_method_75_code (4 : Nat) (Option.some Jvm.ClassFile.FieldType.int)) ∈ lw_all := lw_g (lw_at lw_m7 102 rfl) rfl
theorem q1601 : (Jvm.Cond.instanceMethod ({ cls := "HammerTowersModel", name := "act", desc := "(I)I" } : Jvm.MethodName)) ∈ lw_all := lw_g (lw_at lw_m7 104 rfl) rfl
theorem q1602 : (Jvm.Cond.selects "HammerTowersModel" ({ cls := "HammerTowersModel", name := "act", desc := "(I)I" } : Jvm.MethodName) ({ cls := "HammerTowersModel", name := "act", desc := "(I)I" } : Jvm.MethodName)) ∈ lw_all := lw_g (lw_at lw_m7 105 rfl) rfl
theorem q1603 : (Jvm.Cond.code ({ cls := "HammerTowersModel", name := "act", desc := "(I)I" } : Jvm.MethodName) prog_9_method_77_code (2 : Nat) (Option.some Jvm.ClassFile.FieldType.int)) ∈ lw_all := lw_g (lw_at lw_m7 106 rfl) rfl
theorem q1605 : (Jvm.Cond.instanceMethod ({ cls := "HammerTowersModel", name := "due", desc := "(IIIII)I" } : Jvm.MethodName)) ∈ lw_all := lw_g (lw_at lw_m7 108 rfl) rfl
theorem q1606 : (Jvm.Cond.selects "HammerTowersModel" ({ cls := "HammerTowersModel", name := "due", desc := "(IIIII)I" } : Jvm.MethodName) ({ cls := "HammerTowersModel", name := "due", desc := "(IIIII)I" } : Jvm.MethodName)) ∈ lw_all := lw_g (lw_at lw_m7 109 rfl) rfl
theorem q1607 : (Jvm.Cond.code ({ cls := "HammerTowersModel", name := "due", desc := "(IIIII)I" } : Jvm.MethodName) prog_9_method_80_code (6 : Nat) (Option.some Jvm.ClassFile.FieldType.int)) ∈ lw_all := lw_g (lw_at lw_m7 110 rfl) rfl
theorem q1608 : (Jvm.Cond.methodLink "HammerTowersModel" (283 : Nat) ({ cls := "HammerTowersModel", name := "isFault", desc := "(III)Z" } : Jvm.MethodName)) ∈ lw_all := lw_g (lw_at lw_m7 111 rfl) rfl
theorem q1609 : (Jvm.Cond.static ({ cls := "HammerTowersModel", name := "isFault", desc := "(III)Z" } : Jvm.MethodName)) ∈ lw_all := lw_g (lw_at lw_m7 112 rfl) rfl
theorem q1610 : (Jvm.Cond.code ({ cls := "HammerTowersModel", name := "isFault", desc := "(III)Z" } : Jvm.MethodName) prog_9_method_78_code (3 : Nat) (Option.some Jvm.ClassFile.FieldType.boolean)) ∈ lw_all := lw_g (lw_at lw_m7 113 rfl) rfl
theorem q1611 : (Jvm.Cond.methodLink "HammerTowersModel" (286 : Nat) ({ cls := "HammerTowersModel", name := "dueAt", desc := "(IIIII)I" } : Jvm.MethodName)) ∈ lw_all := lw_g (lw_at lw_m7 114 rfl) rfl
theorem q1612 : (Jvm.Cond.static ({ cls := "HammerTowersModel", name := "dueAt", desc := "(IIIII)I" } : Jvm.MethodName)) ∈ lw_all := lw_g (lw_at lw_m7 115 rfl) rfl
theorem q1613 : (Jvm.Cond.code ({ cls := "HammerTowersModel", name := "dueAt", desc := "(IIIII)I" } : Jvm.MethodName) prog_9_method_79_code (6 : Nat) (Option.some Jvm.ClassFile.FieldType.int)) ∈ lw_all := lw_g (lw_at lw_m7 116 rfl) rfl
theorem q1615 : (Jvm.Cond.instanceMethod ({ cls := "HammerTowersModel", name := "misfits", desc := "(IIIII)I" } : Jvm.MethodName)) ∈ lw_all := lw_g (lw_at lw_m7 118 rfl) rfl
theorem q1616 : (Jvm.Cond.selects "HammerTowersModel" ({ cls := "HammerTowersModel", name := "misfits", desc := "(IIIII)I" } : Jvm.MethodName) ({ cls := "HammerTowersModel", name := "misfits", desc := "(IIIII)I" } : Jvm.MethodName)) ∈ lw_all := lw_g (lw_at lw_m7 119 rfl) rfl
theorem q1617 : (Jvm.Cond.code ({ cls := "HammerTowersModel", name := "misfits", desc := "(IIIII)I" } : Jvm.MethodName) prog_9_method_82_code (7 : Nat) (Option.some Jvm.ClassFile.FieldType.int)) ∈ lw_all := lw_g (lw_at lw_m7 120 rfl) rfl
theorem q1618 : (Jvm.Cond.methodLink "HammerTowersModel" (290 : Nat) ({ cls := "HammerTowersModel", name := "misfitsOf", desc := "(IIIII)I" } : Jvm.MethodName)) ∈ lw_all := lw_g (lw_at lw_m7 121 rfl) rfl
theorem q1619 : (Jvm.Cond.privateMethod ({ cls := "HammerTowersModel", name := "misfitsOf", desc := "(IIIII)I" } : Jvm.MethodName)) ∈ lw_tbl := lw_at lw_m7 122 rfl
theorem q1620 : (Jvm.Cond.instanceMethod ({ cls := "HammerTowersModel", name := "misfitsOf", desc := "(IIIII)I" } : Jvm.MethodName)) ∈ lw_all := lw_g (lw_at lw_m7 123 rfl) rfl
theorem q1621 : (Jvm.Cond.code ({ cls := "HammerTowersModel", name := "misfitsOf", desc := "(IIIII)I" } : Jvm.MethodName) prog_9_method_81_code (9 : Nat) (Option.some Jvm.ClassFile.FieldType.int)) ∈ lw_all := lw_g (lw_at lw_m7 124 rfl) rfl
theorem q1623 : (Jvm.Cond.instanceMethod ({ cls := "HammerTowersModel", name := "fault", desc := "(II)I" } : Jvm.MethodName)) ∈ lw_all := lw_g (lw_at lw_m7 126 rfl) rfl
theorem q1624 : (Jvm.Cond.selects "HammerTowersModel" ({ cls := "HammerTowersModel", name := "fault", desc := "(II)I" } : Jvm.MethodName) ({ cls := "HammerTowersModel", name := "fault", desc := "(II)I" } : Jvm.MethodName)) ∈ lw_all := lw_g (lw_at lw_m7 127 rfl) rfl
theorem q1625 : (Jvm.Cond.code ({ cls := "HammerTowersModel", name := "fault", desc := "(II)I" } : Jvm.MethodName) prog_9_method_85_code (4 : Nat) (Option.some Jvm.ClassFile.FieldType.int)) ∈ lw_all := lw_g (lw_at lw_m7 128 rfl) rfl
theorem q1626 : (Jvm.Cond.methodLink "HammerTowersModel" (303 : Nat) ({ cls := "HammerTowersModel", name := "tryAll", desc := "(II)V" } : Jvm.MethodName)) ∈ lw_all := lw_g (lw_at lw_m7 129 rfl) rfl
theorem q1627 : (Jvm.Cond.privateMethod ({ cls := "HammerTowersModel", name := "tryAll", desc := "(II)V" } : Jvm.MethodName)) ∈ lw_tbl := lw_at lw_m7 130 rfl
theorem q1628 : (Jvm.Cond.instanceMethod ({ cls := "HammerTowersModel", name := "tryAll", desc := "(II)V" } : Jvm.MethodName)) ∈ lw_all := lw_g (lw_at lw_m7 131 rfl) rfl
theorem q1629 : (Jvm.Cond.code ({ cls := "HammerTowersModel", name := "tryAll", desc := "(II)V" } : Jvm.MethodName) prog_9_method_84_code (6 : Nat) (Option.none : Option Jvm.ClassFile.FieldType)) ∈ lw_all := lw_g (lw_at lw_m7 132 rfl) rfl
theorem q1630 : (Jvm.Cond.methodLink "HammerTowersModel" (299 : Nat) ({ cls := "HammerTowersModel", name := "tryFault", desc := "(IIIII)V" } : Jvm.MethodName)) ∈ lw_all := lw_g (lw_at lw_m7 133 rfl) rfl
theorem q1631 : (Jvm.Cond.privateMethod ({ cls := "HammerTowersModel", name := "tryFault", desc := "(IIIII)V" } : Jvm.MethodName)) ∈ lw_tbl := lw_at lw_m7 134 rfl
theorem q1632 : (Jvm.Cond.instanceMethod ({ cls := "HammerTowersModel", name := "tryFault", desc := "(IIIII)V" } : Jvm.MethodName)) ∈ lw_all := lw_g (lw_at lw_m7 135 rfl) rfl
theorem q1633 : (Jvm.Cond.code ({ cls := "HammerTowersModel", name := "tryFault", desc := "(IIIII)V" } : Jvm.MethodName) prog_9_method_83_code (7 : Nat) (Option.none : Option Jvm.ClassFile.FieldType)) ∈ lw_all := lw_g (lw_at lw_m7 136 rfl) rfl
theorem q1635 : (Jvm.Cond.instanceMethod ({ cls := "HammerTowersModel", name := "faultTold", desc := "(Z)I" } : Jvm.MethodName)) ∈ lw_all := lw_g (lw_at lw_m7 138 rfl) rfl
theorem q1636 : (Jvm.Cond.selects "HammerTowersModel" ({ cls := "HammerTowersModel", name := "faultTold", desc := "(Z)I" } : Jvm.MethodName) ({ cls := "HammerTowersModel", name := "faultTold", desc := "(Z)I" } : Jvm.MethodName)) ∈ lw_all := lw_g (lw_at lw_m7 139 rfl) rfl
theorem q1637 : (Jvm.Cond.code ({ cls := "HammerTowersModel", name := "faultTold", desc := "(Z)I" } : Jvm.MethodName) prog_9_method_86_code (2 : Nat) (Option.some Jvm.ClassFile.FieldType.int)) ∈ lw_all := lw_g (lw_at lw_m7 140 rfl) rfl
theorem q1639 : (Jvm.Cond.instanceMethod ({ cls := "HammerTowersModel", name := "explained", desc := "(II)I" } : Jvm.MethodName)) ∈ lw_all := lw_g (lw_at lw_m7 142 rfl) rfl
theorem q1640 : (Jvm.Cond.selects "HammerTowersModel" ({ cls := "HammerTowersModel", name := "explained", desc := "(II)I" } : Jvm.MethodName) ({ cls := "HammerTowersModel", name := "explained", desc := "(II)I" } : Jvm.MethodName)) ∈ lw_all := lw_g (lw_at lw_m7 143 rfl) rfl
theorem q1641 : (Jvm.Cond.code ({ cls := "HammerTowersModel", name := "explained", desc := "(II)I" } : Jvm.MethodName) prog_9_method_87_code (4 : Nat) (Option.some Jvm.ClassFile.FieldType.int)) ∈ lw_all := lw_g (lw_at lw_m7 144 rfl) rfl
theorem q1643 : (Jvm.Cond.instanceMethod ({ cls := "HammerTowersModel", name := "windy", desc := "(IIIII)I" } : Jvm.MethodName)) ∈ lw_all := lw_g (lw_at lw_m7 146 rfl) rfl
theorem q1644 : (Jvm.Cond.selects "HammerTowersModel" ({ cls := "HammerTowersModel", name := "windy", desc := "(IIIII)I" } : Jvm.MethodName) ({ cls := "HammerTowersModel", name := "windy", desc := "(IIIII)I" } : Jvm.MethodName)) ∈ lw_all := lw_g (lw_at lw_m7 147 rfl) rfl
theorem q1645 : (Jvm.Cond.code ({ cls := "HammerTowersModel", name := "windy", desc := "(IIIII)I" } : Jvm.MethodName) prog_9_method_88_code (8 : Nat) (Option.some Jvm.ClassFile.FieldType.int)) ∈ lw_all := lw_g (lw_at lw_m7 148 rfl) rfl
theorem q1647 : (Jvm.Cond.instanceMethod ({ cls := "HammerTowersModel", name := "wheel", desc := "(I)I" } : Jvm.MethodName)) ∈ lw_all := lw_g (lw_at lw_m7 150 rfl) rfl
theorem q1648 : (Jvm.Cond.selects "HammerTowersModel" ({ cls := "HammerTowersModel", name := "wheel", desc := "(I)I" } : Jvm.MethodName) ({ cls := "HammerTowersModel", name := "wheel", desc := "(I)I" } : Jvm.MethodName)) ∈ lw_all := lw_g (lw_at lw_m7 151 rfl) rfl
theorem q1649 : (Jvm.Cond.code ({ cls := "HammerTowersModel", name := "wheel", desc := "(I)I" } : Jvm.MethodName) prog_9_method_89_code (2 : Nat) (Option.some Jvm.ClassFile.FieldType.int)) ∈ lw_all := lw_g (lw_at lw_m7 152 rfl) rfl
theorem q1651 : (Jvm.Cond.instanceMethod ({ cls := "HammerTowersModel", name := "nearest", desc := "(III)I" } : Jvm.MethodName)) ∈ lw_all := lw_g (lw_at lw_m7 154 rfl) rfl
theorem q1652 : (Jvm.Cond.selects "HammerTowersModel" ({ cls := "HammerTowersModel", name := "nearest", desc := "(III)I" } : Jvm.MethodName) ({ cls := "HammerTowersModel", name := "nearest", desc := "(III)I" } : Jvm.MethodName)) ∈ lw_all := lw_g (lw_at lw_m7 155 rfl) rfl
theorem q1653 : (Jvm.Cond.code ({ cls := "HammerTowersModel", name := "nearest", desc := "(III)I" } : Jvm.MethodName) prog_9_method_92_code (10 : Nat) (Option.some Jvm.ClassFile.FieldType.int)) ∈ lw_all := lw_g (lw_at lw_m7 156 rfl) rfl
theorem q1654 : (Jvm.Cond.methodLink "HammerTowersModel" (327 : Nat) ({ cls := "HammerTowersModel", name := "tryGears", desc := "(III)V" } : Jvm.MethodName)) ∈ lw_all := lw_g (lw_at lw_m7 157 rfl) rfl
theorem q1655 : (Jvm.Cond.privateMethod ({ cls := "HammerTowersModel", name := "tryGears", desc := "(III)V" } : Jvm.MethodName)) ∈ lw_tbl := lw_at lw_m7 158 rfl
theorem q1656 : (Jvm.Cond.instanceMethod ({ cls := "HammerTowersModel", name := "tryGears", desc := "(III)V" } : Jvm.MethodName)) ∈ lw_all := lw_g (lw_at lw_m7 159 rfl) rfl
theorem q1657 : (Jvm.Cond.code ({ cls := "HammerTowersModel", name := "tryGears", desc := "(III)V" } : Jvm.MethodName) prog_9_method_91_code (9 : Nat) (Option.none : Option Jvm.ClassFile.FieldType)) ∈ lw_all := lw_g (lw_at lw_m7 160 rfl) rfl
theorem q1658 : (Jvm.Cond.methodLink "HammerTowersModel" (317 : Nat) ({ cls := "HammerTowersModel", name := "differs", desc := "(JJJJ)J" } : Jvm.MethodName)) ∈ lw_all := lw_g (lw_at lw_m7 161 rfl) rfl
theorem q1659 : (Jvm.Cond.static ({ cls := "HammerTowersModel", name := "differs", desc := "(JJJJ)J" } : Jvm.MethodName)) ∈ lw_all := lw_g (lw_at lw_m7 162 rfl) rfl
theorem q1660 : (Jvm.Cond.code ({ cls := "HammerTowersModel", name := "differs", desc := "(JJJJ)J" } : Jvm.MethodName) prog_9_method_90_code (10 : Nat) (Option.some Jvm.ClassFile.FieldType.long)) ∈ lw_all := lw_g (lw_at lw_m7 163 rfl) rfl
theorem q1661 : (Jvm.Cond.methodLink "HammerTowersModel" (334 : Nat) ({ cls := "HammerTowersModel", name := "tell", desc := "(JJ)I" } : Jvm.MethodName)) ∈ lw_all := lw_g (lw_at lw_m7 164 rfl) rfl
theorem q1662 : (Jvm.Cond.privateMethod ({ cls := "HammerTowersModel", name := "tell", desc := "(JJ)I" } : Jvm.MethodName)) ∈ lw_tbl := lw_at lw_m7 165 rfl
theorem q1663 : (Jvm.Cond.instanceMethod ({ cls := "HammerTowersModel", name := "tell", desc := "(JJ)I" } : Jvm.MethodName)) ∈ lw_all := lw_g (lw_at lw_m7 166 rfl) rfl
theorem q1664 : (Jvm.Cond.code ({ cls := "HammerTowersModel", name := "tell", desc := "(JJ)I" } : Jvm.MethodName) prog_9_method_5_code (11 : Nat) (Option.some Jvm.ClassFile.FieldType.int)) ∈ lw_all := lw_g (lw_at lw_m7 167 rfl) rfl
theorem q1666 : (Jvm.Cond.instanceMethod ({ cls := "HammerTowersModel", name := "chosen", desc := "(I)I" } : Jvm.MethodName)) ∈ lw_all := lw_g (lw_at lw_m7 169 rfl) rfl
theorem q1667 : (Jvm.Cond.selects "HammerTowersModel" ({ cls := "HammerTowersModel", name := "chosen", desc := "(I)I" } : Jvm.MethodName) ({ cls := "HammerTowersModel", name := "chosen", desc := "(I)I" } : Jvm.MethodName)) ∈ lw_all := lw_g (lw_at lw_m7 170 rfl) rfl
theorem q1668 : (Jvm.Cond.code ({ cls := "HammerTowersModel", name := "chosen", desc := "(I)I" } : Jvm.MethodName) prog_9_method_93_code (2 : Nat) (Option.some Jvm.ClassFile.FieldType.int)) ∈ lw_all := lw_g (lw_at lw_m7 171 rfl) rfl
theorem q1670 : (Jvm.Cond.instanceMethod ({ cls := "HammerTowersModel", name := "daily", desc := "(IZ)I" } : Jvm.MethodName)) ∈ lw_all := lw_g (lw_at lw_m7 173 rfl) rfl
theorem q1671 : (Jvm.Cond.selects "HammerTowersModel" ({ cls := "HammerTowersModel", name := "daily", desc := "(IZ)I" } : Jvm.MethodName) ({ cls := "HammerTowersModel", name := "daily", desc := "(IZ)I" } : Jvm.MethodName)) ∈ lw_all := lw_g (lw_at lw_m7 174 rfl) rfl
theorem q1672 : (Jvm.Cond.code ({ cls := "HammerTowersModel", name := "daily", desc := "(IZ)I" } : Jvm.MethodName) prog_9_method_95_code (3 : Nat) (Option.some Jvm.ClassFile.FieldType.int)) ∈ lw_all := lw_g (lw_at lw_m7 175 rfl) rfl
theorem q1673 : (Jvm.Cond.methodLink "HammerTowersModel" (338 : Nat) ({ cls := "HammerTowersModel", name := "dayOf", desc := "(IZI)I" } : Jvm.MethodName)) ∈ lw_all := lw_g (lw_at lw_m7 176 rfl) rfl
theorem q1674 : (Jvm.Cond.privateMethod ({ cls := "HammerTowersModel", name := "dayOf", desc := "(IZI)I" } : Jvm.MethodName)) ∈ lw_tbl := lw_at lw_m7 177 rfl
theorem q1675 : (Jvm.Cond.instanceMethod ({ cls := "HammerTowersModel", name := "dayOf", desc := "(IZI)I" } : Jvm.MethodName)) ∈ lw_all := lw_g (lw_at lw_m7 178 rfl) rfl
theorem q1676 : (Jvm.Cond.code ({ cls := "HammerTowersModel", name := "dayOf", desc := "(IZI)I" } : Jvm.MethodName) prog_9_method_94_code (8 : Nat) (Option.some Jvm.ClassFile.FieldType.int)) ∈ lw_all := lw_g (lw_at lw_m7 179 rfl) rfl
theorem q1678 : (Jvm.Cond.instanceMethod ({ cls := "HammerTowersModel", name := "lasting", desc := "(I)I" } : Jvm.MethodName)) ∈ lw_all := lw_g (lw_at lw_m7 181 rfl) rfl
theorem q1679 : (Jvm.Cond.selects "HammerTowersModel" ({ cls := "HammerTowersModel", name := "lasting", desc := "(I)I" } : Jvm.MethodName) ({ cls := "HammerTowersModel", name := "lasting", desc := "(I)I" } : Jvm.MethodName)) ∈ lw_all := lw_g (lw_at lw_m7 182 rfl) rfl
theorem q1680 : (Jvm.Cond.code ({ cls := "HammerTowersModel", name := "lasting", desc := "(I)I" } : Jvm.MethodName) prog_9_method_96_code (9 : Nat) (Option.some Jvm.ClassFile.FieldType.int)) ∈ lw_all := lw_g (lw_at lw_m7 183 rfl) rfl
theorem q1681 : (Jvm.Cond.constantLong "HammerTowersModel" (341 : Nat) (1000000 : Int64)) ∈ lw_all := lw_g (lw_at lw_m7 184 rfl) rfl
theorem q1682 : (Jvm.Cond.constant "HammerTowersModel" (343 : Nat) (1000001 : Int32)) ∈ lw_all := lw_g (lw_at lw_m7 185 rfl) rfl
theorem q1684 : (Jvm.Cond.instanceMethod ({ cls := "HammerTowersModel", name := "lastingDays", desc := "(IZ)I" } : Jvm.MethodName)) ∈ lw_all := lw_g (lw_at lw_m7 187 rfl) rfl
theorem q1685 : (Jvm.Cond.selects "HammerTowersModel" ({ cls := "HammerTowersModel", name := "lastingDays", desc := "(IZ)I" } : Jvm.MethodName) ({ cls := "HammerTowersModel", name := "lastingDays", desc := "(IZ)I" } : Jvm.MethodName)) ∈ lw_all := lw_g (lw_at lw_m7 188 rfl) rfl
theorem q1686 : (Jvm.Cond.code ({ cls := "HammerTowersModel", name := "lastingDays", desc := "(IZ)I" } : Jvm.MethodName) prog_9_method_97_code (7 : Nat) (Option.some Jvm.ClassFile.FieldType.int)) ∈ lw_all := lw_g (lw_at lw_m7 189 rfl) rfl
theorem q1688 : (Jvm.Cond.instanceMethod ({ cls := "HammerTowersModel", name := "asked", desc := "()I" } : Jvm.MethodName)) ∈ lw_all := lw_g (lw_at lw_m7 191 rfl) rfl
theorem q1689 : (Jvm.Cond.selects "HammerTowersModel" ({ cls := "HammerTowersModel", name := "asked", desc := "()I" } : Jvm.MethodName) ({ cls := "HammerTowersModel", name := "asked", desc := "()I" } : Jvm.MethodName)) ∈ lw_all := lw_g (lw_at lw_m7 192 rfl) rfl
theorem q1690 : (Jvm.Cond.code ({ cls := "HammerTowersModel", name := "asked", desc := "()I" } : Jvm.MethodName) prog_9_method_98_code (1 : Nat) (Option.some Jvm.ClassFile.FieldType.int)) ∈ lw_all := lw_g (lw_at lw_m7 193 rfl) rfl
theorem q1692 : (Jvm.Cond.instanceMethod ({ cls := "HammerTowersModel", name := "upper", desc := "()J" } : Jvm.MethodName)) ∈ lw_all := lw_g (lw_at lw_m7 195 rfl) rfl
theorem q1693 : (Jvm.Cond.selects "HammerTowersModel" ({ cls := "HammerTowersModel", name := "upper", desc := "()J" } : Jvm.MethodName) ({ cls := "HammerTowersModel", name := "upper", desc := "()J" } : Jvm.MethodName)) ∈ lw_all := lw_g (lw_at lw_m7 196 rfl) rfl
theorem q1694 : (Jvm.Cond.code ({ cls := "HammerTowersModel", name := "upper", desc := "()J" } : Jvm.MethodName) prog_9_method_99_code (1 : Nat) (Option.some Jvm.ClassFile.FieldType.long)) ∈ lw_all := lw_g (lw_at lw_m7 197 rfl) rfl
theorem q1696 : (Jvm.Cond.instanceMethod ({ cls := "HammerTowersModel", name := "lower", desc := "()J" } : Jvm.MethodName)) ∈ lw_all := lw_g (lw_at lw_m7 199 rfl) rfl
theorem q1697 : (Jvm.Cond.selects "HammerTowersModel" ({ cls := "HammerTowersModel", name := "lower", desc := "()J" } : Jvm.MethodName) ({ cls := "HammerTowersModel", name := "lower", desc := "()J" } : Jvm.MethodName)) ∈ lw_all := lw_g (lw_at lw_m7 200 rfl) rfl
theorem q1698 : (Jvm.Cond.code ({ cls := "HammerTowersModel", name := "lower", desc := "()J" } : Jvm.MethodName) prog_9_method_100_code (1 : Nat) (Option.some Jvm.ClassFile.FieldType.long)) ∈ lw_all := lw_g (lw_at lw_m7 201 rfl) rfl
theorem q1700 : (Jvm.Cond.instanceMethod ({ cls := "HammerTowersModel", name := "count", desc := "(I)I" } : Jvm.MethodName)) ∈ lw_all := lw_g (lw_at lw_m7 203 rfl) rfl
theorem q1701 : (Jvm.Cond.selects "HammerTowersModel" ({ cls := "HammerTowersModel", name := "count", desc := "(I)I" } : Jvm.MethodName) ({ cls := "HammerTowersModel", name := "count", desc := "(I)I" } : Jvm.MethodName)) ∈ lw_all := lw_g (lw_at lw_m7 204 rfl) rfl
theorem q1702 : (Jvm.Cond.code ({ cls := "HammerTowersModel", name := "count", desc := "(I)I" } : Jvm.MethodName) prog_9_method_101_code (4 : Nat) (Option.some Jvm.ClassFile.FieldType.int)) ∈ lw_all := lw_g (lw_at lw_m7 205 rfl) rfl
theorem q1704 : (Jvm.Cond.instanceMethod ({ cls := "HammerTowersModel", name := "finding", desc := "()I" } : Jvm.MethodName)) ∈ lw_all := lw_g (lw_at lw_m7 207 rfl) rfl
theorem q1705 : (Jvm.Cond.selects "HammerTowersModel" ({ cls := "HammerTowersModel", name := "finding", desc := "()I" } : Jvm.MethodName) ({ cls := "HammerTowersModel", name := "finding", desc := "()I" } : Jvm.MethodName)) ∈ lw_all := lw_g (lw_at lw_m7 208 rfl) rfl
theorem q1706 : (Jvm.Cond.code ({ cls := "HammerTowersModel", name := "finding", desc := "()I" } : Jvm.MethodName) prog_9_method_102_code (1 : Nat) (Option.some Jvm.ClassFile.FieldType.int)) ∈ lw_all := lw_g (lw_at lw_m7 209 rfl) rfl
theorem q1708 : (Jvm.Cond.instanceMethod ({ cls := "HammerTowersModel", name := "findings", desc := "(I)I" } : Jvm.MethodName)) ∈ lw_all := lw_g (lw_at lw_m7 211 rfl) rfl
theorem q1709 : (Jvm.Cond.selects "HammerTowersModel" ({ cls := "HammerTowersModel", name := "findings", desc := "(I)I" } : Jvm.MethodName) ({ cls := "HammerTowersModel", name := "findings", desc := "(I)I" } : Jvm.MethodName)) ∈ lw_all := lw_g (lw_at lw_m7 212 rfl) rfl
theorem q1710 : (Jvm.Cond.code ({ cls := "HammerTowersModel", name := "findings", desc := "(I)I" } : Jvm.MethodName) prog_9_method_103_code (2 : Nat) (Option.some Jvm.ClassFile.FieldType.int)) ∈ lw_all := lw_g (lw_at lw_m7 213 rfl) rfl
theorem q1712 : (Jvm.Cond.instanceMethod ({ cls := "HammerTowersModel", name := "digest", desc := "()J" } : Jvm.MethodName)) ∈ lw_all := lw_g (lw_at lw_m7 215 rfl) rfl
theorem q1713 : (Jvm.Cond.selects "HammerTowersModel" ({ cls := "HammerTowersModel", name := "digest", desc := "()J" } : Jvm.MethodName) ({ cls := "HammerTowersModel", name := "digest", desc := "()J" } : Jvm.MethodName)) ∈ lw_all := lw_g (lw_at lw_m7 216 rfl) rfl
theorem q1714 : (Jvm.Cond.code ({ cls := "HammerTowersModel", name := "digest", desc := "()J" } : Jvm.MethodName) prog_9_method_104_code (5 : Nat) (Option.some Jvm.ClassFile.FieldType.long)) ∈ lw_all := lw_g (lw_at lw_m7 217 rfl) rfl
theorem q1715 : (Jvm.Cond.constantLong "HammerTowersModel" (344 : Nat) (527 : Int64)) ∈ lw_all := lw_g (lw_at lw_m7 218 rfl) rfl
theorem q1716 : (Jvm.Cond.constantLong "HammerTowersModel" (346 : Nat) (31 : Int64)) ∈ lw_all := lw_g (lw_at lw_m7 219 rfl) rfl
theorem in_X1 : ∀ w ∈ wsX10, w ∈ lw_all := lw_in wsX10 [1193, 1195, 1197, 1199, 1201, 1203, 1205, 1207, 1209, 1211, 1213, 1215, 1217, 1219, 1221, 1223, 1225, 1227, 1229, 1231, 1233, 1235, 1237, 1239, 1241, 1243, 1245, 1247, 1249, 1251, 1253, 1255, 1257, 1259, 1261, 1263, 1265, 1267, 1269, 1271, 1273, 1275, 1277, 1279, 1281, 1283, 1285, 1287, 1289, 1291, 1293, 1295, 1297, 1299, 1301, 1303] (by decide +kernel) (by decide +kernel)
theorem q69 : (Jvm.Cond.initialized "HammerTowers$Train") ∈ lw_all := lw_g (lw_at lw_m1 12 rfl) rfl
theorem q350 : (Jvm.Cond.instantiable "HammerTowers$Train" (11 : Nat)) ∈ lw_all := lw_g (lw_at lw_m2 53 rfl) rfl
theorem q352 : (Jvm.Cond.instanceMethod ({ cls := "HammerTowers$Train", name := "<init>", desc := "(LHammerTowers;I)V" } : Jvm.MethodName)) ∈ lw_all := lw_g (lw_at lw_m2 55 rfl) rfl
theorem q353 : (Jvm.Cond.code ({ cls := "HammerTowers$Train", name := "<init>", desc := "(LHammerTowers;I)V" } : Jvm.MethodName) prog_7_method_1_code (3 : Nat) (Option.none : Option Jvm.ClassFile.FieldType)) ∈ lw_all := lw_g (lw_at lw_m2 56 rfl) rfl
theorem q354 : (Jvm.Cond.methodLink "HammerTowers$Train" (9 : Nat) ({ cls := "java/lang/Object", name := "<init>", desc := "()V" } : Jvm.MethodName)) ∈ lw_all := lw_g (lw_at lw_m2 57 rfl) rfl
theorem q355 : (Jvm.Cond.fieldLink "HammerTowers$Train" (28 : Nat) "HammerTowers$Train" "number" "I") ∈ lw_all := lw_g (lw_at lw_m2 58 rfl) rfl
theorem q358 : (Jvm.Cond.fieldLink "HammerTowers$Train" (15 : Nat) "HammerTowers$Train" "pace" "I") ∈ lw_all := lw_g (lw_at lw_m2 61 rfl) rfl
theorem q361 : (Jvm.Cond.fieldLink "HammerTowers$Train" (19 : Nat) "HammerTowers$Train" "fall" "I") ∈ lw_all := lw_g (lw_at lw_m2 64 rfl) rfl
theorem q363 : (Jvm.Cond.fieldLink "HammerTowers$Train" (22 : Nat) "HammerTowers$Train" "weight" "I") ∈ lw_all := lw_g (lw_at lw_m2 66 rfl) rfl
theorem q370 : (Jvm.Cond.fieldLink "HammerTowers$Train" (34 : Nat) "HammerTowers$Train" "due" "I") ∈ lw_all := lw_g (lw_at lw_m2 73 rfl) rfl
theorem q377 : (Jvm.Cond.fieldLink "HammerTowers$Train" (25 : Nat) "HammerTowers$Train" "place" "I") ∈ lw_all := lw_g (lw_at lw_m2 80 rfl) rfl
theorem q383 : (Jvm.Cond.fieldLink "HammerTowers$Train" (37 : Nat) "HammerTowers$Train" "lifts" "Z") ∈ lw_all := lw_g (lw_at lw_m2 86 rfl) rfl
theorem q388 : (Jvm.Cond.fieldLink "HammerTowers$Train" (3 : Nat) "HammerTowers$Train" "this$0" "LHammerTowers;") ∈ lw_all := lw_g (lw_at lw_m2 91 rfl) rfl
theorem q389 : (Jvm.Cond.laysFinal "HammerTowers$Train" "HammerTowers$Train" "number" "I") ∈ lw_all := lw_g (lw_at lw_m2 92 rfl) rfl
theorem q390 : (Jvm.Cond.soleField "HammerTowers$Train" "number") ∈ lw_all := lw_g (lw_at lw_m2 93 rfl) rfl
theorem q391 : (Jvm.Cond.lays "HammerTowers$Train" "HammerTowers$Train" "pace" "I") ∈ lw_all := lw_g (lw_at lw_m2 94 rfl) rfl
theorem q392 : (Jvm.Cond.soleField "HammerTowers$Train" "pace") ∈ lw_all := lw_g (lw_at lw_m2 95 rfl) rfl
theorem q393 : (Jvm.Cond.lays "HammerTowers$Train" "HammerTowers$Train" "fall" "I") ∈ lw_all := lw_g (lw_at lw_m2 96 rfl) rfl
theorem q394 : (Jvm.Cond.soleField "HammerTowers$Train" "fall") ∈ lw_all := lw_g (lw_at lw_m2 97 rfl) rfl
theorem q395 : (Jvm.Cond.lays "HammerTowers$Train" "HammerTowers$Train" "weight" "I") ∈ lw_all := lw_g (lw_at lw_m2 98 rfl) rfl
theorem q396 : (Jvm.Cond.soleField "HammerTowers$Train" "weight") ∈ lw_all := lw_g (lw_at lw_m2 99 rfl) rfl
theorem q397 : (Jvm.Cond.lays "HammerTowers$Train" "HammerTowers$Train" "broken" "I") ∈ lw_all := lw_g (lw_at lw_m2 100 rfl) rfl
theorem q398 : (Jvm.Cond.soleField "HammerTowers$Train" "broken") ∈ lw_all := lw_g (lw_at lw_m2 101 rfl) rfl
theorem q399 : (Jvm.Cond.lays "HammerTowers$Train" "HammerTowers$Train" "due" "I") ∈ lw_all := lw_g (lw_at lw_m2 102 rfl) rfl
theorem q400 : (Jvm.Cond.soleField "HammerTowers$Train" "due") ∈ lw_all := lw_g (lw_at lw_m2 103 rfl) rfl
theorem q401 : (Jvm.Cond.lays "HammerTowers$Train" "HammerTowers$Train" "ever" "I") ∈ lw_all := lw_g (lw_at lw_m2 104 rfl) rfl
theorem q402 : (Jvm.Cond.soleField "HammerTowers$Train" "ever") ∈ lw_all := lw_g (lw_at lw_m2 105 rfl) rfl
theorem q403 : (Jvm.Cond.lays "HammerTowers$Train" "HammerTowers$Train" "place" "I") ∈ lw_all := lw_g (lw_at lw_m2 106 rfl) rfl
theorem q404 : (Jvm.Cond.soleField "HammerTowers$Train" "place") ∈ lw_all := lw_g (lw_at lw_m2 107 rfl) rfl
theorem q405 : (Jvm.Cond.lays "HammerTowers$Train" "HammerTowers$Train" "isWarned" "Z") ∈ lw_all := lw_g (lw_at lw_m2 108 rfl) rfl
theorem q406 : (Jvm.Cond.soleField "HammerTowers$Train" "isWarned") ∈ lw_all := lw_g (lw_at lw_m2 109 rfl) rfl
theorem q407 : (Jvm.Cond.lays "HammerTowers$Train" "HammerTowers$Train" "lifts" "Z") ∈ lw_all := lw_g (lw_at lw_m2 110 rfl) rfl
theorem q408 : (Jvm.Cond.soleField "HammerTowers$Train" "lifts") ∈ lw_all := lw_g (lw_at lw_m2 111 rfl) rfl
theorem q409 : (Jvm.Cond.laysFinal "HammerTowers$Train" "HammerTowers$Train" "this$0" "LHammerTowers;") ∈ lw_all := lw_g (lw_at lw_m2 112 rfl) rfl
theorem q410 : (Jvm.Cond.soleField "HammerTowers$Train" "this$0") ∈ lw_all := lw_g (lw_at lw_m2 113 rfl) rfl
theorem q411 : (Jvm.Cond.superclass "HammerTowers$Train" "java/lang/Object") ∈ lw_all := lw_g (lw_at lw_m2 114 rfl) rfl
theorem q539 : (Jvm.Cond.instanceMethod ({ cls := "HammerTowers$Train", name := "kind", desc := "()I" } : Jvm.MethodName)) ∈ lw_all := lw_g (lw_at lw_m3 2 rfl) rfl
theorem q540 : (Jvm.Cond.selects "HammerTowers$Train" ({ cls := "HammerTowers$Train", name := "kind", desc := "()I" } : Jvm.MethodName) ({ cls := "HammerTowers$Train", name := "kind", desc := "()I" } : Jvm.MethodName)) ∈ lw_all := lw_g (lw_at lw_m3 3 rfl) rfl
theorem q541 : (Jvm.Cond.sameMethod "HammerTowers$Train" "HammerTowers$Train" "kind" "()I") ∈ lw_all := lw_g (lw_at lw_m3 4 rfl) rfl
theorem q553 : (Jvm.Cond.code ({ cls := "HammerTowers$Train", name := "kind", desc := "()I" } : Jvm.MethodName) prog_7_method_2_code (1 : Nat) (Option.some Jvm.ClassFile.FieldType.int)) ∈ lw_all := lw_g (lw_at lw_m3 16 rfl) rfl
theorem q555 : (Jvm.Cond.instanceMethod ({ cls := "HammerTowers$Train", name := "many", desc := "()I" } : Jvm.MethodName)) ∈ lw_all := lw_g (lw_at lw_m3 18 rfl) rfl
theorem q556 : (Jvm.Cond.selects "HammerTowers$Train" ({ cls := "HammerTowers$Train", name := "many", desc := "()I" } : Jvm.MethodName) ({ cls := "HammerTowers$Train", name := "many", desc := "()I" } : Jvm.MethodName)) ∈ lw_all := lw_g (lw_at lw_m3 19 rfl) rfl
theorem q557 : (Jvm.Cond.sameMethod "HammerTowers$Train" "HammerTowers$Train" "many" "()I") ∈ lw_all := lw_g (lw_at lw_m3 20 rfl) rfl
theorem q565 : (Jvm.Cond.code ({ cls := "HammerTowers$Train", name := "many", desc := "()I" } : Jvm.MethodName) prog_7_method_4_code (1 : Nat) (Option.some Jvm.ClassFile.FieldType.int)) ∈ lw_all := lw_g (lw_at lw_m3 28 rfl) rfl
theorem q567 : (Jvm.Cond.instanceMethod ({ cls := "HammerTowers$Train", name := "at", desc := "()I" } : Jvm.MethodName)) ∈ lw_all := lw_g (lw_at lw_m3 30 rfl) rfl
theorem q568 : (Jvm.Cond.selects "HammerTowers$Train" ({ cls := "HammerTowers$Train", name := "at", desc := "()I" } : Jvm.MethodName) ({ cls := "HammerTowers$Train", name := "at", desc := "()I" } : Jvm.MethodName)) ∈ lw_all := lw_g (lw_at lw_m3 31 rfl) rfl
theorem q569 : (Jvm.Cond.sameMethod "HammerTowers$Train" "HammerTowers$Train" "at" "()I") ∈ lw_all := lw_g (lw_at lw_m3 32 rfl) rfl
theorem q575 : (Jvm.Cond.code ({ cls := "HammerTowers$Train", name := "at", desc := "()I" } : Jvm.MethodName) prog_7_method_7_code (1 : Nat) (Option.some Jvm.ClassFile.FieldType.int)) ∈ lw_all := lw_g (lw_at lw_m3 38 rfl) rfl
theorem q617 : (Jvm.Cond.instanceMethod ({ cls := "HammerTowers$Train", name := "notch", desc := "(I)I" } : Jvm.MethodName)) ∈ lw_all := lw_g (lw_at lw_m3 80 rfl) rfl
theorem q618 : (Jvm.Cond.selects "HammerTowers$Train" ({ cls := "HammerTowers$Train", name := "notch", desc := "(I)I" } : Jvm.MethodName) ({ cls := "HammerTowers$Train", name := "notch", desc := "(I)I" } : Jvm.MethodName)) ∈ lw_all := lw_g (lw_at lw_m3 81 rfl) rfl
theorem q619 : (Jvm.Cond.sameMethod "HammerTowers$Train" "HammerTowers$Train" "notch" "(I)I") ∈ lw_all := lw_g (lw_at lw_m3 82 rfl) rfl
theorem q627 : (Jvm.Cond.code ({ cls := "HammerTowers$Train", name := "notch", desc := "(I)I" } : Jvm.MethodName) prog_7_method_5_code (2 : Nat) (Option.some Jvm.ClassFile.FieldType.int)) ∈ lw_all := lw_g (lw_at lw_m3 90 rfl) rfl
theorem q633 : (Jvm.Cond.instanceMethod ({ cls := "HammerTowers$Train", name := "cut", desc := "(II)V" } : Jvm.MethodName)) ∈ lw_all := lw_g (lw_at lw_m3 96 rfl) rfl
theorem q634 : (Jvm.Cond.selects "HammerTowers$Train" ({ cls := "HammerTowers$Train", name := "cut", desc := "(II)V" } : Jvm.MethodName) ({ cls := "HammerTowers$Train", name := "cut", desc := "(II)V" } : Jvm.MethodName)) ∈ lw_all := lw_g (lw_at lw_m3 97 rfl) rfl
theorem q635 : (Jvm.Cond.sameMethod "HammerTowers$Train" "HammerTowers$Train" "cut" "(II)V") ∈ lw_all := lw_g (lw_at lw_m3 98 rfl) rfl
theorem q643 : (Jvm.Cond.code ({ cls := "HammerTowers$Train", name := "cut", desc := "(II)V" } : Jvm.MethodName) prog_7_method_6_code (3 : Nat) (Option.none : Option Jvm.ClassFile.FieldType)) ∈ lw_all := lw_g (lw_at lw_m3 106 rfl) rfl
theorem q644 : (Jvm.Cond.classLink "HammerTowers$Train" (31 : Nat) "java/lang/IllegalStateException") ∈ lw_all := lw_g (lw_at lw_m3 107 rfl) rfl
theorem q653 : (Jvm.Cond.methodLink "HammerTowers$Train" (33 : Nat) ({ cls := "java/lang/IllegalStateException", name := "<init>", desc := "()V" } : Jvm.MethodName)) ∈ lw_all := lw_g (lw_at lw_m3 116 rfl) rfl
theorem q802 : (Jvm.Cond.instanceMethod ({ cls := "HammerTowers$Train", name := "letOff", desc := "(IZ)V" } : Jvm.MethodName)) ∈ lw_all := lw_g (lw_at lw_m4 25 rfl) rfl
theorem q803 : (Jvm.Cond.selects "HammerTowers$Train" ({ cls := "HammerTowers$Train", name := "letOff", desc := "(IZ)V" } : Jvm.MethodName) ({ cls := "HammerTowers$Train", name := "letOff", desc := "(IZ)V" } : Jvm.MethodName)) ∈ lw_all := lw_g (lw_at lw_m4 26 rfl) rfl
theorem q804 : (Jvm.Cond.sameMethod "HammerTowers$Train" "HammerTowers$Train" "letOff" "(IZ)V") ∈ lw_all := lw_g (lw_at lw_m4 27 rfl) rfl
theorem q812 : (Jvm.Cond.code ({ cls := "HammerTowers$Train", name := "letOff", desc := "(IZ)V" } : Jvm.MethodName) prog_7_method_9_code (3 : Nat) (Option.none : Option Jvm.ClassFile.FieldType)) ∈ lw_all := lw_g (lw_at lw_m4 35 rfl) rfl
theorem q867 : (Jvm.Cond.castable "HammerTowers$Train" "HammerTowers$Struck") ∈ lw_tbl := lw_at lw_m4 90 rfl
theorem q868 : (Jvm.Cond.unhidden "HammerTowers$Train" "hammers" "()I") ∈ lw_tbl := lw_at lw_m4 91 rfl
theorem q883 : (Jvm.Cond.unhidden "HammerTowers$Train" "struck" "()V") ∈ lw_tbl := lw_at lw_m4 106 rfl
theorem q1084 : (Jvm.Cond.instanceMethod ({ cls := "HammerTowers$Train", name := "lets", desc := "(II)I" } : Jvm.MethodName)) ∈ lw_all := lw_g (lw_at lw_m5 67 rfl) rfl
theorem q1085 : (Jvm.Cond.selects "HammerTowers$Train" ({ cls := "HammerTowers$Train", name := "lets", desc := "(II)I" } : Jvm.MethodName) ({ cls := "HammerTowers$Train", name := "lets", desc := "(II)I" } : Jvm.MethodName)) ∈ lw_all := lw_g (lw_at lw_m5 68 rfl) rfl
theorem q1086 : (Jvm.Cond.sameMethod "HammerTowers$Train" "HammerTowers$Train" "lets" "(II)I") ∈ lw_all := lw_g (lw_at lw_m5 69 rfl) rfl
theorem q1094 : (Jvm.Cond.code ({ cls := "HammerTowers$Train", name := "lets", desc := "(II)I" } : Jvm.MethodName) prog_7_method_8_code (3 : Nat) (Option.some Jvm.ClassFile.FieldType.int)) ∈ lw_all := lw_g (lw_at lw_m5 77 rfl) rfl
theorem in_X2 : ∀ w ∈ wsX20, w ∈ lw_all := lw_in wsX20 [389, 391, 393, 395, 397, 399, 401, 403, 405, 407, 409] (by decide +kernel) (by decide +kernel)
theorem q70 : (Jvm.Cond.initialized "HammerTowers$Plate") ∈ lw_all := lw_g (lw_at lw_m1 13 rfl) rfl
theorem q371 : (Jvm.Cond.fieldLink "HammerTowers$Plate" (25 : Nat) "HammerTowers$Plate" "due" "I") ∈ lw_all := lw_g (lw_at lw_m2 74 rfl) rfl
theorem q372 : (Jvm.Cond.sameField "HammerTowers$Plate" "HammerTowers$Train" "due" "I") ∈ lw_all := lw_g (lw_at lw_m2 75 rfl) rfl
theorem q384 : (Jvm.Cond.fieldLink "HammerTowers$Plate" (28 : Nat) "HammerTowers$Plate" "lifts" "Z") ∈ lw_all := lw_g (lw_at lw_m2 87 rfl) rfl
theorem q385 : (Jvm.Cond.sameField "HammerTowers$Plate" "HammerTowers$Train" "lifts" "Z") ∈ lw_all := lw_g (lw_at lw_m2 88 rfl) rfl
theorem q424 : (Jvm.Cond.instantiable "HammerTowers$Plate" (14 : Nat)) ∈ lw_all := lw_g (lw_at lw_m2 127 rfl) rfl
theorem q426 : (Jvm.Cond.instanceMethod ({ cls := "HammerTowers$Plate", name := "<init>", desc := "(LHammerTowers;I[I)V" } : Jvm.MethodName)) ∈ lw_all := lw_g (lw_at lw_m2 129 rfl) rfl
theorem q427 : (Jvm.Cond.code ({ cls := "HammerTowers$Plate", name := "<init>", desc := "(LHammerTowers;I[I)V" } : Jvm.MethodName) prog_3_method_1_code (4 : Nat) (Option.none : Option Jvm.ClassFile.FieldType)) ∈ lw_all := lw_g (lw_at lw_m2 130 rfl) rfl
theorem q428 : (Jvm.Cond.methodLink "HammerTowers$Plate" (7 : Nat) ({ cls := "HammerTowers$Train", name := "<init>", desc := "(LHammerTowers;I)V" } : Jvm.MethodName)) ∈ lw_all := lw_g (lw_at lw_m2 131 rfl) rfl
theorem q429 : (Jvm.Cond.fieldLink "HammerTowers$Plate" (13 : Nat) "HammerTowers$Plate" "notches" "[I") ∈ lw_all := lw_g (lw_at lw_m2 132 rfl) rfl
theorem q430 : (Jvm.Cond.fieldLink "HammerTowers$Plate" (21 : Nat) "HammerTowers$Plate" "at" "I") ∈ lw_all := lw_g (lw_at lw_m2 133 rfl) rfl
theorem q432 : (Jvm.Cond.fieldLink "HammerTowers$Plate" (1 : Nat) "HammerTowers$Plate" "this$0" "LHammerTowers;") ∈ lw_all := lw_g (lw_at lw_m2 135 rfl) rfl
theorem q433 : (Jvm.Cond.laysFinal "HammerTowers$Plate" "HammerTowers$Plate" "notches" "[I") ∈ lw_all := lw_g (lw_at lw_m2 136 rfl) rfl
theorem q434 : (Jvm.Cond.soleField "HammerTowers$Plate" "notches") ∈ lw_all := lw_g (lw_at lw_m2 137 rfl) rfl
theorem q435 : (Jvm.Cond.lays "HammerTowers$Plate" "HammerTowers$Plate" "at" "I") ∈ lw_all := lw_g (lw_at lw_m2 138 rfl) rfl
theorem q436 : (Jvm.Cond.soleField "HammerTowers$Plate" "at") ∈ lw_all := lw_g (lw_at lw_m2 139 rfl) rfl
theorem q437 : (Jvm.Cond.laysFinal "HammerTowers$Plate" "HammerTowers$Plate" "this$0" "LHammerTowers;") ∈ lw_all := lw_g (lw_at lw_m2 140 rfl) rfl
theorem q438 : (Jvm.Cond.soleField "HammerTowers$Plate" "this$0") ∈ lw_all := lw_g (lw_at lw_m2 141 rfl) rfl
theorem q439 : (Jvm.Cond.laysFinal "HammerTowers$Plate" "HammerTowers$Train" "number" "I") ∈ lw_all := lw_g (lw_at lw_m2 142 rfl) rfl
theorem q440 : (Jvm.Cond.lays "HammerTowers$Plate" "HammerTowers$Train" "pace" "I") ∈ lw_all := lw_g (lw_at lw_m2 143 rfl) rfl
theorem q441 : (Jvm.Cond.lays "HammerTowers$Plate" "HammerTowers$Train" "fall" "I") ∈ lw_all := lw_g (lw_at lw_m2 144 rfl) rfl
theorem q442 : (Jvm.Cond.lays "HammerTowers$Plate" "HammerTowers$Train" "weight" "I") ∈ lw_all := lw_g (lw_at lw_m2 145 rfl) rfl
theorem q443 : (Jvm.Cond.lays "HammerTowers$Plate" "HammerTowers$Train" "broken" "I") ∈ lw_all := lw_g (lw_at lw_m2 146 rfl) rfl
theorem q444 : (Jvm.Cond.lays "HammerTowers$Plate" "HammerTowers$Train" "due" "I") ∈ lw_all := lw_g (lw_at lw_m2 147 rfl) rfl
theorem q445 : (Jvm.Cond.lays "HammerTowers$Plate" "HammerTowers$Train" "ever" "I") ∈ lw_all := lw_g (lw_at lw_m2 148 rfl) rfl
theorem q446 : (Jvm.Cond.lays "HammerTowers$Plate" "HammerTowers$Train" "place" "I") ∈ lw_all := lw_g (lw_at lw_m2 149 rfl) rfl
theorem q447 : (Jvm.Cond.lays "HammerTowers$Plate" "HammerTowers$Train" "isWarned" "Z") ∈ lw_all := lw_g (lw_at lw_m2 150 rfl) rfl
theorem q448 : (Jvm.Cond.lays "HammerTowers$Plate" "HammerTowers$Train" "lifts" "Z") ∈ lw_all := lw_g (lw_at lw_m2 151 rfl) rfl
theorem q449 : (Jvm.Cond.laysFinal "HammerTowers$Plate" "HammerTowers$Train" "this$0" "LHammerTowers;") ∈ lw_all := lw_g (lw_at lw_m2 152 rfl) rfl
theorem q450 : (Jvm.Cond.superclass "HammerTowers$Plate" "HammerTowers$Train") ∈ lw_all := lw_g (lw_at lw_m2 153 rfl) rfl
theorem q546 : (Jvm.Cond.instanceMethod ({ cls := "HammerTowers$Plate", name := "kind", desc := "()I" } : Jvm.MethodName)) ∈ lw_all := lw_g (lw_at lw_m3 9 rfl) rfl
theorem q547 : (Jvm.Cond.code ({ cls := "HammerTowers$Plate", name := "kind", desc := "()I" } : Jvm.MethodName) prog_3_method_2_code (1 : Nat) (Option.some Jvm.ClassFile.FieldType.int)) ∈ lw_all := lw_g (lw_at lw_m3 10 rfl) rfl
theorem q548 : (Jvm.Cond.methodLink "HammerTowers$Plate" (17 : Nat) ({ cls := "HammerTowers$Train", name := "kind", desc := "()I" } : Jvm.MethodName)) ∈ lw_all := lw_g (lw_at lw_m3 11 rfl) rfl
theorem q549 : (Jvm.Cond.selects "HammerTowers$Plate" ({ cls := "HammerTowers$Train", name := "kind", desc := "()I" } : Jvm.MethodName) ({ cls := "HammerTowers$Plate", name := "kind", desc := "()I" } : Jvm.MethodName)) ∈ lw_all := lw_g (lw_at lw_m3 12 rfl) rfl
theorem q559 : (Jvm.Cond.instanceMethod ({ cls := "HammerTowers$Plate", name := "many", desc := "()I" } : Jvm.MethodName)) ∈ lw_all := lw_g (lw_at lw_m3 22 rfl) rfl
theorem q560 : (Jvm.Cond.code ({ cls := "HammerTowers$Plate", name := "many", desc := "()I" } : Jvm.MethodName) prog_3_method_4_code (1 : Nat) (Option.some Jvm.ClassFile.FieldType.int)) ∈ lw_all := lw_g (lw_at lw_m3 23 rfl) rfl
theorem q561 : (Jvm.Cond.selects "HammerTowers$Plate" ({ cls := "HammerTowers$Train", name := "many", desc := "()I" } : Jvm.MethodName) ({ cls := "HammerTowers$Plate", name := "many", desc := "()I" } : Jvm.MethodName)) ∈ lw_all := lw_g (lw_at lw_m3 24 rfl) rfl
theorem q571 : (Jvm.Cond.instanceMethod ({ cls := "HammerTowers$Plate", name := "at", desc := "()I" } : Jvm.MethodName)) ∈ lw_all := lw_g (lw_at lw_m3 34 rfl) rfl
theorem q572 : (Jvm.Cond.code ({ cls := "HammerTowers$Plate", name := "at", desc := "()I" } : Jvm.MethodName) prog_3_method_7_code (1 : Nat) (Option.some Jvm.ClassFile.FieldType.int)) ∈ lw_all := lw_g (lw_at lw_m3 35 rfl) rfl
theorem q573 : (Jvm.Cond.selects "HammerTowers$Plate" ({ cls := "HammerTowers$Train", name := "at", desc := "()I" } : Jvm.MethodName) ({ cls := "HammerTowers$Plate", name := "at", desc := "()I" } : Jvm.MethodName)) ∈ lw_all := lw_g (lw_at lw_m3 36 rfl) rfl
theorem q599 : (Jvm.Cond.instanceMethod ({ cls := "HammerTowers$Plate", name := "mark", desc := "()I" } : Jvm.MethodName)) ∈ lw_all := lw_g (lw_at lw_m3 62 rfl) rfl
theorem q600 : (Jvm.Cond.code ({ cls := "HammerTowers$Plate", name := "mark", desc := "()I" } : Jvm.MethodName) prog_3_method_3_code (3 : Nat) (Option.some Jvm.ClassFile.FieldType.int)) ∈ lw_all := lw_g (lw_at lw_m3 63 rfl) rfl
theorem q621 : (Jvm.Cond.instanceMethod ({ cls := "HammerTowers$Plate", name := "notch", desc := "(I)I" } : Jvm.MethodName)) ∈ lw_all := lw_g (lw_at lw_m3 84 rfl) rfl
theorem q622 : (Jvm.Cond.code ({ cls := "HammerTowers$Plate", name := "notch", desc := "(I)I" } : Jvm.MethodName) prog_3_method_5_code (2 : Nat) (Option.some Jvm.ClassFile.FieldType.int)) ∈ lw_all := lw_g (lw_at lw_m3 85 rfl) rfl
theorem q623 : (Jvm.Cond.selects "HammerTowers$Plate" ({ cls := "HammerTowers$Train", name := "notch", desc := "(I)I" } : Jvm.MethodName) ({ cls := "HammerTowers$Plate", name := "notch", desc := "(I)I" } : Jvm.MethodName)) ∈ lw_all := lw_g (lw_at lw_m3 86 rfl) rfl
theorem q637 : (Jvm.Cond.instanceMethod ({ cls := "HammerTowers$Plate", name := "cut", desc := "(II)V" } : Jvm.MethodName)) ∈ lw_all := lw_g (lw_at lw_m3 100 rfl) rfl
theorem q638 : (Jvm.Cond.code ({ cls := "HammerTowers$Plate", name := "cut", desc := "(II)V" } : Jvm.MethodName) prog_3_method_6_code (3 : Nat) (Option.none : Option Jvm.ClassFile.FieldType)) ∈ lw_all := lw_g (lw_at lw_m3 101 rfl) rfl
theorem q639 : (Jvm.Cond.selects "HammerTowers$Plate" ({ cls := "HammerTowers$Train", name := "cut", desc := "(II)V" } : Jvm.MethodName) ({ cls := "HammerTowers$Plate", name := "cut", desc := "(II)V" } : Jvm.MethodName)) ∈ lw_all := lw_g (lw_at lw_m3 102 rfl) rfl
theorem q806 : (Jvm.Cond.instanceMethod ({ cls := "HammerTowers$Plate", name := "letOff", desc := "(IZ)V" } : Jvm.MethodName)) ∈ lw_all := lw_g (lw_at lw_m4 29 rfl) rfl
theorem q807 : (Jvm.Cond.code ({ cls := "HammerTowers$Plate", name := "letOff", desc := "(IZ)V" } : Jvm.MethodName) prog_3_method_9_code (3 : Nat) (Option.none : Option Jvm.ClassFile.FieldType)) ∈ lw_all := lw_g (lw_at lw_m4 30 rfl) rfl
theorem q808 : (Jvm.Cond.selects "HammerTowers$Plate" ({ cls := "HammerTowers$Train", name := "letOff", desc := "(IZ)V" } : Jvm.MethodName) ({ cls := "HammerTowers$Plate", name := "letOff", desc := "(IZ)V" } : Jvm.MethodName)) ∈ lw_all := lw_g (lw_at lw_m4 31 rfl) rfl
theorem q860 : (Jvm.Cond.castable "HammerTowers$Plate" "HammerTowers$Struck") ∈ lw_tbl := lw_at lw_m4 83 rfl
theorem q861 : (Jvm.Cond.unhidden "HammerTowers$Plate" "hammers" "()I") ∈ lw_tbl := lw_at lw_m4 84 rfl
theorem q878 : (Jvm.Cond.unhidden "HammerTowers$Plate" "struck" "()V") ∈ lw_tbl := lw_at lw_m4 101 rfl
theorem q1088 : (Jvm.Cond.instanceMethod ({ cls := "HammerTowers$Plate", name := "lets", desc := "(II)I" } : Jvm.MethodName)) ∈ lw_all := lw_g (lw_at lw_m5 71 rfl) rfl
theorem q1089 : (Jvm.Cond.code ({ cls := "HammerTowers$Plate", name := "lets", desc := "(II)I" } : Jvm.MethodName) prog_3_method_8_code (3 : Nat) (Option.some Jvm.ClassFile.FieldType.int)) ∈ lw_all := lw_g (lw_at lw_m5 72 rfl) rfl
theorem q1090 : (Jvm.Cond.selects "HammerTowers$Plate" ({ cls := "HammerTowers$Train", name := "lets", desc := "(II)I" } : Jvm.MethodName) ({ cls := "HammerTowers$Plate", name := "lets", desc := "(II)I" } : Jvm.MethodName)) ∈ lw_all := lw_g (lw_at lw_m5 73 rfl) rfl
theorem q1718 : (Jvm.Cond.sameMethod "HammerTowers$Plate" "HammerTowers$Plate" "kind" "()I") ∈ lw_all := lw_g (lw_at lw_m7 221 rfl) rfl
theorem q1719 : (Jvm.Cond.sameMethod "HammerTowers$Plate" "HammerTowers$Plate" "mark" "()I") ∈ lw_all := lw_g (lw_at lw_m7 222 rfl) rfl
theorem q1721 : (Jvm.Cond.selects "HammerTowers$Plate" ({ cls := "HammerTowers$Plate", name := "mark", desc := "()I" } : Jvm.MethodName) ({ cls := "HammerTowers$Plate", name := "mark", desc := "()I" } : Jvm.MethodName)) ∈ lw_all := lw_g (lw_at lw_m7 224 rfl) rfl
theorem q1723 : (Jvm.Cond.sameMethod "HammerTowers$Plate" "HammerTowers$Plate" "many" "()I") ∈ lw_all := lw_g (lw_at lw_m7 226 rfl) rfl
theorem q1725 : (Jvm.Cond.selects "HammerTowers$Plate" ({ cls := "HammerTowers$Plate", name := "many", desc := "()I" } : Jvm.MethodName) ({ cls := "HammerTowers$Plate", name := "many", desc := "()I" } : Jvm.MethodName)) ∈ lw_all := lw_g (lw_at lw_m7 228 rfl) rfl
theorem q1726 : (Jvm.Cond.sameMethod "HammerTowers$Plate" "HammerTowers$Plate" "notch" "(I)I") ∈ lw_all := lw_g (lw_at lw_m7 229 rfl) rfl
theorem q1728 : (Jvm.Cond.selects "HammerTowers$Plate" ({ cls := "HammerTowers$Plate", name := "notch", desc := "(I)I" } : Jvm.MethodName) ({ cls := "HammerTowers$Plate", name := "notch", desc := "(I)I" } : Jvm.MethodName)) ∈ lw_all := lw_g (lw_at lw_m7 231 rfl) rfl
theorem q1731 : (Jvm.Cond.castable "HammerTowers$Plate" "HammerTowers$Train") ∈ lw_tbl := lw_at lw_m7 234 rfl
theorem in_X3 : ∀ w ∈ wsX30, w ∈ lw_all := lw_in wsX30 [439, 440, 441, 442, 443, 444, 445, 446, 447, 448, 449, 433, 435, 437] (by decide +kernel) (by decide +kernel)
theorem q71 : (Jvm.Cond.initialized "HammerTowers$Snail") ∈ lw_all := lw_g (lw_at lw_m1 14 rfl) rfl
theorem q368 : (Jvm.Cond.fieldLink "HammerTowers$Snail" (23 : Nat) "HammerTowers$Snail" "due" "I") ∈ lw_all := lw_g (lw_at lw_m2 71 rfl) rfl
theorem q369 : (Jvm.Cond.sameField "HammerTowers$Snail" "HammerTowers$Train" "due" "I") ∈ lw_all := lw_g (lw_at lw_m2 72 rfl) rfl
theorem q381 : (Jvm.Cond.fieldLink "HammerTowers$Snail" (27 : Nat) "HammerTowers$Snail" "lifts" "Z") ∈ lw_all := lw_g (lw_at lw_m2 84 rfl) rfl
theorem q382 : (Jvm.Cond.sameField "HammerTowers$Snail" "HammerTowers$Train" "lifts" "Z") ∈ lw_all := lw_g (lw_at lw_m2 85 rfl) rfl
theorem q456 : (Jvm.Cond.instantiable "HammerTowers$Snail" (13 : Nat)) ∈ lw_all := lw_g (lw_at lw_m2 159 rfl) rfl
theorem q458 : (Jvm.Cond.instanceMethod ({ cls := "HammerTowers$Snail", name := "<init>", desc := "(LHammerTowers;I[I)V" } : Jvm.MethodName)) ∈ lw_all := lw_g (lw_at lw_m2 161 rfl) rfl
theorem q459 : (Jvm.Cond.code ({ cls := "HammerTowers$Snail", name := "<init>", desc := "(LHammerTowers;I[I)V" } : Jvm.MethodName) prog_4_method_1_code (4 : Nat) (Option.none : Option Jvm.ClassFile.FieldType)) ∈ lw_all := lw_g (lw_at lw_m2 162 rfl) rfl
theorem q460 : (Jvm.Cond.methodLink "HammerTowers$Snail" (7 : Nat) ({ cls := "HammerTowers$Train", name := "<init>", desc := "(LHammerTowers;I)V" } : Jvm.MethodName)) ∈ lw_all := lw_g (lw_at lw_m2 163 rfl) rfl
theorem q461 : (Jvm.Cond.fieldLink "HammerTowers$Snail" (13 : Nat) "HammerTowers$Snail" "steps" "[I") ∈ lw_all := lw_g (lw_at lw_m2 164 rfl) rfl
theorem q462 : (Jvm.Cond.fieldLink "HammerTowers$Snail" (1 : Nat) "HammerTowers$Snail" "this$0" "LHammerTowers;") ∈ lw_all := lw_g (lw_at lw_m2 165 rfl) rfl
theorem q463 : (Jvm.Cond.laysFinal "HammerTowers$Snail" "HammerTowers$Snail" "steps" "[I") ∈ lw_all := lw_g (lw_at lw_m2 166 rfl) rfl
theorem q464 : (Jvm.Cond.soleField "HammerTowers$Snail" "steps") ∈ lw_all := lw_g (lw_at lw_m2 167 rfl) rfl
theorem q465 : (Jvm.Cond.laysFinal "HammerTowers$Snail" "HammerTowers$Snail" "this$0" "LHammerTowers;") ∈ lw_all := lw_g (lw_at lw_m2 168 rfl) rfl
theorem q466 : (Jvm.Cond.soleField "HammerTowers$Snail" "this$0") ∈ lw_all := lw_g (lw_at lw_m2 169 rfl) rfl
theorem q467 : (Jvm.Cond.laysFinal "HammerTowers$Snail" "HammerTowers$Train" "number" "I") ∈ lw_all := lw_g (lw_at lw_m2 170 rfl) rfl
theorem q468 : (Jvm.Cond.lays "HammerTowers$Snail" "HammerTowers$Train" "pace" "I") ∈ lw_all := lw_g (lw_at lw_m2 171 rfl) rfl
theorem q469 : (Jvm.Cond.lays "HammerTowers$Snail" "HammerTowers$Train" "fall" "I") ∈ lw_all := lw_g (lw_at lw_m2 172 rfl) rfl
theorem q470 : (Jvm.Cond.lays "HammerTowers$Snail" "HammerTowers$Train" "weight" "I") ∈ lw_all := lw_g (lw_at lw_m2 173 rfl) rfl
theorem q471 : (Jvm.Cond.lays "HammerTowers$Snail" "HammerTowers$Train" "broken" "I") ∈ lw_all := lw_g (lw_at lw_m2 174 rfl) rfl
theorem q472 : (Jvm.Cond.lays "HammerTowers$Snail" "HammerTowers$Train" "due" "I") ∈ lw_all := lw_g (lw_at lw_m2 175 rfl) rfl
theorem q473 : (Jvm.Cond.lays "HammerTowers$Snail" "HammerTowers$Train" "ever" "I") ∈ lw_all := lw_g (lw_at lw_m2 176 rfl) rfl
theorem q474 : (Jvm.Cond.lays "HammerTowers$Snail" "HammerTowers$Train" "place" "I") ∈ lw_all := lw_g (lw_at lw_m2 177 rfl) rfl
theorem q475 : (Jvm.Cond.lays "HammerTowers$Snail" "HammerTowers$Train" "isWarned" "Z") ∈ lw_all := lw_g (lw_at lw_m2 178 rfl) rfl
theorem q476 : (Jvm.Cond.lays "HammerTowers$Snail" "HammerTowers$Train" "lifts" "Z") ∈ lw_all := lw_g (lw_at lw_m2 179 rfl) rfl
theorem q477 : (Jvm.Cond.laysFinal "HammerTowers$Snail" "HammerTowers$Train" "this$0" "LHammerTowers;") ∈ lw_all := lw_g (lw_at lw_m2 180 rfl) rfl
theorem q478 : (Jvm.Cond.superclass "HammerTowers$Snail" "HammerTowers$Train") ∈ lw_all := lw_g (lw_at lw_m2 181 rfl) rfl
theorem q550 : (Jvm.Cond.selects "HammerTowers$Snail" ({ cls := "HammerTowers$Train", name := "kind", desc := "()I" } : Jvm.MethodName) ({ cls := "HammerTowers$Snail", name := "kind", desc := "()I" } : Jvm.MethodName)) ∈ lw_all := lw_g (lw_at lw_m3 13 rfl) rfl
theorem q551 : (Jvm.Cond.instanceMethod ({ cls := "HammerTowers$Snail", name := "kind", desc := "()I" } : Jvm.MethodName)) ∈ lw_all := lw_g (lw_at lw_m3 14 rfl) rfl
theorem q552 : (Jvm.Cond.code ({ cls := "HammerTowers$Snail", name := "kind", desc := "()I" } : Jvm.MethodName) prog_4_method_2_code (1 : Nat) (Option.some Jvm.ClassFile.FieldType.int)) ∈ lw_all := lw_g (lw_at lw_m3 15 rfl) rfl
theorem q562 : (Jvm.Cond.selects "HammerTowers$Snail" ({ cls := "HammerTowers$Train", name := "many", desc := "()I" } : Jvm.MethodName) ({ cls := "HammerTowers$Snail", name := "many", desc := "()I" } : Jvm.MethodName)) ∈ lw_all := lw_g (lw_at lw_m3 25 rfl) rfl
theorem q563 : (Jvm.Cond.instanceMethod ({ cls := "HammerTowers$Snail", name := "many", desc := "()I" } : Jvm.MethodName)) ∈ lw_all := lw_g (lw_at lw_m3 26 rfl) rfl
theorem q564 : (Jvm.Cond.code ({ cls := "HammerTowers$Snail", name := "many", desc := "()I" } : Jvm.MethodName) prog_4_method_4_code (1 : Nat) (Option.some Jvm.ClassFile.FieldType.int)) ∈ lw_all := lw_g (lw_at lw_m3 27 rfl) rfl
theorem q574 : (Jvm.Cond.selects "HammerTowers$Snail" ({ cls := "HammerTowers$Train", name := "at", desc := "()I" } : Jvm.MethodName) ({ cls := "HammerTowers$Train", name := "at", desc := "()I" } : Jvm.MethodName)) ∈ lw_all := lw_g (lw_at lw_m3 37 rfl) rfl
theorem q605 : (Jvm.Cond.instanceMethod ({ cls := "HammerTowers$Snail", name := "mark", desc := "()I" } : Jvm.MethodName)) ∈ lw_all := lw_g (lw_at lw_m3 68 rfl) rfl
theorem q606 : (Jvm.Cond.selects "HammerTowers$Snail" ({ cls := "HammerTowers$Snail", name := "mark", desc := "()I" } : Jvm.MethodName) ({ cls := "HammerTowers$Snail", name := "mark", desc := "()I" } : Jvm.MethodName)) ∈ lw_all := lw_g (lw_at lw_m3 69 rfl) rfl
theorem q607 : (Jvm.Cond.code ({ cls := "HammerTowers$Snail", name := "mark", desc := "()I" } : Jvm.MethodName) prog_4_method_3_code (3 : Nat) (Option.some Jvm.ClassFile.FieldType.int)) ∈ lw_all := lw_g (lw_at lw_m3 70 rfl) rfl
theorem q608 : (Jvm.Cond.methodLink "HammerTowers$Snail" (17 : Nat) ({ cls := "java/lang/Math", name := "max", desc := "(II)I" } : Jvm.MethodName)) ∈ lw_all := lw_g (lw_at lw_m3 71 rfl) rfl
theorem q624 : (Jvm.Cond.selects "HammerTowers$Snail" ({ cls := "HammerTowers$Train", name := "notch", desc := "(I)I" } : Jvm.MethodName) ({ cls := "HammerTowers$Snail", name := "notch", desc := "(I)I" } : Jvm.MethodName)) ∈ lw_all := lw_g (lw_at lw_m3 87 rfl) rfl
theorem q625 : (Jvm.Cond.instanceMethod ({ cls := "HammerTowers$Snail", name := "notch", desc := "(I)I" } : Jvm.MethodName)) ∈ lw_all := lw_g (lw_at lw_m3 88 rfl) rfl
theorem q626 : (Jvm.Cond.code ({ cls := "HammerTowers$Snail", name := "notch", desc := "(I)I" } : Jvm.MethodName) prog_4_method_5_code (2 : Nat) (Option.some Jvm.ClassFile.FieldType.int)) ∈ lw_all := lw_g (lw_at lw_m3 89 rfl) rfl
theorem q640 : (Jvm.Cond.selects "HammerTowers$Snail" ({ cls := "HammerTowers$Train", name := "cut", desc := "(II)V" } : Jvm.MethodName) ({ cls := "HammerTowers$Snail", name := "cut", desc := "(II)V" } : Jvm.MethodName)) ∈ lw_all := lw_g (lw_at lw_m3 103 rfl) rfl
theorem q641 : (Jvm.Cond.instanceMethod ({ cls := "HammerTowers$Snail", name := "cut", desc := "(II)V" } : Jvm.MethodName)) ∈ lw_all := lw_g (lw_at lw_m3 104 rfl) rfl
theorem q642 : (Jvm.Cond.code ({ cls := "HammerTowers$Snail", name := "cut", desc := "(II)V" } : Jvm.MethodName) prog_4_method_6_code (3 : Nat) (Option.none : Option Jvm.ClassFile.FieldType)) ∈ lw_all := lw_g (lw_at lw_m3 105 rfl) rfl
theorem q809 : (Jvm.Cond.selects "HammerTowers$Snail" ({ cls := "HammerTowers$Train", name := "letOff", desc := "(IZ)V" } : Jvm.MethodName) ({ cls := "HammerTowers$Snail", name := "letOff", desc := "(IZ)V" } : Jvm.MethodName)) ∈ lw_all := lw_g (lw_at lw_m4 32 rfl) rfl
theorem q810 : (Jvm.Cond.instanceMethod ({ cls := "HammerTowers$Snail", name := "letOff", desc := "(IZ)V" } : Jvm.MethodName)) ∈ lw_all := lw_g (lw_at lw_m4 33 rfl) rfl
theorem q811 : (Jvm.Cond.code ({ cls := "HammerTowers$Snail", name := "letOff", desc := "(IZ)V" } : Jvm.MethodName) prog_4_method_8_code (3 : Nat) (Option.none : Option Jvm.ClassFile.FieldType)) ∈ lw_all := lw_g (lw_at lw_m4 34 rfl) rfl
theorem q865 : (Jvm.Cond.castable "HammerTowers$Snail" "HammerTowers$Struck") ∈ lw_tbl := lw_at lw_m4 88 rfl
theorem q866 : (Jvm.Cond.unhidden "HammerTowers$Snail" "hammers" "()I") ∈ lw_tbl := lw_at lw_m4 89 rfl
theorem q882 : (Jvm.Cond.unhidden "HammerTowers$Snail" "struck" "()V") ∈ lw_tbl := lw_at lw_m4 105 rfl
theorem q1091 : (Jvm.Cond.selects "HammerTowers$Snail" ({ cls := "HammerTowers$Train", name := "lets", desc := "(II)I" } : Jvm.MethodName) ({ cls := "HammerTowers$Snail", name := "lets", desc := "(II)I" } : Jvm.MethodName)) ∈ lw_all := lw_g (lw_at lw_m5 74 rfl) rfl
theorem q1092 : (Jvm.Cond.instanceMethod ({ cls := "HammerTowers$Snail", name := "lets", desc := "(II)I" } : Jvm.MethodName)) ∈ lw_all := lw_g (lw_at lw_m5 75 rfl) rfl
theorem q1093 : (Jvm.Cond.code ({ cls := "HammerTowers$Snail", name := "lets", desc := "(II)I" } : Jvm.MethodName) prog_4_method_7_code (3 : Nat) (Option.some Jvm.ClassFile.FieldType.int)) ∈ lw_all := lw_g (lw_at lw_m5 76 rfl) rfl
theorem q1732 : (Jvm.Cond.castable "HammerTowers$Snail" "HammerTowers$Train") ∈ lw_tbl := lw_at lw_m7 235 rfl
theorem in_X4 : ∀ w ∈ wsX40, w ∈ lw_all := lw_in wsX40 [467, 468, 469, 470, 471, 472, 473, 474, 475, 476, 477, 463, 465] (by decide +kernel) (by decide +kernel)
theorem q72 : (Jvm.Cond.initialized "HammerTowers$Barrel") ∈ lw_all := lw_g (lw_at lw_m1 15 rfl) rfl
theorem q484 : (Jvm.Cond.instantiable "HammerTowers$Barrel" (17 : Nat)) ∈ lw_all := lw_g (lw_at lw_m2 187 rfl) rfl
theorem q486 : (Jvm.Cond.instanceMethod ({ cls := "HammerTowers$Barrel", name := "<init>", desc := "(LHammerTowers;I[I[I)V" } : Jvm.MethodName)) ∈ lw_all := lw_g (lw_at lw_m2 189 rfl) rfl
theorem q487 : (Jvm.Cond.code ({ cls := "HammerTowers$Barrel", name := "<init>", desc := "(LHammerTowers;I[I[I)V" } : Jvm.MethodName) prog_2_method_1_code (5 : Nat) (Option.none : Option Jvm.ClassFile.FieldType)) ∈ lw_all := lw_g (lw_at lw_m2 190 rfl) rfl
theorem q488 : (Jvm.Cond.methodLink "HammerTowers$Barrel" (7 : Nat) ({ cls := "HammerTowers$Plate", name := "<init>", desc := "(LHammerTowers;I[I)V" } : Jvm.MethodName)) ∈ lw_all := lw_g (lw_at lw_m2 191 rfl) rfl
theorem q489 : (Jvm.Cond.fieldLink "HammerTowers$Barrel" (13 : Nat) "HammerTowers$Barrel" "pins" "[I") ∈ lw_all := lw_g (lw_at lw_m2 192 rfl) rfl
theorem q491 : (Jvm.Cond.fieldLink "HammerTowers$Barrel" (21 : Nat) "HammerTowers$Barrel" "pin" "I") ∈ lw_all := lw_g (lw_at lw_m2 194 rfl) rfl
theorem q492 : (Jvm.Cond.fieldLink "HammerTowers$Barrel" (1 : Nat) "HammerTowers$Barrel" "this$0" "LHammerTowers;") ∈ lw_all := lw_g (lw_at lw_m2 195 rfl) rfl
theorem q493 : (Jvm.Cond.laysFinal "HammerTowers$Barrel" "HammerTowers$Barrel" "pins" "[I") ∈ lw_all := lw_g (lw_at lw_m2 196 rfl) rfl
theorem q494 : (Jvm.Cond.soleField "HammerTowers$Barrel" "pins") ∈ lw_all := lw_g (lw_at lw_m2 197 rfl) rfl
theorem q495 : (Jvm.Cond.lays "HammerTowers$Barrel" "HammerTowers$Barrel" "pin" "I") ∈ lw_all := lw_g (lw_at lw_m2 198 rfl) rfl
theorem q496 : (Jvm.Cond.soleField "HammerTowers$Barrel" "pin") ∈ lw_all := lw_g (lw_at lw_m2 199 rfl) rfl
theorem q497 : (Jvm.Cond.laysFinal "HammerTowers$Barrel" "HammerTowers$Barrel" "this$0" "LHammerTowers;") ∈ lw_all := lw_g (lw_at lw_m2 200 rfl) rfl
theorem q498 : (Jvm.Cond.soleField "HammerTowers$Barrel" "this$0") ∈ lw_all := lw_g (lw_at lw_m2 201 rfl) rfl
theorem q499 : (Jvm.Cond.laysFinal "HammerTowers$Barrel" "HammerTowers$Plate" "notches" "[I") ∈ lw_all := lw_g (lw_at lw_m2 202 rfl) rfl
theorem q500 : (Jvm.Cond.lays "HammerTowers$Barrel" "HammerTowers$Plate" "at" "I") ∈ lw_all := lw_g (lw_at lw_m2 203 rfl) rfl
theorem q501 : (Jvm.Cond.laysFinal "HammerTowers$Barrel" "HammerTowers$Plate" "this$0" "LHammerTowers;") ∈ lw_all := lw_g (lw_at lw_m2 204 rfl) rfl
theorem q502 : (Jvm.Cond.laysFinal "HammerTowers$Barrel" "HammerTowers$Train" "number" "I") ∈ lw_all := lw_g (lw_at lw_m2 205 rfl) rfl
theorem q503 : (Jvm.Cond.lays "HammerTowers$Barrel" "HammerTowers$Train" "pace" "I") ∈ lw_all := lw_g (lw_at lw_m2 206 rfl) rfl
theorem q504 : (Jvm.Cond.lays "HammerTowers$Barrel" "HammerTowers$Train" "fall" "I") ∈ lw_all := lw_g (lw_at lw_m2 207 rfl) rfl
theorem q505 : (Jvm.Cond.lays "HammerTowers$Barrel" "HammerTowers$Train" "weight" "I") ∈ lw_all := lw_g (lw_at lw_m2 208 rfl) rfl
theorem q506 : (Jvm.Cond.lays "HammerTowers$Barrel" "HammerTowers$Train" "broken" "I") ∈ lw_all := lw_g (lw_at lw_m2 209 rfl) rfl
theorem q507 : (Jvm.Cond.lays "HammerTowers$Barrel" "HammerTowers$Train" "due" "I") ∈ lw_all := lw_g (lw_at lw_m2 210 rfl) rfl
theorem q508 : (Jvm.Cond.lays "HammerTowers$Barrel" "HammerTowers$Train" "ever" "I") ∈ lw_all := lw_g (lw_at lw_m2 211 rfl) rfl
theorem q509 : (Jvm.Cond.lays "HammerTowers$Barrel" "HammerTowers$Train" "place" "I") ∈ lw_all := lw_g (lw_at lw_m2 212 rfl) rfl
theorem q510 : (Jvm.Cond.lays "HammerTowers$Barrel" "HammerTowers$Train" "isWarned" "Z") ∈ lw_all := lw_g (lw_at lw_m2 213 rfl) rfl
theorem q511 : (Jvm.Cond.lays "HammerTowers$Barrel" "HammerTowers$Train" "lifts" "Z") ∈ lw_all := lw_g (lw_at lw_m2 214 rfl) rfl
theorem q512 : (Jvm.Cond.laysFinal "HammerTowers$Barrel" "HammerTowers$Train" "this$0" "LHammerTowers;") ∈ lw_all := lw_g (lw_at lw_m2 215 rfl) rfl
theorem q513 : (Jvm.Cond.superclass "HammerTowers$Barrel" "HammerTowers$Plate") ∈ lw_all := lw_g (lw_at lw_m2 216 rfl) rfl
theorem q542 : (Jvm.Cond.selects "HammerTowers$Barrel" ({ cls := "HammerTowers$Train", name := "kind", desc := "()I" } : Jvm.MethodName) ({ cls := "HammerTowers$Barrel", name := "kind", desc := "()I" } : Jvm.MethodName)) ∈ lw_all := lw_g (lw_at lw_m3 5 rfl) rfl
theorem q543 : (Jvm.Cond.instanceMethod ({ cls := "HammerTowers$Barrel", name := "kind", desc := "()I" } : Jvm.MethodName)) ∈ lw_all := lw_g (lw_at lw_m3 6 rfl) rfl
theorem q544 : (Jvm.Cond.code ({ cls := "HammerTowers$Barrel", name := "kind", desc := "()I" } : Jvm.MethodName) prog_2_method_2_code (1 : Nat) (Option.some Jvm.ClassFile.FieldType.int)) ∈ lw_all := lw_g (lw_at lw_m3 7 rfl) rfl
theorem q545 : (Jvm.Cond.methodLink "HammerTowers$Barrel" (17 : Nat) ({ cls := "HammerTowers$Plate", name := "kind", desc := "()I" } : Jvm.MethodName)) ∈ lw_all := lw_g (lw_at lw_m3 8 rfl) rfl
theorem q558 : (Jvm.Cond.selects "HammerTowers$Barrel" ({ cls := "HammerTowers$Train", name := "many", desc := "()I" } : Jvm.MethodName) ({ cls := "HammerTowers$Plate", name := "many", desc := "()I" } : Jvm.MethodName)) ∈ lw_all := lw_g (lw_at lw_m3 21 rfl) rfl
theorem q570 : (Jvm.Cond.selects "HammerTowers$Barrel" ({ cls := "HammerTowers$Train", name := "at", desc := "()I" } : Jvm.MethodName) ({ cls := "HammerTowers$Plate", name := "at", desc := "()I" } : Jvm.MethodName)) ∈ lw_all := lw_g (lw_at lw_m3 33 rfl) rfl
theorem q595 : (Jvm.Cond.instanceMethod ({ cls := "HammerTowers$Barrel", name := "asPlate", desc := "()I" } : Jvm.MethodName)) ∈ lw_all := lw_g (lw_at lw_m3 58 rfl) rfl
theorem q596 : (Jvm.Cond.selects "HammerTowers$Barrel" ({ cls := "HammerTowers$Barrel", name := "asPlate", desc := "()I" } : Jvm.MethodName) ({ cls := "HammerTowers$Barrel", name := "asPlate", desc := "()I" } : Jvm.MethodName)) ∈ lw_all := lw_g (lw_at lw_m3 59 rfl) rfl
theorem q597 : (Jvm.Cond.code ({ cls := "HammerTowers$Barrel", name := "asPlate", desc := "()I" } : Jvm.MethodName) prog_2_method_4_code (1 : Nat) (Option.some Jvm.ClassFile.FieldType.int)) ∈ lw_all := lw_g (lw_at lw_m3 60 rfl) rfl
theorem q598 : (Jvm.Cond.methodLink "HammerTowers$Barrel" (25 : Nat) ({ cls := "HammerTowers$Plate", name := "mark", desc := "()I" } : Jvm.MethodName)) ∈ lw_all := lw_g (lw_at lw_m3 61 rfl) rfl
theorem q602 : (Jvm.Cond.instanceMethod ({ cls := "HammerTowers$Barrel", name := "mark", desc := "()I" } : Jvm.MethodName)) ∈ lw_all := lw_g (lw_at lw_m3 65 rfl) rfl
theorem q603 : (Jvm.Cond.code ({ cls := "HammerTowers$Barrel", name := "mark", desc := "()I" } : Jvm.MethodName) prog_2_method_3_code (1 : Nat) (Option.some Jvm.ClassFile.FieldType.int)) ∈ lw_all := lw_g (lw_at lw_m3 66 rfl) rfl
theorem q620 : (Jvm.Cond.selects "HammerTowers$Barrel" ({ cls := "HammerTowers$Train", name := "notch", desc := "(I)I" } : Jvm.MethodName) ({ cls := "HammerTowers$Plate", name := "notch", desc := "(I)I" } : Jvm.MethodName)) ∈ lw_all := lw_g (lw_at lw_m3 83 rfl) rfl
theorem q636 : (Jvm.Cond.selects "HammerTowers$Barrel" ({ cls := "HammerTowers$Train", name := "cut", desc := "(II)V" } : Jvm.MethodName) ({ cls := "HammerTowers$Plate", name := "cut", desc := "(II)V" } : Jvm.MethodName)) ∈ lw_all := lw_g (lw_at lw_m3 99 rfl) rfl
theorem q805 : (Jvm.Cond.selects "HammerTowers$Barrel" ({ cls := "HammerTowers$Train", name := "letOff", desc := "(IZ)V" } : Jvm.MethodName) ({ cls := "HammerTowers$Plate", name := "letOff", desc := "(IZ)V" } : Jvm.MethodName)) ∈ lw_all := lw_g (lw_at lw_m4 28 rfl) rfl
theorem q854 : (Jvm.Cond.castable "HammerTowers$Barrel" "HammerTowers$Struck") ∈ lw_tbl := lw_at lw_m4 77 rfl
theorem q855 : (Jvm.Cond.selects "HammerTowers$Barrel" ({ cls := "HammerTowers$Struck", name := "hammers", desc := "()I" } : Jvm.MethodName) ({ cls := "HammerTowers$Barrel", name := "hammers", desc := "()I" } : Jvm.MethodName)) ∈ lw_all := lw_g (lw_at lw_m4 78 rfl) rfl
theorem q856 : (Jvm.Cond.unhidden "HammerTowers$Barrel" "hammers" "()I") ∈ lw_tbl := lw_at lw_m4 79 rfl
theorem q857 : (Jvm.Cond.instanceMethod ({ cls := "HammerTowers$Barrel", name := "hammers", desc := "()I" } : Jvm.MethodName)) ∈ lw_all := lw_g (lw_at lw_m4 80 rfl) rfl
theorem q858 : (Jvm.Cond.publicMethod ({ cls := "HammerTowers$Barrel", name := "hammers", desc := "()I" } : Jvm.MethodName)) ∈ lw_tbl := lw_at lw_m4 81 rfl
theorem q859 : (Jvm.Cond.code ({ cls := "HammerTowers$Barrel", name := "hammers", desc := "()I" } : Jvm.MethodName) prog_2_method_5_code (1 : Nat) (Option.some Jvm.ClassFile.FieldType.int)) ∈ lw_all := lw_g (lw_at lw_m4 82 rfl) rfl
theorem q873 : (Jvm.Cond.selects "HammerTowers$Barrel" ({ cls := "HammerTowers$Struck", name := "struck", desc := "()V" } : Jvm.MethodName) ({ cls := "HammerTowers$Barrel", name := "struck", desc := "()V" } : Jvm.MethodName)) ∈ lw_all := lw_g (lw_at lw_m4 96 rfl) rfl
theorem q874 : (Jvm.Cond.unhidden "HammerTowers$Barrel" "struck" "()V") ∈ lw_tbl := lw_at lw_m4 97 rfl
theorem q875 : (Jvm.Cond.instanceMethod ({ cls := "HammerTowers$Barrel", name := "struck", desc := "()V" } : Jvm.MethodName)) ∈ lw_all := lw_g (lw_at lw_m4 98 rfl) rfl
theorem q876 : (Jvm.Cond.publicMethod ({ cls := "HammerTowers$Barrel", name := "struck", desc := "()V" } : Jvm.MethodName)) ∈ lw_tbl := lw_at lw_m4 99 rfl
theorem q877 : (Jvm.Cond.code ({ cls := "HammerTowers$Barrel", name := "struck", desc := "()V" } : Jvm.MethodName) prog_2_method_6_code (1 : Nat) (Option.none : Option Jvm.ClassFile.FieldType)) ∈ lw_all := lw_g (lw_at lw_m4 100 rfl) rfl
theorem q1087 : (Jvm.Cond.selects "HammerTowers$Barrel" ({ cls := "HammerTowers$Train", name := "lets", desc := "(II)I" } : Jvm.MethodName) ({ cls := "HammerTowers$Plate", name := "lets", desc := "(II)I" } : Jvm.MethodName)) ∈ lw_all := lw_g (lw_at lw_m5 70 rfl) rfl
theorem q1720 : (Jvm.Cond.selects "HammerTowers$Barrel" ({ cls := "HammerTowers$Plate", name := "mark", desc := "()I" } : Jvm.MethodName) ({ cls := "HammerTowers$Barrel", name := "mark", desc := "()I" } : Jvm.MethodName)) ∈ lw_all := lw_g (lw_at lw_m7 223 rfl) rfl
theorem q1722 : (Jvm.Cond.selects "HammerTowers$Barrel" ({ cls := "HammerTowers$Barrel", name := "mark", desc := "()I" } : Jvm.MethodName) ({ cls := "HammerTowers$Barrel", name := "mark", desc := "()I" } : Jvm.MethodName)) ∈ lw_all := lw_g (lw_at lw_m7 225 rfl) rfl
theorem q1724 : (Jvm.Cond.selects "HammerTowers$Barrel" ({ cls := "HammerTowers$Plate", name := "many", desc := "()I" } : Jvm.MethodName) ({ cls := "HammerTowers$Plate", name := "many", desc := "()I" } : Jvm.MethodName)) ∈ lw_all := lw_g (lw_at lw_m7 227 rfl) rfl
theorem q1727 : (Jvm.Cond.selects "HammerTowers$Barrel" ({ cls := "HammerTowers$Plate", name := "notch", desc := "(I)I" } : Jvm.MethodName) ({ cls := "HammerTowers$Plate", name := "notch", desc := "(I)I" } : Jvm.MethodName)) ∈ lw_all := lw_g (lw_at lw_m7 230 rfl) rfl
theorem q1730 : (Jvm.Cond.castable "HammerTowers$Barrel" "HammerTowers$Plate") ∈ lw_tbl := lw_at lw_m7 233 rfl
theorem q1733 : (Jvm.Cond.castable "HammerTowers$Barrel" "HammerTowers$Train") ∈ lw_tbl := lw_at lw_m7 236 rfl
theorem in_X5 : ∀ w ∈ wsX50, w ∈ lw_all := lw_in wsX50 [502, 503, 504, 505, 506, 507, 508, 509, 510, 511, 512, 499, 500, 501, 493, 495, 497] (by decide +kernel) (by decide +kernel)
theorem q77 : (Jvm.Cond.initialized "HammerTowers$Tower") ∈ lw_all := lw_g (lw_at lw_m1 20 rfl) rfl
theorem q102 : (Jvm.Cond.fieldLinkNest "HammerTowers$Tower" (88 : Nat) "HammerTowers" "now" "I" "HammerTowers") ∈ lw_tbl := lw_at lw_m1 45 rfl
theorem q356 : (Jvm.Cond.fieldLink "HammerTowers$Tower" (111 : Nat) "HammerTowers$Train" "number" "I") ∈ lw_all := lw_g (lw_at lw_m2 59 rfl) rfl
theorem q359 : (Jvm.Cond.fieldLink "HammerTowers$Tower" (131 : Nat) "HammerTowers$Train" "pace" "I") ∈ lw_all := lw_g (lw_at lw_m2 62 rfl) rfl
theorem q364 : (Jvm.Cond.fieldLink "HammerTowers$Tower" (94 : Nat) "HammerTowers$Train" "weight" "I") ∈ lw_all := lw_g (lw_at lw_m2 67 rfl) rfl
theorem q366 : (Jvm.Cond.fieldLink "HammerTowers$Tower" (102 : Nat) "HammerTowers$Train" "broken" "I") ∈ lw_all := lw_g (lw_at lw_m2 69 rfl) rfl
theorem q373 : (Jvm.Cond.fieldLink "HammerTowers$Tower" (91 : Nat) "HammerTowers$Train" "due" "I") ∈ lw_all := lw_g (lw_at lw_m2 76 rfl) rfl
theorem q375 : (Jvm.Cond.fieldLink "HammerTowers$Tower" (108 : Nat) "HammerTowers$Train" "ever" "I") ∈ lw_all := lw_g (lw_at lw_m2 78 rfl) rfl
theorem q379 : (Jvm.Cond.fieldLink "HammerTowers$Tower" (49 : Nat) "HammerTowers$Train" "isWarned" "Z") ∈ lw_all := lw_g (lw_at lw_m2 82 rfl) rfl
theorem q386 : (Jvm.Cond.fieldLink "HammerTowers$Tower" (118 : Nat) "HammerTowers$Train" "lifts" "Z") ∈ lw_all := lw_g (lw_at lw_m2 89 rfl) rfl
theorem q689 : (Jvm.Cond.instantiable "HammerTowers$Tower" (12 : Nat)) ∈ lw_all := lw_g (lw_at lw_m3 152 rfl) rfl
theorem q691 : (Jvm.Cond.instanceMethod ({ cls := "HammerTowers$Tower", name := "<init>", desc := "(LHammerTowers;)V" } : Jvm.MethodName)) ∈ lw_all := lw_g (lw_at lw_m3 154 rfl) rfl
theorem q692 : (Jvm.Cond.code ({ cls := "HammerTowers$Tower", name := "<init>", desc := "(LHammerTowers;)V" } : Jvm.MethodName) prog_6_method_1_code (2 : Nat) (Option.none : Option Jvm.ClassFile.FieldType)) ∈ lw_all := lw_g (lw_at lw_m3 155 rfl) rfl
theorem q693 : (Jvm.Cond.methodLink "HammerTowers$Tower" (9 : Nat) ({ cls := "java/lang/Object", name := "<init>", desc := "()V" } : Jvm.MethodName)) ∈ lw_all := lw_g (lw_at lw_m3 156 rfl) rfl
theorem q694 : (Jvm.Cond.classLink "HammerTowers$Tower" (23 : Nat) "HammerTowers$Train") ∈ lw_all := lw_g (lw_at lw_m3 157 rfl) rfl
theorem q695 : (Jvm.Cond.fieldLink "HammerTowers$Tower" (33 : Nat) "HammerTowers$Tower" "hands" "I") ∈ lw_all := lw_g (lw_at lw_m3 158 rfl) rfl
theorem q697 : (Jvm.Cond.fieldLink "HammerTowers$Tower" (121 : Nat) "HammerTowers$Tower" "sum" "I") ∈ lw_all := lw_g (lw_at lw_m3 160 rfl) rfl
theorem q699 : (Jvm.Cond.fieldLink "HammerTowers$Tower" (125 : Nat) "HammerTowers$Tower" "rate" "I") ∈ lw_all := lw_g (lw_at lw_m3 162 rfl) rfl
theorem q701 : (Jvm.Cond.fieldLink "HammerTowers$Tower" (15 : Nat) "HammerTowers$Tower" "going" "I") ∈ lw_all := lw_g (lw_at lw_m3 164 rfl) rfl
theorem q703 : (Jvm.Cond.fieldLink "HammerTowers$Tower" (19 : Nat) "HammerTowers$Tower" "goes" "Z") ∈ lw_all := lw_g (lw_at lw_m3 166 rfl) rfl
theorem q705 : (Jvm.Cond.fieldLink "HammerTowers$Tower" (25 : Nat) "HammerTowers$Tower" "own" "[LHammerTowers$Train;") ∈ lw_all := lw_g (lw_at lw_m3 168 rfl) rfl
theorem q707 : (Jvm.Cond.fieldLink "HammerTowers$Tower" (36 : Nat) "HammerTowers$Tower" "from" "I") ∈ lw_all := lw_g (lw_at lw_m3 170 rfl) rfl
theorem q709 : (Jvm.Cond.fieldLink "HammerTowers$Tower" (39 : Nat) "HammerTowers$Tower" "to" "I") ∈ lw_all := lw_g (lw_at lw_m3 172 rfl) rfl
theorem q711 : (Jvm.Cond.fieldLink "HammerTowers$Tower" (46 : Nat) "HammerTowers$Tower" "sort" "I") ∈ lw_all := lw_g (lw_at lw_m3 174 rfl) rfl
theorem q713 : (Jvm.Cond.fieldLink "HammerTowers$Tower" (79 : Nat) "HammerTowers$Tower" "logMany" "I") ∈ lw_all := lw_g (lw_at lw_m3 176 rfl) rfl
theorem q715 : (Jvm.Cond.fieldLink "HammerTowers$Tower" (29 : Nat) "HammerTowers$Tower" "log" "[I") ∈ lw_all := lw_g (lw_at lw_m3 178 rfl) rfl
theorem q717 : (Jvm.Cond.fieldLink "HammerTowers$Tower" (3 : Nat) "HammerTowers$Tower" "this$0" "LHammerTowers;") ∈ lw_all := lw_g (lw_at lw_m3 180 rfl) rfl
theorem q718 : (Jvm.Cond.lays "HammerTowers$Tower" "HammerTowers$Tower" "hands" "I") ∈ lw_all := lw_g (lw_at lw_m3 181 rfl) rfl
theorem q719 : (Jvm.Cond.soleField "HammerTowers$Tower" "hands") ∈ lw_all := lw_g (lw_at lw_m3 182 rfl) rfl
theorem q720 : (Jvm.Cond.lays "HammerTowers$Tower" "HammerTowers$Tower" "sum" "I") ∈ lw_all := lw_g (lw_at lw_m3 183 rfl) rfl
theorem q721 : (Jvm.Cond.soleField "HammerTowers$Tower" "sum") ∈ lw_all := lw_g (lw_at lw_m3 184 rfl) rfl
theorem q722 : (Jvm.Cond.lays "HammerTowers$Tower" "HammerTowers$Tower" "rate" "I") ∈ lw_all := lw_g (lw_at lw_m3 185 rfl) rfl
theorem q723 : (Jvm.Cond.soleField "HammerTowers$Tower" "rate") ∈ lw_all := lw_g (lw_at lw_m3 186 rfl) rfl
theorem q724 : (Jvm.Cond.lays "HammerTowers$Tower" "HammerTowers$Tower" "going" "I") ∈ lw_all := lw_g (lw_at lw_m3 187 rfl) rfl
theorem q725 : (Jvm.Cond.soleField "HammerTowers$Tower" "going") ∈ lw_all := lw_g (lw_at lw_m3 188 rfl) rfl
theorem q726 : (Jvm.Cond.lays "HammerTowers$Tower" "HammerTowers$Tower" "goes" "Z") ∈ lw_all := lw_g (lw_at lw_m3 189 rfl) rfl
theorem q727 : (Jvm.Cond.soleField "HammerTowers$Tower" "goes") ∈ lw_all := lw_g (lw_at lw_m3 190 rfl) rfl
theorem q728 : (Jvm.Cond.laysFinal "HammerTowers$Tower" "HammerTowers$Tower" "own" "[LHammerTowers$Train;") ∈ lw_all := lw_g (lw_at lw_m3 191 rfl) rfl
theorem q729 : (Jvm.Cond.soleField "HammerTowers$Tower" "own") ∈ lw_all := lw_g (lw_at lw_m3 192 rfl) rfl
theorem q730 : (Jvm.Cond.lays "HammerTowers$Tower" "HammerTowers$Tower" "from" "I") ∈ lw_all := lw_g (lw_at lw_m3 193 rfl) rfl
theorem q731 : (Jvm.Cond.soleField "HammerTowers$Tower" "from") ∈ lw_all := lw_g (lw_at lw_m3 194 rfl) rfl
theorem q732 : (Jvm.Cond.lays "HammerTowers$Tower" "HammerTowers$Tower" "to" "I") ∈ lw_all := lw_g (lw_at lw_m3 195 rfl) rfl
theorem q733 : (Jvm.Cond.soleField "HammerTowers$Tower" "to") ∈ lw_all := lw_g (lw_at lw_m3 196 rfl) rfl
theorem q734 : (Jvm.Cond.lays "HammerTowers$Tower" "HammerTowers$Tower" "sort" "I") ∈ lw_all := lw_g (lw_at lw_m3 197 rfl) rfl
theorem q735 : (Jvm.Cond.soleField "HammerTowers$Tower" "sort") ∈ lw_all := lw_g (lw_at lw_m3 198 rfl) rfl
theorem q736 : (Jvm.Cond.lays "HammerTowers$Tower" "HammerTowers$Tower" "logMany" "I") ∈ lw_all := lw_g (lw_at lw_m3 199 rfl) rfl
theorem q737 : (Jvm.Cond.soleField "HammerTowers$Tower" "logMany") ∈ lw_all := lw_g (lw_at lw_m3 200 rfl) rfl
theorem q738 : (Jvm.Cond.laysFinal "HammerTowers$Tower" "HammerTowers$Tower" "log" "[I") ∈ lw_all := lw_g (lw_at lw_m3 201 rfl) rfl
theorem q739 : (Jvm.Cond.soleField "HammerTowers$Tower" "log") ∈ lw_all := lw_g (lw_at lw_m3 202 rfl) rfl
theorem q740 : (Jvm.Cond.laysFinal "HammerTowers$Tower" "HammerTowers$Tower" "this$0" "LHammerTowers;") ∈ lw_all := lw_g (lw_at lw_m3 203 rfl) rfl
theorem q741 : (Jvm.Cond.soleField "HammerTowers$Tower" "this$0") ∈ lw_all := lw_g (lw_at lw_m3 204 rfl) rfl
theorem q742 : (Jvm.Cond.superclass "HammerTowers$Tower" "java/lang/Object") ∈ lw_all := lw_g (lw_at lw_m3 205 rfl) rfl
theorem q771 : (Jvm.Cond.instanceMethod ({ cls := "HammerTowers$Tower", name := "forward", desc := "()V" } : Jvm.MethodName)) ∈ lw_all := lw_g (lw_at lw_m3 234 rfl) rfl
theorem q772 : (Jvm.Cond.selects "HammerTowers$Tower" ({ cls := "HammerTowers$Tower", name := "forward", desc := "()V" } : Jvm.MethodName) ({ cls := "HammerTowers$Tower", name := "forward", desc := "()V" } : Jvm.MethodName)) ∈ lw_all := lw_g (lw_at lw_m3 235 rfl) rfl
theorem q773 : (Jvm.Cond.code ({ cls := "HammerTowers$Tower", name := "forward", desc := "()V" } : Jvm.MethodName) prog_6_method_7_code (3 : Nat) (Option.none : Option Jvm.ClassFile.FieldType)) ∈ lw_all := lw_g (lw_at lw_m3 236 rfl) rfl
theorem q774 : (Jvm.Cond.methodLink "HammerTowers$Tower" (73 : Nat) ({ cls := "HammerTowers$Tower", name := "warn", desc := "(I)V" } : Jvm.MethodName)) ∈ lw_all := lw_g (lw_at lw_m3 237 rfl) rfl
theorem q775 : (Jvm.Cond.privateMethod ({ cls := "HammerTowers$Tower", name := "warn", desc := "(I)V" } : Jvm.MethodName)) ∈ lw_tbl := lw_at lw_m3 238 rfl
theorem q776 : (Jvm.Cond.instanceMethod ({ cls := "HammerTowers$Tower", name := "warn", desc := "(I)V" } : Jvm.MethodName)) ∈ lw_all := lw_g (lw_at lw_m3 239 rfl) rfl
theorem q777 : (Jvm.Cond.code ({ cls := "HammerTowers$Tower", name := "warn", desc := "(I)V" } : Jvm.MethodName) prog_6_method_3_code (2 : Nat) (Option.none : Option Jvm.ClassFile.FieldType)) ∈ lw_all := lw_g (lw_at lw_m4 0 rfl) rfl
theorem q778 : (Jvm.Cond.methodLink "HammerTowers$Tower" (76 : Nat) ({ cls := "HammerTowers$Tower", name := "letOffWarned", desc := "(I)V" } : Jvm.MethodName)) ∈ lw_all := lw_g (lw_at lw_m4 1 rfl) rfl
theorem q779 : (Jvm.Cond.privateMethod ({ cls := "HammerTowers$Tower", name := "letOffWarned", desc := "(I)V" } : Jvm.MethodName)) ∈ lw_tbl := lw_at lw_m4 2 rfl
theorem q780 : (Jvm.Cond.instanceMethod ({ cls := "HammerTowers$Tower", name := "letOffWarned", desc := "(I)V" } : Jvm.MethodName)) ∈ lw_all := lw_g (lw_at lw_m4 3 rfl) rfl
theorem q781 : (Jvm.Cond.code ({ cls := "HammerTowers$Tower", name := "letOffWarned", desc := "(I)V" } : Jvm.MethodName) prog_6_method_6_code (2 : Nat) (Option.none : Option Jvm.ClassFile.FieldType)) ∈ lw_all := lw_g (lw_at lw_m4 4 rfl) rfl
theorem q782 : (Jvm.Cond.methodLink "HammerTowers$Tower" (66 : Nat) ({ cls := "HammerTowers$Tower", name := "silence", desc := "()I" } : Jvm.MethodName)) ∈ lw_all := lw_g (lw_at lw_m4 5 rfl) rfl
theorem q783 : (Jvm.Cond.instanceMethod ({ cls := "HammerTowers$Tower", name := "silence", desc := "()I" } : Jvm.MethodName)) ∈ lw_all := lw_g (lw_at lw_m4 6 rfl) rfl
theorem q784 : (Jvm.Cond.selects "HammerTowers$Tower" ({ cls := "HammerTowers$Tower", name := "silence", desc := "()I" } : Jvm.MethodName) ({ cls := "HammerTowers$Tower", name := "silence", desc := "()I" } : Jvm.MethodName)) ∈ lw_all := lw_g (lw_at lw_m4 7 rfl) rfl
theorem q785 : (Jvm.Cond.code ({ cls := "HammerTowers$Tower", name := "silence", desc := "()I" } : Jvm.MethodName) prog_6_method_2_code (3 : Nat) (Option.some Jvm.ClassFile.FieldType.int)) ∈ lw_all := lw_g (lw_at lw_m4 8 rfl) rfl
theorem q786 : (Jvm.Cond.methodLinkNest "HammerTowers$Tower" (42 : Nat) ({ cls := "HammerTowers", name := "in", desc := "(III)Z" } : Jvm.MethodName) "HammerTowers") ∈ lw_tbl := lw_at lw_m4 9 rfl
theorem q787 : (Jvm.Cond.methodLink "HammerTowers$Tower" (70 : Nat) ({ cls := "HammerTowers$Tower", name := "letOff", desc := "(I)V" } : Jvm.MethodName)) ∈ lw_all := lw_g (lw_at lw_m4 10 rfl) rfl
theorem q788 : (Jvm.Cond.instanceMethod ({ cls := "HammerTowers$Tower", name := "letOff", desc := "(I)V" } : Jvm.MethodName)) ∈ lw_all := lw_g (lw_at lw_m4 11 rfl) rfl
theorem q789 : (Jvm.Cond.selects "HammerTowers$Tower" ({ cls := "HammerTowers$Tower", name := "letOff", desc := "(I)V" } : Jvm.MethodName) ({ cls := "HammerTowers$Tower", name := "letOff", desc := "(I)V" } : Jvm.MethodName)) ∈ lw_all := lw_g (lw_at lw_m4 12 rfl) rfl
theorem q790 : (Jvm.Cond.code ({ cls := "HammerTowers$Tower", name := "letOff", desc := "(I)V" } : Jvm.MethodName) prog_6_method_5_code (2 : Nat) (Option.none : Option Jvm.ClassFile.FieldType)) ∈ lw_all := lw_g (lw_at lw_m4 13 rfl) rfl
theorem q791 : (Jvm.Cond.methodLink "HammerTowers$Tower" (59 : Nat) ({ cls := "HammerTowers$Tower", name := "stepOf", desc := "(I)I" } : Jvm.MethodName)) ∈ lw_all := lw_g (lw_at lw_m4 14 rfl) rfl
theorem q792 : (Jvm.Cond.privateMethod ({ cls := "HammerTowers$Tower", name := "stepOf", desc := "(I)I" } : Jvm.MethodName)) ∈ lw_tbl := lw_at lw_m4 15 rfl
theorem q793 : (Jvm.Cond.instanceMethod ({ cls := "HammerTowers$Tower", name := "stepOf", desc := "(I)I" } : Jvm.MethodName)) ∈ lw_all := lw_g (lw_at lw_m4 16 rfl) rfl
theorem q794 : (Jvm.Cond.code ({ cls := "HammerTowers$Tower", name := "stepOf", desc := "(I)I" } : Jvm.MethodName) prog_6_method_4_code (2 : Nat) (Option.some Jvm.ClassFile.FieldType.int)) ∈ lw_all := lw_g (lw_at lw_m4 17 rfl) rfl
theorem q795 : (Jvm.Cond.methodLinkNest "HammerTowers$Tower" (52 : Nat) ({ cls := "HammerTowers", name := "hourOf", desc := "(I)I" } : Jvm.MethodName) "HammerTowers") ∈ lw_tbl := lw_at lw_m4 18 rfl
theorem q798 : (Jvm.Cond.methodLinkNest "HammerTowers$Tower" (56 : Nat) ({ cls := "HammerTowers", name := "quarterOf", desc := "(I)I" } : Jvm.MethodName) "HammerTowers") ∈ lw_tbl := lw_at lw_m4 21 rfl
theorem q801 : (Jvm.Cond.methodLink "HammerTowers$Tower" (62 : Nat) ({ cls := "HammerTowers$Train", name := "letOff", desc := "(IZ)V" } : Jvm.MethodName)) ∈ lw_all := lw_g (lw_at lw_m4 24 rfl) rfl
theorem q818 : (Jvm.Cond.instanceMethod ({ cls := "HammerTowers$Tower", name := "back", desc := "()V" } : Jvm.MethodName)) ∈ lw_all := lw_g (lw_at lw_m4 41 rfl) rfl
theorem q819 : (Jvm.Cond.selects "HammerTowers$Tower" ({ cls := "HammerTowers$Tower", name := "back", desc := "()V" } : Jvm.MethodName) ({ cls := "HammerTowers$Tower", name := "back", desc := "()V" } : Jvm.MethodName)) ∈ lw_all := lw_g (lw_at lw_m4 42 rfl) rfl
theorem q820 : (Jvm.Cond.code ({ cls := "HammerTowers$Tower", name := "back", desc := "()V" } : Jvm.MethodName) prog_6_method_8_code (1 : Nat) (Option.none : Option Jvm.ClassFile.FieldType)) ∈ lw_all := lw_g (lw_at lw_m4 43 rfl) rfl
theorem q847 : (Jvm.Cond.instanceMethod ({ cls := "HammerTowers$Tower", name := "run", desc := "(II)I" } : Jvm.MethodName)) ∈ lw_all := lw_g (lw_at lw_m4 70 rfl) rfl
theorem q848 : (Jvm.Cond.selects "HammerTowers$Tower" ({ cls := "HammerTowers$Tower", name := "run", desc := "(II)I" } : Jvm.MethodName) ({ cls := "HammerTowers$Tower", name := "run", desc := "(II)I" } : Jvm.MethodName)) ∈ lw_all := lw_g (lw_at lw_m4 71 rfl) rfl
theorem q849 : (Jvm.Cond.code ({ cls := "HammerTowers$Tower", name := "run", desc := "(II)I" } : Jvm.MethodName) prog_6_method_10_code (9 : Nat) (Option.some Jvm.ClassFile.FieldType.int)) ∈ lw_all := lw_g (lw_at lw_m4 72 rfl) rfl
theorem q850 : (Jvm.Cond.interfaceEntry "HammerTowers$Tower" (97 : Nat)) ∈ lw_tbl := lw_at lw_m4 73 rfl
theorem q851 : (Jvm.Cond.methodLink "HammerTowers$Tower" (97 : Nat) ({ cls := "HammerTowers$Struck", name := "hammers", desc := "()I" } : Jvm.MethodName)) ∈ lw_all := lw_g (lw_at lw_m4 74 rfl) rfl
theorem q869 : (Jvm.Cond.interfaceEntry "HammerTowers$Tower" (105 : Nat)) ∈ lw_tbl := lw_at lw_m4 92 rfl
theorem q870 : (Jvm.Cond.methodLink "HammerTowers$Tower" (105 : Nat) ({ cls := "HammerTowers$Struck", name := "struck", desc := "()V" } : Jvm.MethodName)) ∈ lw_all := lw_g (lw_at lw_m4 93 rfl) rfl
theorem q884 : (Jvm.Cond.methodLink "HammerTowers$Tower" (114 : Nat) ({ cls := "HammerTowers$Tower", name := "enter", desc := "(III)V" } : Jvm.MethodName)) ∈ lw_all := lw_g (lw_at lw_m4 107 rfl) rfl
theorem q885 : (Jvm.Cond.privateMethod ({ cls := "HammerTowers$Tower", name := "enter", desc := "(III)V" } : Jvm.MethodName)) ∈ lw_tbl := lw_at lw_m4 108 rfl
theorem q886 : (Jvm.Cond.instanceMethod ({ cls := "HammerTowers$Tower", name := "enter", desc := "(III)V" } : Jvm.MethodName)) ∈ lw_all := lw_g (lw_at lw_m4 109 rfl) rfl
theorem q887 : (Jvm.Cond.code ({ cls := "HammerTowers$Tower", name := "enter", desc := "(III)V" } : Jvm.MethodName) prog_6_method_9_code (4 : Nat) (Option.none : Option Jvm.ClassFile.FieldType)) ∈ lw_all := lw_g (lw_at lw_m4 110 rfl) rfl
theorem q888 : (Jvm.Cond.methodLink "HammerTowers$Tower" (82 : Nat) ({ cls := "java/lang/System", name := "arraycopy", desc := "(Ljava/lang/Object;ILjava/lang/Object;II)V" } : Jvm.MethodName)) ∈ lw_all := lw_g (lw_at lw_m4 111 rfl) rfl
theorem q895 : (Jvm.Cond.instanceMethod ({ cls := "HammerTowers$Tower", name := "minute", desc := "()V" } : Jvm.MethodName)) ∈ lw_all := lw_g (lw_at lw_m4 118 rfl) rfl
theorem q896 : (Jvm.Cond.selects "HammerTowers$Tower" ({ cls := "HammerTowers$Tower", name := "minute", desc := "()V" } : Jvm.MethodName) ({ cls := "HammerTowers$Tower", name := "minute", desc := "()V" } : Jvm.MethodName)) ∈ lw_all := lw_g (lw_at lw_m4 119 rfl) rfl
theorem q897 : (Jvm.Cond.code ({ cls := "HammerTowers$Tower", name := "minute", desc := "()V" } : Jvm.MethodName) prog_6_method_11_code (1 : Nat) (Option.none : Option Jvm.ClassFile.FieldType)) ∈ lw_all := lw_g (lw_at lw_m4 120 rfl) rfl
theorem q898 : (Jvm.Cond.constant "HammerTowers$Tower" (124 : Nat) (86400 : Int32)) ∈ lw_all := lw_g (lw_at lw_m4 121 rfl) rfl
theorem q899 : (Jvm.Cond.methodLink "HammerTowers$Tower" (128 : Nat) ({ cls := "HammerTowers$Tower", name := "forward", desc := "()V" } : Jvm.MethodName)) ∈ lw_all := lw_g (lw_at lw_m4 122 rfl) rfl
theorem q900 : (Jvm.Cond.methodLink "HammerTowers$Tower" (134 : Nat) ({ cls := "HammerTowers$Tower", name := "run", desc := "(II)I" } : Jvm.MethodName)) ∈ lw_all := lw_g (lw_at lw_m4 123 rfl) rfl
theorem q940 : (Jvm.Cond.instanceMethod ({ cls := "HammerTowers$Tower", name := "exact", desc := "()J" } : Jvm.MethodName)) ∈ lw_all := lw_g (lw_at lw_m4 163 rfl) rfl
theorem q941 : (Jvm.Cond.selects "HammerTowers$Tower" ({ cls := "HammerTowers$Tower", name := "exact", desc := "()J" } : Jvm.MethodName) ({ cls := "HammerTowers$Tower", name := "exact", desc := "()J" } : Jvm.MethodName)) ∈ lw_all := lw_g (lw_at lw_m4 164 rfl) rfl
theorem q942 : (Jvm.Cond.code ({ cls := "HammerTowers$Tower", name := "exact", desc := "()J" } : Jvm.MethodName) prog_6_method_12_code (1 : Nat) (Option.some Jvm.ClassFile.FieldType.long)) ∈ lw_all := lw_g (lw_at lw_m4 165 rfl) rfl
theorem q943 : (Jvm.Cond.constantLong "HammerTowers$Tower" (138 : Nat) (86400 : Int64)) ∈ lw_all := lw_g (lw_at lw_m4 166 rfl) rfl
theorem in_X6 : ∀ w ∈ wsX60, w ∈ lw_all := lw_in wsX60 [718, 720, 722, 724, 726, 728, 730, 732, 734, 736, 738, 740] (by decide +kernel) (by decide +kernel)
theorem q852 : (Jvm.Cond.interfaceMethod "HammerTowers$Struck" "HammerTowers$Struck" "hammers" "()I") ∈ lw_tbl := lw_at lw_m4 75 rfl
theorem q853 : (Jvm.Cond.declares ({ cls := "HammerTowers$Struck", name := "hammers", desc := "()I" } : Jvm.MethodName)) ∈ lw_tbl := lw_at lw_m4 76 rfl
theorem q862 : (Jvm.Cond.instanceMethod ({ cls := "HammerTowers$Struck", name := "hammers", desc := "()I" } : Jvm.MethodName)) ∈ lw_all := lw_g (lw_at lw_m4 85 rfl) rfl
theorem q863 : (Jvm.Cond.publicMethod ({ cls := "HammerTowers$Struck", name := "hammers", desc := "()I" } : Jvm.MethodName)) ∈ lw_tbl := lw_at lw_m4 86 rfl
theorem q864 : (Jvm.Cond.code ({ cls := "HammerTowers$Struck", name := "hammers", desc := "()I" } : Jvm.MethodName) prog_5_method_1_code (1 : Nat) (Option.some Jvm.ClassFile.FieldType.int)) ∈ lw_all := lw_g (lw_at lw_m4 87 rfl) rfl
theorem q871 : (Jvm.Cond.interfaceMethod "HammerTowers$Struck" "HammerTowers$Struck" "struck" "()V") ∈ lw_tbl := lw_at lw_m4 94 rfl
theorem q872 : (Jvm.Cond.declares ({ cls := "HammerTowers$Struck", name := "struck", desc := "()V" } : Jvm.MethodName)) ∈ lw_tbl := lw_at lw_m4 95 rfl
theorem q879 : (Jvm.Cond.instanceMethod ({ cls := "HammerTowers$Struck", name := "struck", desc := "()V" } : Jvm.MethodName)) ∈ lw_all := lw_g (lw_at lw_m4 102 rfl) rfl
theorem q880 : (Jvm.Cond.publicMethod ({ cls := "HammerTowers$Struck", name := "struck", desc := "()V" } : Jvm.MethodName)) ∈ lw_tbl := lw_at lw_m4 103 rfl
theorem q881 : (Jvm.Cond.code ({ cls := "HammerTowers$Struck", name := "struck", desc := "()V" } : Jvm.MethodName) prog_5_method_2_code (1 : Nat) (Option.none : Option Jvm.ClassFile.FieldType)) ∈ lw_all := lw_g (lw_at lw_m4 104 rfl) rfl
theorem q57 : (Jvm.Cond.initialized "HammerTowersLaw") ∈ lw_all := lw_g (lw_at lw_m1 0 rfl) rfl
theorem q78 : (Jvm.Cond.methodLink "HammerTowersLaw" (226 : Nat) ({ cls := "HammerTowers", name := "asked", desc := "()I" } : Jvm.MethodName)) ∈ lw_all := lw_g (lw_at lw_m1 21 rfl) rfl
theorem q82 : (Jvm.Cond.classLink "HammerTowersLaw" (7 : Nat) "HammerTowers") ∈ lw_all := lw_g (lw_at lw_m1 25 rfl) rfl
theorem q84 : (Jvm.Cond.methodLink "HammerTowersLaw" (9 : Nat) ({ cls := "HammerTowers", name := "<init>", desc := "()V" } : Jvm.MethodName)) ∈ lw_all := lw_g (lw_at lw_m1 27 rfl) rfl
theorem q186 : (Jvm.Cond.methodLink "HammerTowersLaw" (13 : Nat) ({ cls := "HammerTowers", name := "row", desc := "(II)I" } : Jvm.MethodName)) ∈ lw_all := lw_g (lw_at lw_m1 129 rfl) rfl
theorem q287 : (Jvm.Cond.methodLink "HammerTowersLaw" (18 : Nat) ({ cls := "HammerTowers", name := "lay", desc := "(III)I" } : Jvm.MethodName)) ∈ lw_all := lw_g (lw_at lw_m1 230 rfl) rfl
theorem q335 : (Jvm.Cond.methodLink "HammerTowersLaw" (23 : Nat) ({ cls := "HammerTowers", name := "tear", desc := "(I)I" } : Jvm.MethodName)) ∈ lw_all := lw_g (lw_at lw_m2 38 rfl) rfl
theorem q339 : (Jvm.Cond.methodLink "HammerTowersLaw" (28 : Nat) ({ cls := "HammerTowers", name := "copy", desc := "(IIIII)I" } : Jvm.MethodName)) ∈ lw_all := lw_g (lw_at lw_m2 42 rfl) rfl
theorem q346 : (Jvm.Cond.methodLink "HammerTowersLaw" (33 : Nat) ({ cls := "HammerTowers", name := "train", desc := "()I" } : Jvm.MethodName)) ∈ lw_all := lw_g (lw_at lw_m2 49 rfl) rfl
theorem q416 : (Jvm.Cond.methodLink "HammerTowersLaw" (38 : Nat) ({ cls := "HammerTowers", name := "plate", desc := "(I)I" } : Jvm.MethodName)) ∈ lw_all := lw_g (lw_at lw_m2 119 rfl) rfl
theorem q451 : (Jvm.Cond.methodLink "HammerTowersLaw" (42 : Nat) ({ cls := "HammerTowers", name := "snail", desc := "(I)I" } : Jvm.MethodName)) ∈ lw_all := lw_g (lw_at lw_m2 154 rfl) rfl
theorem q479 : (Jvm.Cond.methodLink "HammerTowersLaw" (46 : Nat) ({ cls := "HammerTowers", name := "barrel", desc := "(II)I" } : Jvm.MethodName)) ∈ lw_all := lw_g (lw_at lw_m2 182 rfl) rfl
theorem q514 : (Jvm.Cond.methodLink "HammerTowersLaw" (50 : Nat) ({ cls := "HammerTowers", name := "gear", desc := "(III)I" } : Jvm.MethodName)) ∈ lw_all := lw_g (lw_at lw_m2 217 rfl) rfl
theorem q523 : (Jvm.Cond.methodLink "HammerTowersLaw" (54 : Nat) ({ cls := "HammerTowers", name := "wind", desc := "(I)I" } : Jvm.MethodName)) ∈ lw_all := lw_g (lw_at lw_m2 226 rfl) rfl
theorem q527 : (Jvm.Cond.methodLink "HammerTowersLaw" (58 : Nat) ({ cls := "HammerTowers", name := "broken", desc := "(II)I" } : Jvm.MethodName)) ∈ lw_all := lw_g (lw_at lw_m2 230 rfl) rfl
theorem q531 : (Jvm.Cond.methodLink "HammerTowersLaw" (62 : Nat) ({ cls := "HammerTowers", name := "told", desc := "(II)I" } : Jvm.MethodName)) ∈ lw_all := lw_g (lw_at lw_m2 234 rfl) rfl
theorem q576 : (Jvm.Cond.methodLink "HammerTowersLaw" (66 : Nat) ({ cls := "HammerTowers", name := "mark", desc := "(II)I" } : Jvm.MethodName)) ∈ lw_all := lw_g (lw_at lw_m3 39 rfl) rfl
theorem q612 : (Jvm.Cond.methodLink "HammerTowersLaw" (70 : Nat) ({ cls := "HammerTowers", name := "notch", desc := "(II)I" } : Jvm.MethodName)) ∈ lw_all := lw_g (lw_at lw_m3 75 rfl) rfl
theorem q628 : (Jvm.Cond.methodLink "HammerTowersLaw" (74 : Nat) ({ cls := "HammerTowers", name := "cut", desc := "(III)I" } : Jvm.MethodName)) ∈ lw_all := lw_g (lw_at lw_m3 91 rfl) rfl
theorem q659 : (Jvm.Cond.methodLink "HammerTowersLaw" (78 : Nat) ({ cls := "HammerTowers", name := "put", desc := "(II)I" } : Jvm.MethodName)) ∈ lw_all := lw_g (lw_at lw_m3 122 rfl) rfl
theorem q664 : (Jvm.Cond.methodLink "HammerTowersLaw" (82 : Nat) ({ cls := "HammerTowers", name := "mean", desc := "(I)I" } : Jvm.MethodName)) ∈ lw_all := lw_g (lw_at lw_m3 127 rfl) rfl
theorem q682 : (Jvm.Cond.methodLink "HammerTowersLaw" (86 : Nat) ({ cls := "HammerTowers", name := "tower", desc := "(I)I" } : Jvm.MethodName)) ∈ lw_all := lw_g (lw_at lw_m3 145 rfl) rfl
theorem q743 : (Jvm.Cond.methodLink "HammerTowersLaw" (90 : Nat) ({ cls := "HammerTowers", name := "hang", desc := "(IIZ)I" } : Jvm.MethodName)) ∈ lw_all := lw_g (lw_at lw_m3 206 rfl) rfl
theorem q754 : (Jvm.Cond.methodLink "HammerTowersLaw" (95 : Nat) ({ cls := "HammerTowers", name := "unhang", desc := "(IZ)I" } : Jvm.MethodName)) ∈ lw_all := lw_g (lw_at lw_m3 217 rfl) rfl
theorem q762 : (Jvm.Cond.methodLink "HammerTowersLaw" (100 : Nat) ({ cls := "HammerTowers", name := "hands", desc := "(II)I" } : Jvm.MethodName)) ∈ lw_all := lw_g (lw_at lw_m3 225 rfl) rfl
theorem q766 : (Jvm.Cond.methodLink "HammerTowersLaw" (104 : Nat) ({ cls := "HammerTowers", name := "forward", desc := "(II)I" } : Jvm.MethodName)) ∈ lw_all := lw_g (lw_at lw_m3 229 rfl) rfl
theorem q813 : (Jvm.Cond.methodLink "HammerTowersLaw" (108 : Nat) ({ cls := "HammerTowers", name := "back", desc := "(II)I" } : Jvm.MethodName)) ∈ lw_all := lw_g (lw_at lw_m4 36 rfl) rfl
theorem q821 : (Jvm.Cond.methodLink "HammerTowersLaw" (112 : Nat) ({ cls := "HammerTowers", name := "rate", desc := "(II)I" } : Jvm.MethodName)) ∈ lw_all := lw_g (lw_at lw_m4 44 rfl) rfl
theorem q825 : (Jvm.Cond.methodLink "HammerTowersLaw" (116 : Nat) ({ cls := "HammerTowers", name := "go", desc := "(IZ)I" } : Jvm.MethodName)) ∈ lw_all := lw_g (lw_at lw_m4 48 rfl) rfl
theorem q829 : (Jvm.Cond.methodLink "HammerTowersLaw" (120 : Nat) ({ cls := "HammerTowers", name := "windGoing", desc := "(II)I" } : Jvm.MethodName)) ∈ lw_all := lw_g (lw_at lw_m4 52 rfl) rfl
theorem q833 : (Jvm.Cond.methodLink "HammerTowersLaw" (124 : Nat) ({ cls := "HammerTowers", name := "silence", desc := "(IIII)I" } : Jvm.MethodName)) ∈ lw_all := lw_g (lw_at lw_m4 56 rfl) rfl
theorem q837 : (Jvm.Cond.methodLink "HammerTowersLaw" (129 : Nat) ({ cls := "HammerTowers", name := "letOff", desc := "(IZ)I" } : Jvm.MethodName)) ∈ lw_all := lw_g (lw_at lw_m4 60 rfl) rfl
theorem q842 : (Jvm.Cond.methodLink "HammerTowersLaw" (133 : Nat) ({ cls := "HammerTowers", name := "runOut", desc := "(IZ)I" } : Jvm.MethodName)) ∈ lw_all := lw_g (lw_at lw_m4 65 rfl) rfl
theorem q889 : (Jvm.Cond.methodLink "HammerTowersLaw" (137 : Nat) ({ cls := "HammerTowers", name := "pass", desc := "(I)I" } : Jvm.MethodName)) ∈ lw_all := lw_g (lw_at lw_m4 112 rfl) rfl
theorem q901 : (Jvm.Cond.methodLink "HammerTowersLaw" (141 : Nat) ({ cls := "HammerTowers", name := "tells", desc := "(II)I" } : Jvm.MethodName)) ∈ lw_all := lw_g (lw_at lw_m4 124 rfl) rfl
theorem q915 : (Jvm.Cond.methodLink "HammerTowersLaw" (145 : Nat) ({ cls := "HammerTowers", name := "log", desc := "(III)I" } : Jvm.MethodName)) ∈ lw_all := lw_g (lw_at lw_m4 138 rfl) rfl
theorem q919 : (Jvm.Cond.methodLink "HammerTowersLaw" (149 : Nat) ({ cls := "HammerTowers", name := "heard", desc := "(III)I" } : Jvm.MethodName)) ∈ lw_all := lw_g (lw_at lw_m4 142 rfl) rfl
theorem q923 : (Jvm.Cond.methodLink "HammerTowersLaw" (153 : Nat) ({ cls := "HammerTowers", name := "ahead", desc := "(II)I" } : Jvm.MethodName)) ∈ lw_all := lw_g (lw_at lw_m4 146 rfl) rfl
theorem q934 : (Jvm.Cond.methodLink "HammerTowersLaw" (157 : Nat) ({ cls := "HammerTowers", name := "meet", desc := "(II)I" } : Jvm.MethodName)) ∈ lw_all := lw_g (lw_at lw_m4 157 rfl) rfl
theorem q950 : (Jvm.Cond.methodLink "HammerTowersLaw" (161 : Nat) ({ cls := "HammerTowers", name := "right", desc := "(IZ)I" } : Jvm.MethodName)) ∈ lw_all := lw_g (lw_at lw_m4 173 rfl) rfl
theorem q968 : (Jvm.Cond.methodLink "HammerTowersLaw" (165 : Nat) ({ cls := "HammerTowers", name := "off", desc := "(IZ)I" } : Jvm.MethodName)) ∈ lw_all := lw_g (lw_at lw_m4 191 rfl) rfl
theorem q972 : (Jvm.Cond.methodLink "HammerTowersLaw" (169 : Nat) ({ cls := "HammerTowers", name := "putRight", desc := "(II)I" } : Jvm.MethodName)) ∈ lw_all := lw_g (lw_at lw_m4 195 rfl) rfl
theorem q995 : (Jvm.Cond.methodLink "HammerTowersLaw" (173 : Nat) ({ cls := "HammerTowers", name := "act", desc := "(I)I" } : Jvm.MethodName)) ∈ lw_all := lw_g (lw_at lw_m4 218 rfl) rfl
theorem q999 : (Jvm.Cond.methodLink "HammerTowersLaw" (177 : Nat) ({ cls := "HammerTowers", name := "due", desc := "(IIIII)I" } : Jvm.MethodName)) ∈ lw_all := lw_g (lw_at lw_m4 222 rfl) rfl
theorem q1010 : (Jvm.Cond.methodLink "HammerTowersLaw" (181 : Nat) ({ cls := "HammerTowers", name := "misfits", desc := "(IIIII)I" } : Jvm.MethodName)) ∈ lw_all := lw_g (lw_at lw_m4 233 rfl) rfl
theorem q1021 : (Jvm.Cond.methodLink "HammerTowersLaw" (185 : Nat) ({ cls := "HammerTowers", name := "fault", desc := "(II)I" } : Jvm.MethodName)) ∈ lw_all := lw_g (lw_at lw_m5 4 rfl) rfl
theorem q1033 : (Jvm.Cond.methodLink "HammerTowersLaw" (189 : Nat) ({ cls := "HammerTowers", name := "faultTold", desc := "(Z)I" } : Jvm.MethodName)) ∈ lw_all := lw_g (lw_at lw_m5 16 rfl) rfl
theorem q1037 : (Jvm.Cond.methodLink "HammerTowersLaw" (194 : Nat) ({ cls := "HammerTowers", name := "explained", desc := "(II)I" } : Jvm.MethodName)) ∈ lw_all := lw_g (lw_at lw_m5 20 rfl) rfl
theorem q1041 : (Jvm.Cond.methodLink "HammerTowersLaw" (198 : Nat) ({ cls := "HammerTowers", name := "windy", desc := "(IIIII)I" } : Jvm.MethodName)) ∈ lw_all := lw_g (lw_at lw_m5 24 rfl) rfl
theorem q1045 : (Jvm.Cond.methodLink "HammerTowersLaw" (230 : Nat) ({ cls := "HammerTowers", name := "upper", desc := "()J" } : Jvm.MethodName)) ∈ lw_all := lw_g (lw_at lw_m5 28 rfl) rfl
theorem q1049 : (Jvm.Cond.methodLink "HammerTowersLaw" (235 : Nat) ({ cls := "HammerTowers", name := "lower", desc := "()J" } : Jvm.MethodName)) ∈ lw_all := lw_g (lw_at lw_m5 32 rfl) rfl
theorem q1053 : (Jvm.Cond.methodLink "HammerTowersLaw" (202 : Nat) ({ cls := "HammerTowers", name := "wheel", desc := "(I)I" } : Jvm.MethodName)) ∈ lw_all := lw_g (lw_at lw_m5 36 rfl) rfl
theorem q1057 : (Jvm.Cond.methodLink "HammerTowersLaw" (206 : Nat) ({ cls := "HammerTowers", name := "nearest", desc := "(III)I" } : Jvm.MethodName)) ∈ lw_all := lw_g (lw_at lw_m5 40 rfl) rfl
theorem q1072 : (Jvm.Cond.methodLink "HammerTowersLaw" (210 : Nat) ({ cls := "HammerTowers", name := "chosen", desc := "(I)I" } : Jvm.MethodName)) ∈ lw_all := lw_g (lw_at lw_m5 55 rfl) rfl
theorem q1076 : (Jvm.Cond.methodLink "HammerTowersLaw" (214 : Nat) ({ cls := "HammerTowers", name := "daily", desc := "(IZ)I" } : Jvm.MethodName)) ∈ lw_all := lw_g (lw_at lw_m5 59 rfl) rfl
theorem q1095 : (Jvm.Cond.methodLink "HammerTowersLaw" (218 : Nat) ({ cls := "HammerTowers", name := "lasting", desc := "(I)I" } : Jvm.MethodName)) ∈ lw_all := lw_g (lw_at lw_m5 78 rfl) rfl
theorem q1103 : (Jvm.Cond.methodLink "HammerTowersLaw" (222 : Nat) ({ cls := "HammerTowers", name := "lastingDays", desc := "(IZ)I" } : Jvm.MethodName)) ∈ lw_all := lw_g (lw_at lw_m5 86 rfl) rfl
theorem q1107 : (Jvm.Cond.methodLink "HammerTowersLaw" (239 : Nat) ({ cls := "HammerTowers", name := "count", desc := "(I)I" } : Jvm.MethodName)) ∈ lw_all := lw_g (lw_at lw_m5 90 rfl) rfl
theorem q1111 : (Jvm.Cond.methodLink "HammerTowersLaw" (243 : Nat) ({ cls := "HammerTowers", name := "finding", desc := "()I" } : Jvm.MethodName)) ∈ lw_all := lw_g (lw_at lw_m5 94 rfl) rfl
theorem q1115 : (Jvm.Cond.methodLink "HammerTowersLaw" (247 : Nat) ({ cls := "HammerTowers", name := "findings", desc := "(I)I" } : Jvm.MethodName)) ∈ lw_all := lw_g (lw_at lw_m5 98 rfl) rfl
theorem q1119 : (Jvm.Cond.methodLink "HammerTowersLaw" (251 : Nat) ({ cls := "HammerTowers", name := "digest", desc := "()J" } : Jvm.MethodName)) ∈ lw_all := lw_g (lw_at lw_m5 102 rfl) rfl
theorem q1131 : (Jvm.Cond.classLink "HammerTowersLaw" (10 : Nat) "HammerTowersModel") ∈ lw_all := lw_g (lw_at lw_m5 114 rfl) rfl
theorem q1133 : (Jvm.Cond.methodLink "HammerTowersLaw" (12 : Nat) ({ cls := "HammerTowersModel", name := "<init>", desc := "()V" } : Jvm.MethodName)) ∈ lw_all := lw_g (lw_at lw_m5 116 rfl) rfl
theorem q1307 : (Jvm.Cond.methodLink "HammerTowersLaw" (17 : Nat) ({ cls := "HammerTowersModel", name := "row", desc := "(II)I" } : Jvm.MethodName)) ∈ lw_all := lw_g (lw_at lw_m6 50 rfl) rfl
theorem q1321 : (Jvm.Cond.methodLink "HammerTowersLaw" (22 : Nat) ({ cls := "HammerTowersModel", name := "lay", desc := "(III)I" } : Jvm.MethodName)) ∈ lw_all := lw_g (lw_at lw_m6 64 rfl) rfl
theorem q1329 : (Jvm.Cond.methodLink "HammerTowersLaw" (27 : Nat) ({ cls := "HammerTowersModel", name := "tear", desc := "(I)I" } : Jvm.MethodName)) ∈ lw_all := lw_g (lw_at lw_m6 72 rfl) rfl
theorem q1333 : (Jvm.Cond.methodLink "HammerTowersLaw" (32 : Nat) ({ cls := "HammerTowersModel", name := "copy", desc := "(IIIII)I" } : Jvm.MethodName)) ∈ lw_all := lw_g (lw_at lw_m6 76 rfl) rfl
theorem q1337 : (Jvm.Cond.methodLink "HammerTowersLaw" (37 : Nat) ({ cls := "HammerTowersModel", name := "train", desc := "()I" } : Jvm.MethodName)) ∈ lw_all := lw_g (lw_at lw_m6 80 rfl) rfl
theorem q1345 : (Jvm.Cond.methodLink "HammerTowersLaw" (41 : Nat) ({ cls := "HammerTowersModel", name := "plate", desc := "(I)I" } : Jvm.MethodName)) ∈ lw_all := lw_g (lw_at lw_m6 88 rfl) rfl
theorem q1361 : (Jvm.Cond.methodLink "HammerTowersLaw" (45 : Nat) ({ cls := "HammerTowersModel", name := "snail", desc := "(I)I" } : Jvm.MethodName)) ∈ lw_all := lw_g (lw_at lw_m6 104 rfl) rfl
theorem q1365 : (Jvm.Cond.methodLink "HammerTowersLaw" (49 : Nat) ({ cls := "HammerTowersModel", name := "barrel", desc := "(II)I" } : Jvm.MethodName)) ∈ lw_all := lw_g (lw_at lw_m6 108 rfl) rfl
theorem q1369 : (Jvm.Cond.methodLink "HammerTowersLaw" (53 : Nat) ({ cls := "HammerTowersModel", name := "gear", desc := "(III)I" } : Jvm.MethodName)) ∈ lw_all := lw_g (lw_at lw_m6 112 rfl) rfl
theorem q1378 : (Jvm.Cond.methodLink "HammerTowersLaw" (57 : Nat) ({ cls := "HammerTowersModel", name := "wind", desc := "(I)I" } : Jvm.MethodName)) ∈ lw_all := lw_g (lw_at lw_m6 121 rfl) rfl
theorem q1382 : (Jvm.Cond.methodLink "HammerTowersLaw" (61 : Nat) ({ cls := "HammerTowersModel", name := "broken", desc := "(II)I" } : Jvm.MethodName)) ∈ lw_all := lw_g (lw_at lw_m6 125 rfl) rfl
theorem q1386 : (Jvm.Cond.methodLink "HammerTowersLaw" (65 : Nat) ({ cls := "HammerTowersModel", name := "told", desc := "(II)I" } : Jvm.MethodName)) ∈ lw_all := lw_g (lw_at lw_m6 129 rfl) rfl
theorem q1398 : (Jvm.Cond.methodLink "HammerTowersLaw" (69 : Nat) ({ cls := "HammerTowersModel", name := "mark", desc := "(II)I" } : Jvm.MethodName)) ∈ lw_all := lw_g (lw_at lw_m6 141 rfl) rfl
theorem q1406 : (Jvm.Cond.methodLink "HammerTowersLaw" (73 : Nat) ({ cls := "HammerTowersModel", name := "notch", desc := "(II)I" } : Jvm.MethodName)) ∈ lw_all := lw_g (lw_at lw_m6 149 rfl) rfl
theorem q1414 : (Jvm.Cond.methodLink "HammerTowersLaw" (77 : Nat) ({ cls := "HammerTowersModel", name := "cut", desc := "(III)I" } : Jvm.MethodName)) ∈ lw_all := lw_g (lw_at lw_m6 157 rfl) rfl
theorem q1418 : (Jvm.Cond.methodLink "HammerTowersLaw" (81 : Nat) ({ cls := "HammerTowersModel", name := "put", desc := "(II)I" } : Jvm.MethodName)) ∈ lw_all := lw_g (lw_at lw_m6 161 rfl) rfl
theorem q1422 : (Jvm.Cond.methodLink "HammerTowersLaw" (85 : Nat) ({ cls := "HammerTowersModel", name := "mean", desc := "(I)I" } : Jvm.MethodName)) ∈ lw_all := lw_g (lw_at lw_m6 165 rfl) rfl
theorem q1426 : (Jvm.Cond.methodLink "HammerTowersLaw" (89 : Nat) ({ cls := "HammerTowersModel", name := "tower", desc := "(I)I" } : Jvm.MethodName)) ∈ lw_all := lw_g (lw_at lw_m6 169 rfl) rfl
theorem q1437 : (Jvm.Cond.methodLink "HammerTowersLaw" (94 : Nat) ({ cls := "HammerTowersModel", name := "hang", desc := "(IIZ)I" } : Jvm.MethodName)) ∈ lw_all := lw_g (lw_at lw_m6 180 rfl) rfl
theorem q1444 : (Jvm.Cond.methodLink "HammerTowersLaw" (99 : Nat) ({ cls := "HammerTowersModel", name := "unhang", desc := "(IZ)I" } : Jvm.MethodName)) ∈ lw_all := lw_g (lw_at lw_m6 187 rfl) rfl
theorem q1456 : (Jvm.Cond.methodLink "HammerTowersLaw" (103 : Nat) ({ cls := "HammerTowersModel", name := "hands", desc := "(II)I" } : Jvm.MethodName)) ∈ lw_all := lw_g (lw_at lw_m6 199 rfl) rfl
theorem q1460 : (Jvm.Cond.methodLink "HammerTowersLaw" (107 : Nat) ({ cls := "HammerTowersModel", name := "forward", desc := "(II)I" } : Jvm.MethodName)) ∈ lw_all := lw_g (lw_at lw_m6 203 rfl) rfl
theorem q1491 : (Jvm.Cond.methodLink "HammerTowersLaw" (111 : Nat) ({ cls := "HammerTowersModel", name := "back", desc := "(II)I" } : Jvm.MethodName)) ∈ lw_all := lw_g (lw_at lw_m6 234 rfl) rfl
theorem q1495 : (Jvm.Cond.methodLink "HammerTowersLaw" (115 : Nat) ({ cls := "HammerTowersModel", name := "rate", desc := "(II)I" } : Jvm.MethodName)) ∈ lw_all := lw_g (lw_at lw_m6 238 rfl) rfl
theorem q1499 : (Jvm.Cond.methodLink "HammerTowersLaw" (119 : Nat) ({ cls := "HammerTowersModel", name := "go", desc := "(IZ)I" } : Jvm.MethodName)) ∈ lw_all := lw_g (lw_at lw_m7 2 rfl) rfl
theorem q1503 : (Jvm.Cond.methodLink "HammerTowersLaw" (123 : Nat) ({ cls := "HammerTowersModel", name := "windGoing", desc := "(II)I" } : Jvm.MethodName)) ∈ lw_all := lw_g (lw_at lw_m7 6 rfl) rfl
theorem q1507 : (Jvm.Cond.methodLink "HammerTowersLaw" (128 : Nat) ({ cls := "HammerTowersModel", name := "silence", desc := "(IIII)I" } : Jvm.MethodName)) ∈ lw_all := lw_g (lw_at lw_m7 10 rfl) rfl
theorem q1511 : (Jvm.Cond.methodLink "HammerTowersLaw" (132 : Nat) ({ cls := "HammerTowersModel", name := "letOff", desc := "(IZ)I" } : Jvm.MethodName)) ∈ lw_all := lw_g (lw_at lw_m7 14 rfl) rfl
theorem q1515 : (Jvm.Cond.methodLink "HammerTowersLaw" (136 : Nat) ({ cls := "HammerTowersModel", name := "runOut", desc := "(IZ)I" } : Jvm.MethodName)) ∈ lw_all := lw_g (lw_at lw_m7 18 rfl) rfl
theorem q1528 : (Jvm.Cond.methodLink "HammerTowersLaw" (140 : Nat) ({ cls := "HammerTowersModel", name := "pass", desc := "(I)I" } : Jvm.MethodName)) ∈ lw_all := lw_g (lw_at lw_m7 31 rfl) rfl
theorem q1538 : (Jvm.Cond.methodLink "HammerTowersLaw" (144 : Nat) ({ cls := "HammerTowersModel", name := "tells", desc := "(II)I" } : Jvm.MethodName)) ∈ lw_all := lw_g (lw_at lw_m7 41 rfl) rfl
theorem q1546 : (Jvm.Cond.methodLink "HammerTowersLaw" (148 : Nat) ({ cls := "HammerTowersModel", name := "log", desc := "(III)I" } : Jvm.MethodName)) ∈ lw_all := lw_g (lw_at lw_m7 49 rfl) rfl
theorem q1550 : (Jvm.Cond.methodLink "HammerTowersLaw" (152 : Nat) ({ cls := "HammerTowersModel", name := "heard", desc := "(III)I" } : Jvm.MethodName)) ∈ lw_all := lw_g (lw_at lw_m7 53 rfl) rfl
theorem q1554 : (Jvm.Cond.methodLink "HammerTowersLaw" (156 : Nat) ({ cls := "HammerTowersModel", name := "ahead", desc := "(II)I" } : Jvm.MethodName)) ∈ lw_all := lw_g (lw_at lw_m7 57 rfl) rfl
theorem q1562 : (Jvm.Cond.methodLink "HammerTowersLaw" (160 : Nat) ({ cls := "HammerTowersModel", name := "meet", desc := "(II)I" } : Jvm.MethodName)) ∈ lw_all := lw_g (lw_at lw_m7 65 rfl) rfl
theorem q1568 : (Jvm.Cond.methodLink "HammerTowersLaw" (164 : Nat) ({ cls := "HammerTowersModel", name := "right", desc := "(IZ)I" } : Jvm.MethodName)) ∈ lw_all := lw_g (lw_at lw_m7 71 rfl) rfl
theorem q1584 : (Jvm.Cond.methodLink "HammerTowersLaw" (168 : Nat) ({ cls := "HammerTowersModel", name := "off", desc := "(IZ)I" } : Jvm.MethodName)) ∈ lw_all := lw_g (lw_at lw_m7 87 rfl) rfl
theorem q1588 : (Jvm.Cond.methodLink "HammerTowersLaw" (172 : Nat) ({ cls := "HammerTowersModel", name := "putRight", desc := "(II)I" } : Jvm.MethodName)) ∈ lw_all := lw_g (lw_at lw_m7 91 rfl) rfl
theorem q1600 : (Jvm.Cond.methodLink "HammerTowersLaw" (176 : Nat) ({ cls := "HammerTowersModel", name := "act", desc := "(I)I" } : Jvm.MethodName)) ∈ lw_all := lw_g (lw_at lw_m7 103 rfl) rfl
theorem q1604 : (Jvm.Cond.methodLink "HammerTowersLaw" (180 : Nat) ({ cls := "HammerTowersModel", name := "due", desc := "(IIIII)I" } : Jvm.MethodName)) ∈ lw_all := lw_g (lw_at lw_m7 107 rfl) rfl
theorem q1614 : (Jvm.Cond.methodLink "HammerTowersLaw" (184 : Nat) ({ cls := "HammerTowersModel", name := "misfits", desc := "(IIIII)I" } : Jvm.MethodName)) ∈ lw_all := lw_g (lw_at lw_m7 117 rfl) rfl
theorem q1622 : (Jvm.Cond.methodLink "HammerTowersLaw" (188 : Nat) ({ cls := "HammerTowersModel", name := "fault", desc := "(II)I" } : Jvm.MethodName)) ∈ lw_all := lw_g (lw_at lw_m7 125 rfl) rfl
theorem q1634 : (Jvm.Cond.methodLink "HammerTowersLaw" (193 : Nat) ({ cls := "HammerTowersModel", name := "faultTold", desc := "(Z)I" } : Jvm.MethodName)) ∈ lw_all := lw_g (lw_at lw_m7 137 rfl) rfl
theorem q1638 : (Jvm.Cond.methodLink "HammerTowersLaw" (197 : Nat) ({ cls := "HammerTowersModel", name := "explained", desc := "(II)I" } : Jvm.MethodName)) ∈ lw_all := lw_g (lw_at lw_m7 141 rfl) rfl
theorem q1642 : (Jvm.Cond.methodLink "HammerTowersLaw" (201 : Nat) ({ cls := "HammerTowersModel", name := "windy", desc := "(IIIII)I" } : Jvm.MethodName)) ∈ lw_all := lw_g (lw_at lw_m7 145 rfl) rfl
theorem q1646 : (Jvm.Cond.methodLink "HammerTowersLaw" (205 : Nat) ({ cls := "HammerTowersModel", name := "wheel", desc := "(I)I" } : Jvm.MethodName)) ∈ lw_all := lw_g (lw_at lw_m7 149 rfl) rfl
theorem q1650 : (Jvm.Cond.methodLink "HammerTowersLaw" (209 : Nat) ({ cls := "HammerTowersModel", name := "nearest", desc := "(III)I" } : Jvm.MethodName)) ∈ lw_all := lw_g (lw_at lw_m7 153 rfl) rfl
theorem q1665 : (Jvm.Cond.methodLink "HammerTowersLaw" (213 : Nat) ({ cls := "HammerTowersModel", name := "chosen", desc := "(I)I" } : Jvm.MethodName)) ∈ lw_all := lw_g (lw_at lw_m7 168 rfl) rfl
theorem q1669 : (Jvm.Cond.methodLink "HammerTowersLaw" (217 : Nat) ({ cls := "HammerTowersModel", name := "daily", desc := "(IZ)I" } : Jvm.MethodName)) ∈ lw_all := lw_g (lw_at lw_m7 172 rfl) rfl
theorem q1677 : (Jvm.Cond.methodLink "HammerTowersLaw" (221 : Nat) ({ cls := "HammerTowersModel", name := "lasting", desc := "(I)I" } : Jvm.MethodName)) ∈ lw_all := lw_g (lw_at lw_m7 180 rfl) rfl
theorem q1683 : (Jvm.Cond.methodLink "HammerTowersLaw" (225 : Nat) ({ cls := "HammerTowersModel", name := "lastingDays", desc := "(IZ)I" } : Jvm.MethodName)) ∈ lw_all := lw_g (lw_at lw_m7 186 rfl) rfl
theorem q1687 : (Jvm.Cond.methodLink "HammerTowersLaw" (229 : Nat) ({ cls := "HammerTowersModel", name := "asked", desc := "()I" } : Jvm.MethodName)) ∈ lw_all := lw_g (lw_at lw_m7 190 rfl) rfl
theorem q1691 : (Jvm.Cond.methodLink "HammerTowersLaw" (234 : Nat) ({ cls := "HammerTowersModel", name := "upper", desc := "()J" } : Jvm.MethodName)) ∈ lw_all := lw_g (lw_at lw_m7 194 rfl) rfl
theorem q1695 : (Jvm.Cond.methodLink "HammerTowersLaw" (238 : Nat) ({ cls := "HammerTowersModel", name := "lower", desc := "()J" } : Jvm.MethodName)) ∈ lw_all := lw_g (lw_at lw_m7 198 rfl) rfl
theorem q1699 : (Jvm.Cond.methodLink "HammerTowersLaw" (242 : Nat) ({ cls := "HammerTowersModel", name := "count", desc := "(I)I" } : Jvm.MethodName)) ∈ lw_all := lw_g (lw_at lw_m7 202 rfl) rfl
theorem q1703 : (Jvm.Cond.methodLink "HammerTowersLaw" (246 : Nat) ({ cls := "HammerTowersModel", name := "finding", desc := "()I" } : Jvm.MethodName)) ∈ lw_all := lw_g (lw_at lw_m7 206 rfl) rfl
theorem q1707 : (Jvm.Cond.methodLink "HammerTowersLaw" (250 : Nat) ({ cls := "HammerTowersModel", name := "findings", desc := "(I)I" } : Jvm.MethodName)) ∈ lw_all := lw_g (lw_at lw_m7 210 rfl) rfl
theorem q1711 : (Jvm.Cond.methodLink "HammerTowersLaw" (254 : Nat) ({ cls := "HammerTowersModel", name := "digest", desc := "()J" } : Jvm.MethodName)) ∈ lw_all := lw_g (lw_at lw_m7 214 rfl) rfl
theorem q68 : (Jvm.Cond.initialized "java/lang/System") ∈ lw_all := lw_g (lw_at lw_m1 11 rfl) rfl
theorem q344 : (Jvm.Cond.static ({ cls := "java/lang/System", name := "arraycopy", desc := "(Ljava/lang/Object;ILjava/lang/Object;II)V" } : Jvm.MethodName)) ∈ lw_all := lw_g (lw_at lw_m2 47 rfl) rfl
theorem q345 : (Jvm.Cond.native ({ cls := "java/lang/System", name := "arraycopy", desc := "(Ljava/lang/Object;ILjava/lang/Object;II)V" } : Jvm.MethodName)) ∈ lw_all := lw_g (lw_at lw_m2 48 rfl) rfl
theorem q91 : (Jvm.Cond.arrayOver (Jvm.ClassFile.FieldType.array Jvm.ClassFile.FieldType.byte)) ∈ lw_tbl := lw_at lw_m1 34 rfl
theorem q93 : (Jvm.Cond.arrayOver (Jvm.ClassFile.FieldType.object "HammerTowers$Train")) ∈ lw_tbl := lw_at lw_m1 36 rfl
theorem q95 : (Jvm.Cond.arrayOver (Jvm.ClassFile.FieldType.object "HammerTowers$Tower")) ∈ lw_tbl := lw_at lw_m1 38 rfl
theorem q185 : (Jvm.Cond.arrayClass Jvm.ClassFile.FieldType.int) ∈ lw_all := lw_g (lw_at lw_m1 128 rfl) rfl
theorem q272 : (Jvm.Cond.arrayClass Jvm.ClassFile.FieldType.byte) ∈ lw_all := lw_g (lw_at lw_m1 215 rfl) rfl
theorem q1306 : (Jvm.Cond.arrayClass Jvm.ClassFile.FieldType.boolean) ∈ lw_all := lw_g (lw_at lw_m6 49 rfl) rfl
