set_option maxRecDepth 100000
theorem q117 : (Jvm.Cond.initialized "java/lang/Throwable") ∈ lw_all := lw_g (lw_at lw_m1 8 rfl) rfl
theorem q495 : (Jvm.Cond.instanceMethod ({ cls := "java/lang/Throwable", name := "<init>", desc := "(Ljava/lang/String;)V" } : Jvm.MethodName)) ∈ lw_all := lw_g (lw_at lw_m2 146 rfl) rfl
theorem q496 : (Jvm.Cond.code ({ cls := "java/lang/Throwable", name := "<init>", desc := "(Ljava/lang/String;)V" } : Jvm.MethodName) prog_49_method_2_code (2 : Nat) (Option.none : Option Jvm.ClassFile.FieldType)) ∈ lw_all := lw_g (lw_at lw_m2 147 rfl) rfl
theorem q497 : (Jvm.Cond.methodLink "java/lang/Throwable" (1 : Nat) ({ cls := "java/lang/Object", name := "<init>", desc := "()V" } : Jvm.MethodName)) ∈ lw_all := lw_g (lw_at lw_m2 148 rfl) rfl
theorem q498 : (Jvm.Cond.fieldLink "java/lang/Throwable" (13 : Nat) "java/lang/Throwable" "UNASSIGNED_STACK" "[Ljava/lang/StackTraceElement;") ∈ lw_all := lw_g (lw_at lw_m2 149 rfl) rfl
theorem q499 : (Jvm.Cond.laysStatic "java/lang/Throwable" "UNASSIGNED_STACK" "[Ljava/lang/StackTraceElement;") ∈ lw_tbl := lw_at lw_m2 150 rfl
theorem q500 : (Jvm.Cond.fieldLink "java/lang/Throwable" (20 : Nat) "java/lang/Throwable" "SUPPRESSED_SENTINEL" "Ljava/util/List;") ∈ lw_all := lw_g (lw_at lw_m2 151 rfl) rfl
theorem q501 : (Jvm.Cond.laysStatic "java/lang/Throwable" "SUPPRESSED_SENTINEL" "Ljava/util/List;") ∈ lw_tbl := lw_at lw_m2 152 rfl
theorem q502 : (Jvm.Cond.methodLink "java/lang/Throwable" (27 : Nat) ({ cls := "java/lang/Throwable", name := "fillInStackTrace", desc := "()Ljava/lang/Throwable;" } : Jvm.MethodName)) ∈ lw_all := lw_g (lw_at lw_m2 153 rfl) rfl
theorem q503 : (Jvm.Cond.instanceMethod ({ cls := "java/lang/Throwable", name := "fillInStackTrace", desc := "()Ljava/lang/Throwable;" } : Jvm.MethodName)) ∈ lw_all := lw_g (lw_at lw_m2 154 rfl) rfl
theorem q504 : (Jvm.Cond.sameMethod "java/lang/Throwable" "java/lang/Throwable" "fillInStackTrace" "()Ljava/lang/Throwable;") ∈ lw_all := lw_g (lw_at lw_m2 155 rfl) rfl
theorem q518 : (Jvm.Cond.declares ({ cls := "java/lang/Throwable", name := "fillInStackTrace", desc := "()Ljava/lang/Throwable;" } : Jvm.MethodName)) ∈ lw_tbl := lw_at lw_m2 169 rfl
theorem q522 : (Jvm.Cond.codeSync ({ cls := "java/lang/Throwable", name := "fillInStackTrace", desc := "()Ljava/lang/Throwable;" } : Jvm.MethodName) prog_49_method_18_code (1 : Nat) (Option.some (Jvm.ClassFile.FieldType.object "java/lang/Throwable"))) ∈ lw_all := lw_g (lw_at lw_m2 173 rfl) rfl
theorem q523 : (Jvm.Cond.methodLink "java/lang/Throwable" (202 : Nat) ({ cls := "java/lang/Throwable", name := "fillInStackTrace", desc := "(I)Ljava/lang/Throwable;" } : Jvm.MethodName)) ∈ lw_all := lw_g (lw_at lw_m2 174 rfl) rfl
theorem q524 : (Jvm.Cond.privateMethod ({ cls := "java/lang/Throwable", name := "fillInStackTrace", desc := "(I)Ljava/lang/Throwable;" } : Jvm.MethodName)) ∈ lw_tbl := lw_at lw_m2 175 rfl
theorem q525 : (Jvm.Cond.instanceMethod ({ cls := "java/lang/Throwable", name := "fillInStackTrace", desc := "(I)Ljava/lang/Throwable;" } : Jvm.MethodName)) ∈ lw_all := lw_g (lw_at lw_m2 176 rfl) rfl
theorem q526 : (Jvm.Cond.instantiable "java/lang/Throwable" (6 : Nat)) ∈ lw_all := lw_g (lw_at lw_m2 177 rfl) rfl
theorem q527 : (Jvm.Cond.native ({ cls := "java/lang/Throwable", name := "fillInStackTrace", desc := "(I)Ljava/lang/Throwable;" } : Jvm.MethodName)) ∈ lw_all := lw_g (lw_at lw_m2 178 rfl) rfl
theorem q528 : (Jvm.Cond.fieldLink "java/lang/Throwable" (198 : Nat) "java/lang/Throwable" "backtrace" "Ljava/lang/Object;") ∈ lw_all := lw_g (lw_at lw_m2 179 rfl) rfl
theorem q529 : (Jvm.Cond.fieldLink "java/lang/Throwable" (31 : Nat) "java/lang/Throwable" "detailMessage" "Ljava/lang/String;") ∈ lw_all := lw_g (lw_at lw_m2 180 rfl) rfl
theorem q530 : (Jvm.Cond.fieldLink "java/lang/Throwable" (7 : Nat) "java/lang/Throwable" "cause" "Ljava/lang/Throwable;") ∈ lw_all := lw_g (lw_at lw_m2 181 rfl) rfl
theorem q531 : (Jvm.Cond.fieldLink "java/lang/Throwable" (17 : Nat) "java/lang/Throwable" "stackTrace" "[Ljava/lang/StackTraceElement;") ∈ lw_all := lw_g (lw_at lw_m2 182 rfl) rfl
theorem q532 : (Jvm.Cond.fieldLink "java/lang/Throwable" (24 : Nat) "java/lang/Throwable" "suppressedExceptions" "Ljava/util/List;") ∈ lw_all := lw_g (lw_at lw_m2 183 rfl) rfl
theorem q534 : (Jvm.Cond.soleField "java/lang/Throwable" "backtrace") ∈ lw_all := lw_g (lw_at lw_m2 185 rfl) rfl
theorem q536 : (Jvm.Cond.soleField "java/lang/Throwable" "detailMessage") ∈ lw_all := lw_g (lw_at lw_m2 187 rfl) rfl
theorem q538 : (Jvm.Cond.soleField "java/lang/Throwable" "cause") ∈ lw_all := lw_g (lw_at lw_m2 189 rfl) rfl
theorem q540 : (Jvm.Cond.soleField "java/lang/Throwable" "stackTrace") ∈ lw_all := lw_g (lw_at lw_m2 191 rfl) rfl
theorem q542 : (Jvm.Cond.soleField "java/lang/Throwable" "depth") ∈ lw_all := lw_g (lw_at lw_m2 193 rfl) rfl
theorem q544 : (Jvm.Cond.soleField "java/lang/Throwable" "suppressedExceptions") ∈ lw_all := lw_g (lw_at lw_m2 195 rfl) rfl
theorem q551 : (Jvm.Cond.declares ({ cls := "java/lang/Throwable", name := "<init>", desc := "()V" } : Jvm.MethodName)) ∈ lw_tbl := lw_at lw_m2 202 rfl
theorem q552 : (Jvm.Cond.declares ({ cls := "java/lang/Throwable", name := "<init>", desc := "(Ljava/lang/String;)V" } : Jvm.MethodName)) ∈ lw_tbl := lw_at lw_m2 203 rfl
theorem q554 : (Jvm.Cond.lays "java/lang/Throwable" "java/lang/Throwable" "cause" "Ljava/lang/Throwable;") ∈ lw_all := lw_g (lw_at lw_m2 205 rfl) rfl
theorem q555 : (Jvm.Cond.lays "java/lang/Throwable" "java/lang/Throwable" "stackTrace" "[Ljava/lang/StackTraceElement;") ∈ lw_all := lw_g (lw_at lw_m2 206 rfl) rfl
theorem q556 : (Jvm.Cond.lays "java/lang/Throwable" "java/lang/Throwable" "suppressedExceptions" "Ljava/util/List;") ∈ lw_all := lw_g (lw_at lw_m2 207 rfl) rfl
theorem q557 : (Jvm.Cond.lays "java/lang/Throwable" "java/lang/Throwable" "detailMessage" "Ljava/lang/String;") ∈ lw_all := lw_g (lw_at lw_m2 208 rfl) rfl
theorem q558 : (Jvm.Cond.lays "java/lang/Throwable" "java/lang/Throwable" "backtrace" "Ljava/lang/Object;") ∈ lw_all := lw_g (lw_at lw_m2 209 rfl) rfl
theorem q559 : (Jvm.Cond.fieldLink "java/lang/Throwable" (198 : Nat) "java/lang/Throwable" "backtrace" "Ljava/lang/Object;") ∈ lw_all := lw_g (lw_at lw_m2 210 rfl) rfl
theorem q560 : (Jvm.Cond.superclass "java/lang/Throwable" "java/lang/Object") ∈ lw_all := lw_g (lw_at lw_m2 211 rfl) rfl
theorem q561 : (Jvm.Cond.instanceMethod ({ cls := "java/lang/Throwable", name := "<init>", desc := "()V" } : Jvm.MethodName)) ∈ lw_all := lw_g (lw_at lw_m2 212 rfl) rfl
theorem q562 : (Jvm.Cond.code ({ cls := "java/lang/Throwable", name := "<init>", desc := "()V" } : Jvm.MethodName) prog_49_method_1_code (1 : Nat) (Option.none : Option Jvm.ClassFile.FieldType)) ∈ lw_all := lw_g (lw_at lw_m2 213 rfl) rfl
theorem q2279 : (Jvm.Cond.sameMethod "java/lang/Throwable" "java/lang/Throwable" "fillInStackTrace" "(I)Ljava/lang/Throwable;") ∈ lw_all := lw_g (lw_at lw_m10 10 rfl) rfl
theorem q118 : (Jvm.Cond.initialized "java/lang/Exception") ∈ lw_all := lw_g (lw_at lw_m1 9 rfl) rfl
theorem q492 : (Jvm.Cond.instanceMethod ({ cls := "java/lang/Exception", name := "<init>", desc := "(Ljava/lang/String;)V" } : Jvm.MethodName)) ∈ lw_all := lw_g (lw_at lw_m2 143 rfl) rfl
theorem q493 : (Jvm.Cond.code ({ cls := "java/lang/Exception", name := "<init>", desc := "(Ljava/lang/String;)V" } : Jvm.MethodName) prog_38_method_2_code (2 : Nat) (Option.none : Option Jvm.ClassFile.FieldType)) ∈ lw_all := lw_g (lw_at lw_m2 144 rfl) rfl
theorem q494 : (Jvm.Cond.methodLink "java/lang/Exception" (7 : Nat) ({ cls := "java/lang/Throwable", name := "<init>", desc := "(Ljava/lang/String;)V" } : Jvm.MethodName)) ∈ lw_all := lw_g (lw_at lw_m2 145 rfl) rfl
theorem q521 : (Jvm.Cond.superclass "java/lang/Exception" "java/lang/Throwable") ∈ lw_all := lw_g (lw_at lw_m2 172 rfl) rfl
theorem q549 : (Jvm.Cond.declares ({ cls := "java/lang/Exception", name := "<init>", desc := "()V" } : Jvm.MethodName)) ∈ lw_tbl := lw_at lw_m2 200 rfl
theorem q550 : (Jvm.Cond.declares ({ cls := "java/lang/Exception", name := "<init>", desc := "(Ljava/lang/String;)V" } : Jvm.MethodName)) ∈ lw_tbl := lw_at lw_m2 201 rfl
theorem q575 : (Jvm.Cond.instanceMethod ({ cls := "java/lang/Exception", name := "<init>", desc := "()V" } : Jvm.MethodName)) ∈ lw_all := lw_g (lw_at lw_m2 226 rfl) rfl
theorem q576 : (Jvm.Cond.code ({ cls := "java/lang/Exception", name := "<init>", desc := "()V" } : Jvm.MethodName) prog_38_method_1_code (1 : Nat) (Option.none : Option Jvm.ClassFile.FieldType)) ∈ lw_all := lw_g (lw_at lw_m2 227 rfl) rfl
theorem q577 : (Jvm.Cond.methodLink "java/lang/Exception" (1 : Nat) ({ cls := "java/lang/Throwable", name := "<init>", desc := "()V" } : Jvm.MethodName)) ∈ lw_all := lw_g (lw_at lw_m2 228 rfl) rfl
theorem q129 : (Jvm.Cond.initialized "java/lang/StringUTF16") ∈ lw_all := lw_g (lw_at lw_m1 20 rfl) rfl
theorem q801 : (Jvm.Cond.static ({ cls := "java/lang/StringUTF16", name := "indexOf", desc := "([BIII)I" } : Jvm.MethodName)) ∈ lw_all := lw_g (lw_at lw_m3 212 rfl) rfl
theorem q802 : (Jvm.Cond.code ({ cls := "java/lang/StringUTF16", name := "indexOf", desc := "([BIII)I" } : Jvm.MethodName) prog_47_method_40_code (4 : Nat) (Option.some Jvm.ClassFile.FieldType.int)) ∈ lw_all := lw_g (lw_at lw_m3 213 rfl) rfl
theorem q803 : (Jvm.Cond.methodLink "java/lang/StringUTF16" (224 : Nat) ({ cls := "java/lang/Math", name := "max", desc := "(II)I" } : Jvm.MethodName)) ∈ lw_all := lw_g (lw_at lw_m3 214 rfl) rfl
theorem q804 : (Jvm.Cond.methodLink "java/lang/StringUTF16" (183 : Nat) ({ cls := "java/lang/Math", name := "min", desc := "(II)I" } : Jvm.MethodName)) ∈ lw_all := lw_g (lw_at lw_m3 215 rfl) rfl
theorem q805 : (Jvm.Cond.constant "java/lang/StringUTF16" (227 : Nat) (65536 : Int32)) ∈ lw_all := lw_g (lw_at lw_m3 216 rfl) rfl
theorem q806 : (Jvm.Cond.methodLink "java/lang/StringUTF16" (228 : Nat) ({ cls := "java/lang/StringUTF16", name := "indexOfChar", desc := "([BIII)I" } : Jvm.MethodName)) ∈ lw_all := lw_g (lw_at lw_m3 217 rfl) rfl
theorem q807 : (Jvm.Cond.static ({ cls := "java/lang/StringUTF16", name := "indexOfChar", desc := "([BIII)I" } : Jvm.MethodName)) ∈ lw_all := lw_g (lw_at lw_m3 218 rfl) rfl
theorem q808 : (Jvm.Cond.code ({ cls := "java/lang/StringUTF16", name := "indexOfChar", desc := "([BIII)I" } : Jvm.MethodName) prog_47_method_47_code (4 : Nat) (Option.some Jvm.ClassFile.FieldType.int)) ∈ lw_all := lw_g (lw_at lw_m3 219 rfl) rfl
theorem q809 : (Jvm.Cond.methodLink "java/lang/StringUTF16" (96 : Nat) ({ cls := "java/lang/StringUTF16", name := "checkBoundsBeginEnd", desc := "(II[B)V" } : Jvm.MethodName)) ∈ lw_all := lw_g (lw_at lw_m3 220 rfl) rfl
theorem q810 : (Jvm.Cond.static ({ cls := "java/lang/StringUTF16", name := "checkBoundsBeginEnd", desc := "(II[B)V" } : Jvm.MethodName)) ∈ lw_all := lw_g (lw_at lw_m3 221 rfl) rfl
theorem q811 : (Jvm.Cond.code ({ cls := "java/lang/StringUTF16", name := "checkBoundsBeginEnd", desc := "(II[B)V" } : Jvm.MethodName) prog_47_method_93_code (3 : Nat) (Option.none : Option Jvm.ClassFile.FieldType)) ∈ lw_all := lw_g (lw_at lw_m3 222 rfl) rfl
theorem q812 : (Jvm.Cond.methodLink "java/lang/StringUTF16" (48 : Nat) ({ cls := "java/lang/StringUTF16", name := "length", desc := "([B)I" } : Jvm.MethodName)) ∈ lw_all := lw_g (lw_at lw_m3 223 rfl) rfl
theorem q813 : (Jvm.Cond.static ({ cls := "java/lang/StringUTF16", name := "length", desc := "([B)I" } : Jvm.MethodName)) ∈ lw_all := lw_g (lw_at lw_m3 224 rfl) rfl
theorem q814 : (Jvm.Cond.code ({ cls := "java/lang/StringUTF16", name := "length", desc := "([B)I" } : Jvm.MethodName) prog_47_method_6_code (1 : Nat) (Option.some Jvm.ClassFile.FieldType.int)) ∈ lw_all := lw_g (lw_at lw_m3 225 rfl) rfl
theorem q815 : (Jvm.Cond.methodLink "java/lang/StringUTF16" (241 : Nat) ({ cls := "java/lang/String", name := "checkBoundsBeginEnd", desc := "(III)V" } : Jvm.MethodName)) ∈ lw_all := lw_g (lw_at lw_m3 226 rfl) rfl
theorem q823 : (Jvm.Cond.methodLink "java/lang/StringUTF16" (244 : Nat) ({ cls := "java/lang/StringUTF16", name := "indexOfCharUnsafe", desc := "([BIII)I" } : Jvm.MethodName)) ∈ lw_all := lw_g (lw_at lw_m3 234 rfl) rfl
theorem q824 : (Jvm.Cond.static ({ cls := "java/lang/StringUTF16", name := "indexOfCharUnsafe", desc := "([BIII)I" } : Jvm.MethodName)) ∈ lw_all := lw_g (lw_at lw_m3 235 rfl) rfl
theorem q825 : (Jvm.Cond.code ({ cls := "java/lang/StringUTF16", name := "indexOfCharUnsafe", desc := "([BIII)I" } : Jvm.MethodName) prog_47_method_48_code (5 : Nat) (Option.some Jvm.ClassFile.FieldType.int)) ∈ lw_all := lw_g (lw_at lw_m3 236 rfl) rfl
theorem q826 : (Jvm.Cond.methodLink "java/lang/StringUTF16" (71 : Nat) ({ cls := "java/lang/StringUTF16", name := "getChar", desc := "([BI)C" } : Jvm.MethodName)) ∈ lw_all := lw_g (lw_at lw_m3 237 rfl) rfl
theorem q827 : (Jvm.Cond.static ({ cls := "java/lang/StringUTF16", name := "getChar", desc := "([BI)C" } : Jvm.MethodName)) ∈ lw_all := lw_g (lw_at lw_m3 238 rfl) rfl
theorem q828 : (Jvm.Cond.code ({ cls := "java/lang/StringUTF16", name := "getChar", desc := "([BI)C" } : Jvm.MethodName) prog_47_method_5_code (2 : Nat) (Option.some Jvm.ClassFile.FieldType.char)) ∈ lw_all := lw_g (lw_at lw_m3 239 rfl) rfl
theorem q829 : (Jvm.Cond.fieldLink "java/lang/StringUTF16" (44 : Nat) "java/lang/StringUTF16" "$assertionsDisabled" "Z") ∈ lw_all := lw_g (lw_at lw_m4 0 rfl) rfl
theorem q830 : (Jvm.Cond.laysStatic "java/lang/StringUTF16" "$assertionsDisabled" "Z") ∈ lw_tbl := lw_at lw_m4 1 rfl
theorem q831 : (Jvm.Cond.fieldLink "java/lang/StringUTF16" (59 : Nat) "java/lang/StringUTF16" "HI_BYTE_SHIFT" "I") ∈ lw_all := lw_g (lw_at lw_m4 2 rfl) rfl
theorem q832 : (Jvm.Cond.laysStatic "java/lang/StringUTF16" "HI_BYTE_SHIFT" "I") ∈ lw_tbl := lw_at lw_m4 3 rfl
theorem q833 : (Jvm.Cond.fieldLink "java/lang/StringUTF16" (63 : Nat) "java/lang/StringUTF16" "LO_BYTE_SHIFT" "I") ∈ lw_all := lw_g (lw_at lw_m4 4 rfl) rfl
theorem q834 : (Jvm.Cond.laysStatic "java/lang/StringUTF16" "LO_BYTE_SHIFT" "I") ∈ lw_tbl := lw_at lw_m4 5 rfl
theorem q835 : (Jvm.Cond.methodLink "java/lang/StringUTF16" (232 : Nat) ({ cls := "java/lang/StringUTF16", name := "indexOfSupplementary", desc := "([BIII)I" } : Jvm.MethodName)) ∈ lw_all := lw_g (lw_at lw_m4 6 rfl) rfl
theorem q836 : (Jvm.Cond.static ({ cls := "java/lang/StringUTF16", name := "indexOfSupplementary", desc := "([BIII)I" } : Jvm.MethodName)) ∈ lw_all := lw_g (lw_at lw_m4 7 rfl) rfl
theorem q837 : (Jvm.Cond.code ({ cls := "java/lang/StringUTF16", name := "indexOfSupplementary", desc := "([BIII)I" } : Jvm.MethodName) prog_47_method_49_code (7 : Nat) (Option.some Jvm.ClassFile.FieldType.int)) ∈ lw_all := lw_g (lw_at lw_m4 8 rfl) rfl
theorem q838 : (Jvm.Cond.methodLink "java/lang/StringUTF16" (164 : Nat) ({ cls := "java/lang/Character", name := "isValidCodePoint", desc := "(I)Z" } : Jvm.MethodName)) ∈ lw_all := lw_g (lw_at lw_m4 9 rfl) rfl
theorem q841 : (Jvm.Cond.methodLink "java/lang/StringUTF16" (157 : Nat) ({ cls := "java/lang/Character", name := "highSurrogate", desc := "(I)C" } : Jvm.MethodName)) ∈ lw_all := lw_g (lw_at lw_m4 12 rfl) rfl
theorem q845 : (Jvm.Cond.methodLink "java/lang/StringUTF16" (161 : Nat) ({ cls := "java/lang/Character", name := "lowSurrogate", desc := "(I)C" } : Jvm.MethodName)) ∈ lw_all := lw_g (lw_at lw_m4 16 rfl) rfl
theorem q130 : (Jvm.Cond.initialized "jdk/internal/util/Preconditions") ∈ lw_all := lw_g (lw_at lw_m1 21 rfl) rfl
theorem q819 : (Jvm.Cond.laysStatic "jdk/internal/util/Preconditions" "SIOOBE_FORMATTER" "Ljava/util/function/BiFunction;") ∈ lw_tbl := lw_at lw_m3 230 rfl
theorem q821 : (Jvm.Cond.static ({ cls := "jdk/internal/util/Preconditions", name := "checkFromToIndex", desc := "(IIILjava/util/function/BiFunction;)I" } : Jvm.MethodName)) ∈ lw_all := lw_g (lw_at lw_m3 232 rfl) rfl
theorem q822 : (Jvm.Cond.code ({ cls := "jdk/internal/util/Preconditions", name := "checkFromToIndex", desc := "(IIILjava/util/function/BiFunction;)I" } : Jvm.MethodName) prog_50_method_12_code (4 : Nat) (Option.some Jvm.ClassFile.FieldType.int)) ∈ lw_all := lw_g (lw_at lw_m3 233 rfl) rfl
theorem q131 : (Jvm.Cond.initialized "java/lang/Character") ∈ lw_all := lw_g (lw_at lw_m1 22 rfl) rfl
theorem q839 : (Jvm.Cond.static ({ cls := "java/lang/Character", name := "isValidCodePoint", desc := "(I)Z" } : Jvm.MethodName)) ∈ lw_all := lw_g (lw_at lw_m4 10 rfl) rfl
theorem q840 : (Jvm.Cond.code ({ cls := "java/lang/Character", name := "isValidCodePoint", desc := "(I)Z" } : Jvm.MethodName) prog_36_method_11_code (2 : Nat) (Option.some Jvm.ClassFile.FieldType.boolean)) ∈ lw_all := lw_g (lw_at lw_m4 11 rfl) rfl
theorem q842 : (Jvm.Cond.static ({ cls := "java/lang/Character", name := "highSurrogate", desc := "(I)C" } : Jvm.MethodName)) ∈ lw_all := lw_g (lw_at lw_m4 13 rfl) rfl
theorem q843 : (Jvm.Cond.code ({ cls := "java/lang/Character", name := "highSurrogate", desc := "(I)C" } : Jvm.MethodName) prog_36_method_28_code (1 : Nat) (Option.some Jvm.ClassFile.FieldType.char)) ∈ lw_all := lw_g (lw_at lw_m4 14 rfl) rfl
theorem q844 : (Jvm.Cond.constant "java/lang/Character" (110 : Nat) (55232 : Int32)) ∈ lw_all := lw_g (lw_at lw_m4 15 rfl) rfl
theorem q846 : (Jvm.Cond.static ({ cls := "java/lang/Character", name := "lowSurrogate", desc := "(I)C" } : Jvm.MethodName)) ∈ lw_all := lw_g (lw_at lw_m4 17 rfl) rfl
theorem q847 : (Jvm.Cond.code ({ cls := "java/lang/Character", name := "lowSurrogate", desc := "(I)C" } : Jvm.MethodName) prog_36_method_29_code (1 : Nat) (Option.some Jvm.ClassFile.FieldType.char)) ∈ lw_all := lw_g (lw_at lw_m4 18 rfl) rfl
theorem q848 : (Jvm.Cond.constant "java/lang/Character" (76 : Nat) (56320 : Int32)) ∈ lw_all := lw_g (lw_at lw_m4 19 rfl) rfl
theorem q139 : (Jvm.Cond.initialized "java/lang/Integer") ∈ lw_all := lw_g (lw_at lw_m1 30 rfl) rfl
theorem q1067 : (Jvm.Cond.static ({ cls := "java/lang/Integer", name := "bitCount", desc := "(I)I" } : Jvm.MethodName)) ∈ lw_all := lw_g (lw_at lw_m4 238 rfl) rfl
theorem q1068 : (Jvm.Cond.code ({ cls := "java/lang/Integer", name := "bitCount", desc := "(I)I" } : Jvm.MethodName) prog_40_method_49_code (1 : Nat) (Option.some Jvm.ClassFile.FieldType.int)) ∈ lw_all := lw_g (lw_at lw_m4 239 rfl) rfl
theorem q1069 : (Jvm.Cond.constant "java/lang/Integer" (265 : Nat) (1431655765 : Int32)) ∈ lw_all := lw_g (lw_at lw_m5 0 rfl) rfl
theorem q1070 : (Jvm.Cond.constant "java/lang/Integer" (266 : Nat) (858993459 : Int32)) ∈ lw_all := lw_g (lw_at lw_m5 1 rfl) rfl
theorem q1071 : (Jvm.Cond.constant "java/lang/Integer" (267 : Nat) (252645135 : Int32)) ∈ lw_all := lw_g (lw_at lw_m5 2 rfl) rfl
theorem q149 : (Jvm.Cond.initialized "java/lang/NegativeArraySizeException") ∈ lw_all := lw_g (lw_at lw_m1 40 rfl) rfl
theorem q507 : (Jvm.Cond.selects "java/lang/NegativeArraySizeException" ({ cls := "java/lang/Throwable", name := "fillInStackTrace", desc := "()Ljava/lang/Throwable;" } : Jvm.MethodName) ({ cls := "java/lang/Throwable", name := "fillInStackTrace", desc := "()Ljava/lang/Throwable;" } : Jvm.MethodName)) ∈ lw_all := lw_g (lw_at lw_m2 158 rfl) rfl
theorem q1430 : (Jvm.Cond.instantiable "java/lang/NegativeArraySizeException" (6 : Nat)) ∈ lw_all := lw_g (lw_at lw_m6 121 rfl) rfl
theorem q1431 : (Jvm.Cond.instanceMethod ({ cls := "java/lang/NegativeArraySizeException", name := "<init>", desc := "(Ljava/lang/String;)V" } : Jvm.MethodName)) ∈ lw_all := lw_g (lw_at lw_m6 122 rfl) rfl
theorem q1432 : (Jvm.Cond.code ({ cls := "java/lang/NegativeArraySizeException", name := "<init>", desc := "(Ljava/lang/String;)V" } : Jvm.MethodName) prog_42_method_2_code (2 : Nat) (Option.none : Option Jvm.ClassFile.FieldType)) ∈ lw_all := lw_g (lw_at lw_m6 123 rfl) rfl
theorem q1433 : (Jvm.Cond.methodLink "java/lang/NegativeArraySizeException" (7 : Nat) ({ cls := "java/lang/RuntimeException", name := "<init>", desc := "(Ljava/lang/String;)V" } : Jvm.MethodName)) ∈ lw_all := lw_g (lw_at lw_m6 124 rfl) rfl
theorem q1434 : (Jvm.Cond.lays "java/lang/NegativeArraySizeException" "java/lang/Throwable" "backtrace" "Ljava/lang/Object;") ∈ lw_all := lw_g (lw_at lw_m6 125 rfl) rfl
theorem q1435 : (Jvm.Cond.lays "java/lang/NegativeArraySizeException" "java/lang/Throwable" "detailMessage" "Ljava/lang/String;") ∈ lw_all := lw_g (lw_at lw_m6 126 rfl) rfl
theorem q1436 : (Jvm.Cond.lays "java/lang/NegativeArraySizeException" "java/lang/Throwable" "cause" "Ljava/lang/Throwable;") ∈ lw_all := lw_g (lw_at lw_m6 127 rfl) rfl
theorem q1437 : (Jvm.Cond.lays "java/lang/NegativeArraySizeException" "java/lang/Throwable" "stackTrace" "[Ljava/lang/StackTraceElement;") ∈ lw_all := lw_g (lw_at lw_m6 128 rfl) rfl
theorem q1438 : (Jvm.Cond.lays "java/lang/NegativeArraySizeException" "java/lang/Throwable" "depth" "I") ∈ lw_all := lw_g (lw_at lw_m6 129 rfl) rfl
theorem q1439 : (Jvm.Cond.lays "java/lang/NegativeArraySizeException" "java/lang/Throwable" "suppressedExceptions" "Ljava/util/List;") ∈ lw_all := lw_g (lw_at lw_m6 130 rfl) rfl
theorem q1440 : (Jvm.Cond.superclass "java/lang/NegativeArraySizeException" "java/lang/RuntimeException") ∈ lw_all := lw_g (lw_at lw_m6 131 rfl) rfl
theorem q1441 : (Jvm.Cond.castable "java/lang/NegativeArraySizeException" "java/lang/NegativeArraySizeException") ∈ lw_tbl := lw_at lw_m6 132 rfl
theorem q1442 : (Jvm.Cond.selects "java/lang/NegativeArraySizeException" ({ cls := "java/lang/Throwable", name := "fillInStackTrace", desc := "(I)Ljava/lang/Throwable;" } : Jvm.MethodName) ({ cls := "java/lang/Throwable", name := "fillInStackTrace", desc := "(I)Ljava/lang/Throwable;" } : Jvm.MethodName)) ∈ lw_all := lw_g (lw_at lw_m6 133 rfl) rfl
theorem q163 : (Jvm.Cond.instanceMethod ({ cls := "java/lang/Object", name := "<init>", desc := "()V" } : Jvm.MethodName)) ∈ lw_all := lw_g (lw_at lw_m1 54 rfl) rfl
theorem q164 : (Jvm.Cond.code ({ cls := "java/lang/Object", name := "<init>", desc := "()V" } : Jvm.MethodName) object_method_1_code (1 : Nat) (Option.none : Option Jvm.ClassFile.FieldType)) ∈ lw_all := lw_g (lw_at lw_m1 55 rfl) rfl
theorem q119 : (Jvm.Cond.initialized "java/lang/RuntimeException") ∈ lw_all := lw_g (lw_at lw_m1 10 rfl) rfl
theorem q489 : (Jvm.Cond.instanceMethod ({ cls := "java/lang/RuntimeException", name := "<init>", desc := "(Ljava/lang/String;)V" } : Jvm.MethodName)) ∈ lw_all := lw_g (lw_at lw_m2 140 rfl) rfl
theorem q490 : (Jvm.Cond.code ({ cls := "java/lang/RuntimeException", name := "<init>", desc := "(Ljava/lang/String;)V" } : Jvm.MethodName) prog_44_method_2_code (2 : Nat) (Option.none : Option Jvm.ClassFile.FieldType)) ∈ lw_all := lw_g (lw_at lw_m2 141 rfl) rfl
theorem q491 : (Jvm.Cond.methodLink "java/lang/RuntimeException" (7 : Nat) ({ cls := "java/lang/Exception", name := "<init>", desc := "(Ljava/lang/String;)V" } : Jvm.MethodName)) ∈ lw_all := lw_g (lw_at lw_m2 142 rfl) rfl
theorem q517 : (Jvm.Cond.sameMethod "java/lang/RuntimeException" "java/lang/Throwable" "fillInStackTrace" "()Ljava/lang/Throwable;") ∈ lw_all := lw_g (lw_at lw_m2 168 rfl) rfl
theorem q520 : (Jvm.Cond.superclass "java/lang/RuntimeException" "java/lang/Exception") ∈ lw_all := lw_g (lw_at lw_m2 171 rfl) rfl
theorem q547 : (Jvm.Cond.declares ({ cls := "java/lang/RuntimeException", name := "<init>", desc := "()V" } : Jvm.MethodName)) ∈ lw_tbl := lw_at lw_m2 198 rfl
theorem q548 : (Jvm.Cond.declares ({ cls := "java/lang/RuntimeException", name := "<init>", desc := "(Ljava/lang/String;)V" } : Jvm.MethodName)) ∈ lw_tbl := lw_at lw_m2 199 rfl
theorem q572 : (Jvm.Cond.instanceMethod ({ cls := "java/lang/RuntimeException", name := "<init>", desc := "()V" } : Jvm.MethodName)) ∈ lw_all := lw_g (lw_at lw_m2 223 rfl) rfl
theorem q573 : (Jvm.Cond.code ({ cls := "java/lang/RuntimeException", name := "<init>", desc := "()V" } : Jvm.MethodName) prog_44_method_1_code (1 : Nat) (Option.none : Option Jvm.ClassFile.FieldType)) ∈ lw_all := lw_g (lw_at lw_m2 224 rfl) rfl
theorem q574 : (Jvm.Cond.methodLink "java/lang/RuntimeException" (1 : Nat) ({ cls := "java/lang/Exception", name := "<init>", desc := "()V" } : Jvm.MethodName)) ∈ lw_all := lw_g (lw_at lw_m2 225 rfl) rfl
theorem q592 : (Jvm.Cond.castable "java/lang/RuntimeException" "java/lang/Throwable") ∈ lw_tbl := lw_at lw_m3 3 rfl
theorem q120 : (Jvm.Cond.initialized "java/lang/ClassCastException") ∈ lw_all := lw_g (lw_at lw_m1 11 rfl) rfl
theorem q485 : (Jvm.Cond.instantiable "java/lang/ClassCastException" (6 : Nat)) ∈ lw_all := lw_g (lw_at lw_m2 136 rfl) rfl
theorem q486 : (Jvm.Cond.instanceMethod ({ cls := "java/lang/ClassCastException", name := "<init>", desc := "(Ljava/lang/String;)V" } : Jvm.MethodName)) ∈ lw_all := lw_g (lw_at lw_m2 137 rfl) rfl
theorem q487 : (Jvm.Cond.code ({ cls := "java/lang/ClassCastException", name := "<init>", desc := "(Ljava/lang/String;)V" } : Jvm.MethodName) prog_37_method_2_code (2 : Nat) (Option.none : Option Jvm.ClassFile.FieldType)) ∈ lw_all := lw_g (lw_at lw_m2 138 rfl) rfl
theorem q488 : (Jvm.Cond.methodLink "java/lang/ClassCastException" (7 : Nat) ({ cls := "java/lang/RuntimeException", name := "<init>", desc := "(Ljava/lang/String;)V" } : Jvm.MethodName)) ∈ lw_all := lw_g (lw_at lw_m2 139 rfl) rfl
theorem q506 : (Jvm.Cond.selects "java/lang/ClassCastException" ({ cls := "java/lang/Throwable", name := "fillInStackTrace", desc := "()Ljava/lang/Throwable;" } : Jvm.MethodName) ({ cls := "java/lang/Throwable", name := "fillInStackTrace", desc := "()Ljava/lang/Throwable;" } : Jvm.MethodName)) ∈ lw_all := lw_g (lw_at lw_m2 157 rfl) rfl
theorem q533 : (Jvm.Cond.lays "java/lang/ClassCastException" "java/lang/Throwable" "backtrace" "Ljava/lang/Object;") ∈ lw_all := lw_g (lw_at lw_m2 184 rfl) rfl
theorem q535 : (Jvm.Cond.lays "java/lang/ClassCastException" "java/lang/Throwable" "detailMessage" "Ljava/lang/String;") ∈ lw_all := lw_g (lw_at lw_m2 186 rfl) rfl
theorem q537 : (Jvm.Cond.lays "java/lang/ClassCastException" "java/lang/Throwable" "cause" "Ljava/lang/Throwable;") ∈ lw_all := lw_g (lw_at lw_m2 188 rfl) rfl
theorem q539 : (Jvm.Cond.lays "java/lang/ClassCastException" "java/lang/Throwable" "stackTrace" "[Ljava/lang/StackTraceElement;") ∈ lw_all := lw_g (lw_at lw_m2 190 rfl) rfl
theorem q541 : (Jvm.Cond.lays "java/lang/ClassCastException" "java/lang/Throwable" "depth" "I") ∈ lw_all := lw_g (lw_at lw_m2 192 rfl) rfl
theorem q543 : (Jvm.Cond.lays "java/lang/ClassCastException" "java/lang/Throwable" "suppressedExceptions" "Ljava/util/List;") ∈ lw_all := lw_g (lw_at lw_m2 194 rfl) rfl
theorem q545 : (Jvm.Cond.superclass "java/lang/ClassCastException" "java/lang/RuntimeException") ∈ lw_all := lw_g (lw_at lw_m2 196 rfl) rfl
theorem q546 : (Jvm.Cond.castable "java/lang/ClassCastException" "java/lang/ClassCastException") ∈ lw_tbl := lw_at lw_m2 197 rfl
theorem q553 : (Jvm.Cond.selects "java/lang/ClassCastException" ({ cls := "java/lang/Throwable", name := "fillInStackTrace", desc := "(I)Ljava/lang/Throwable;" } : Jvm.MethodName) ({ cls := "java/lang/Throwable", name := "fillInStackTrace", desc := "(I)Ljava/lang/Throwable;" } : Jvm.MethodName)) ∈ lw_all := lw_g (lw_at lw_m2 204 rfl) rfl
theorem q121 : (Jvm.Cond.initialized "java/lang/String") ∈ lw_all := lw_g (lw_at lw_m1 12 rfl) rfl
theorem q563 : (Jvm.Cond.instantiable "java/lang/String" (4 : Nat)) ∈ lw_all := lw_g (lw_at lw_m2 214 rfl) rfl
theorem q564 : (Jvm.Cond.laysFinal "java/lang/String" "java/lang/String" "value" "[B") ∈ lw_all := lw_g (lw_at lw_m2 215 rfl) rfl
theorem q565 : (Jvm.Cond.soleField "java/lang/String" "value") ∈ lw_all := lw_g (lw_at lw_m2 216 rfl) rfl
theorem q566 : (Jvm.Cond.laysFinal "java/lang/String" "java/lang/String" "coder" "B") ∈ lw_all := lw_g (lw_at lw_m2 217 rfl) rfl
theorem q567 : (Jvm.Cond.soleField "java/lang/String" "coder") ∈ lw_all := lw_g (lw_at lw_m2 218 rfl) rfl
theorem q764 : (Jvm.Cond.instanceMethod ({ cls := "java/lang/String", name := "indexOf", desc := "(I)I" } : Jvm.MethodName)) ∈ lw_all := lw_g (lw_at lw_m3 175 rfl) rfl
theorem q765 : (Jvm.Cond.selects "java/lang/String" ({ cls := "java/lang/String", name := "indexOf", desc := "(I)I" } : Jvm.MethodName) ({ cls := "java/lang/String", name := "indexOf", desc := "(I)I" } : Jvm.MethodName)) ∈ lw_all := lw_g (lw_at lw_m3 176 rfl) rfl
theorem q766 : (Jvm.Cond.code ({ cls := "java/lang/String", name := "indexOf", desc := "(I)I" } : Jvm.MethodName) prog_45_method_79_code (2 : Nat) (Option.some Jvm.ClassFile.FieldType.int)) ∈ lw_all := lw_g (lw_at lw_m3 177 rfl) rfl
theorem q767 : (Jvm.Cond.methodLink "java/lang/String" (633 : Nat) ({ cls := "java/lang/String", name := "indexOf", desc := "(II)I" } : Jvm.MethodName)) ∈ lw_all := lw_g (lw_at lw_m3 178 rfl) rfl
theorem q768 : (Jvm.Cond.instanceMethod ({ cls := "java/lang/String", name := "indexOf", desc := "(II)I" } : Jvm.MethodName)) ∈ lw_all := lw_g (lw_at lw_m3 179 rfl) rfl
theorem q769 : (Jvm.Cond.selects "java/lang/String" ({ cls := "java/lang/String", name := "indexOf", desc := "(II)I" } : Jvm.MethodName) ({ cls := "java/lang/String", name := "indexOf", desc := "(II)I" } : Jvm.MethodName)) ∈ lw_all := lw_g (lw_at lw_m3 180 rfl) rfl
theorem q770 : (Jvm.Cond.code ({ cls := "java/lang/String", name := "indexOf", desc := "(II)I" } : Jvm.MethodName) prog_45_method_80_code (3 : Nat) (Option.some Jvm.ClassFile.FieldType.int)) ∈ lw_all := lw_g (lw_at lw_m3 181 rfl) rfl
theorem q771 : (Jvm.Cond.methodLink "java/lang/String" (492 : Nat) ({ cls := "java/lang/String", name := "isLatin1", desc := "()Z" } : Jvm.MethodName)) ∈ lw_all := lw_g (lw_at lw_m3 182 rfl) rfl
theorem q772 : (Jvm.Cond.instanceMethod ({ cls := "java/lang/String", name := "isLatin1", desc := "()Z" } : Jvm.MethodName)) ∈ lw_all := lw_g (lw_at lw_m3 183 rfl) rfl
theorem q773 : (Jvm.Cond.selects "java/lang/String" ({ cls := "java/lang/String", name := "isLatin1", desc := "()Z" } : Jvm.MethodName) ({ cls := "java/lang/String", name := "isLatin1", desc := "()Z" } : Jvm.MethodName)) ∈ lw_all := lw_g (lw_at lw_m3 184 rfl) rfl
theorem q774 : (Jvm.Cond.code ({ cls := "java/lang/String", name := "isLatin1", desc := "()Z" } : Jvm.MethodName) prog_45_method_154_code (1 : Nat) (Option.some Jvm.ClassFile.FieldType.boolean)) ∈ lw_all := lw_g (lw_at lw_m3 185 rfl) rfl
theorem q775 : (Jvm.Cond.fieldLink "java/lang/String" (38 : Nat) "java/lang/String" "COMPACT_STRINGS" "Z") ∈ lw_all := lw_g (lw_at lw_m3 186 rfl) rfl
theorem q776 : (Jvm.Cond.laysStatic "java/lang/String" "COMPACT_STRINGS" "Z") ∈ lw_tbl := lw_at lw_m3 187 rfl
theorem q777 : (Jvm.Cond.methodLink "java/lang/String" (505 : Nat) ({ cls := "java/lang/String", name := "length", desc := "()I" } : Jvm.MethodName)) ∈ lw_all := lw_g (lw_at lw_m3 188 rfl) rfl
theorem q778 : (Jvm.Cond.instanceMethod ({ cls := "java/lang/String", name := "length", desc := "()I" } : Jvm.MethodName)) ∈ lw_all := lw_g (lw_at lw_m3 189 rfl) rfl
theorem q779 : (Jvm.Cond.selects "java/lang/String" ({ cls := "java/lang/String", name := "length", desc := "()I" } : Jvm.MethodName) ({ cls := "java/lang/String", name := "length", desc := "()I" } : Jvm.MethodName)) ∈ lw_all := lw_g (lw_at lw_m3 190 rfl) rfl
theorem q780 : (Jvm.Cond.code ({ cls := "java/lang/String", name := "length", desc := "()I" } : Jvm.MethodName) prog_45_method_54_code (1 : Nat) (Option.some Jvm.ClassFile.FieldType.int)) ∈ lw_all := lw_g (lw_at lw_m3 191 rfl) rfl
theorem q781 : (Jvm.Cond.methodLink "java/lang/String" (335 : Nat) ({ cls := "java/lang/String", name := "coder", desc := "()B" } : Jvm.MethodName)) ∈ lw_all := lw_g (lw_at lw_m3 192 rfl) rfl
theorem q782 : (Jvm.Cond.instanceMethod ({ cls := "java/lang/String", name := "coder", desc := "()B" } : Jvm.MethodName)) ∈ lw_all := lw_g (lw_at lw_m3 193 rfl) rfl
theorem q783 : (Jvm.Cond.selects "java/lang/String" ({ cls := "java/lang/String", name := "coder", desc := "()B" } : Jvm.MethodName) ({ cls := "java/lang/String", name := "coder", desc := "()B" } : Jvm.MethodName)) ∈ lw_all := lw_g (lw_at lw_m3 194 rfl) rfl
theorem q784 : (Jvm.Cond.code ({ cls := "java/lang/String", name := "coder", desc := "()B" } : Jvm.MethodName) prog_45_method_152_code (1 : Nat) (Option.some Jvm.ClassFile.FieldType.byte)) ∈ lw_all := lw_g (lw_at lw_m3 195 rfl) rfl
theorem q785 : (Jvm.Cond.methodLink "java/lang/String" (637 : Nat) ({ cls := "java/lang/StringLatin1", name := "indexOf", desc := "([BIII)I" } : Jvm.MethodName)) ∈ lw_all := lw_g (lw_at lw_m3 196 rfl) rfl
theorem q800 : (Jvm.Cond.methodLink "java/lang/String" (640 : Nat) ({ cls := "java/lang/StringUTF16", name := "indexOf", desc := "([BIII)I" } : Jvm.MethodName)) ∈ lw_all := lw_g (lw_at lw_m3 211 rfl) rfl
theorem q816 : (Jvm.Cond.static ({ cls := "java/lang/String", name := "checkBoundsBeginEnd", desc := "(III)V" } : Jvm.MethodName)) ∈ lw_all := lw_g (lw_at lw_m3 227 rfl) rfl
theorem q817 : (Jvm.Cond.code ({ cls := "java/lang/String", name := "checkBoundsBeginEnd", desc := "(III)V" } : Jvm.MethodName) prog_45_method_158_code (3 : Nat) (Option.none : Option Jvm.ClassFile.FieldType)) ∈ lw_all := lw_g (lw_at lw_m3 228 rfl) rfl
theorem q818 : (Jvm.Cond.fieldLink "java/lang/String" (1053 : Nat) "jdk/internal/util/Preconditions" "SIOOBE_FORMATTER" "Ljava/util/function/BiFunction;") ∈ lw_all := lw_g (lw_at lw_m3 229 rfl) rfl
theorem q820 : (Jvm.Cond.methodLink "java/lang/String" (1062 : Nat) ({ cls := "jdk/internal/util/Preconditions", name := "checkFromToIndex", desc := "(IIILjava/util/function/BiFunction;)I" } : Jvm.MethodName)) ∈ lw_all := lw_g (lw_at lw_m3 231 rfl) rfl
theorem q2326 : (Jvm.Cond.fieldLink "java/lang/String" (15 : Nat) "java/lang/String" "coder" "B") ∈ lw_all := lw_g (lw_at lw_m10 57 rfl) rfl
theorem q2327 : (Jvm.Cond.fieldLink "java/lang/String" (9 : Nat) "java/lang/String" "value" "[B") ∈ lw_all := lw_g (lw_at lw_m10 58 rfl) rfl
theorem q122 : (Jvm.Cond.initialized "java/lang/NullPointerException") ∈ lw_all := lw_g (lw_at lw_m1 13 rfl) rfl
theorem q508 : (Jvm.Cond.selects "java/lang/NullPointerException" ({ cls := "java/lang/Throwable", name := "fillInStackTrace", desc := "()Ljava/lang/Throwable;" } : Jvm.MethodName) ({ cls := "java/lang/NullPointerException", name := "fillInStackTrace", desc := "()Ljava/lang/Throwable;" } : Jvm.MethodName)) ∈ lw_all := lw_g (lw_at lw_m2 159 rfl) rfl
theorem q509 : (Jvm.Cond.instanceMethod ({ cls := "java/lang/NullPointerException", name := "fillInStackTrace", desc := "()Ljava/lang/Throwable;" } : Jvm.MethodName)) ∈ lw_all := lw_g (lw_at lw_m2 160 rfl) rfl
theorem q510 : (Jvm.Cond.codeSync ({ cls := "java/lang/NullPointerException", name := "fillInStackTrace", desc := "()Ljava/lang/Throwable;" } : Jvm.MethodName) prog_43_method_3_code (1 : Nat) (Option.some (Jvm.ClassFile.FieldType.object "java/lang/Throwable"))) ∈ lw_all := lw_g (lw_at lw_m2 161 rfl) rfl
theorem q511 : (Jvm.Cond.methodLink "java/lang/NullPointerException" (16 : Nat) ({ cls := "java/lang/NullPointerException", name := "getExtendedNPEMessage", desc := "()Ljava/lang/String;" } : Jvm.MethodName)) ∈ lw_all := lw_g (lw_at lw_m2 162 rfl) rfl
theorem q512 : (Jvm.Cond.privateMethod ({ cls := "java/lang/NullPointerException", name := "getExtendedNPEMessage", desc := "()Ljava/lang/String;" } : Jvm.MethodName)) ∈ lw_tbl := lw_at lw_m2 163 rfl
theorem q513 : (Jvm.Cond.instanceMethod ({ cls := "java/lang/NullPointerException", name := "getExtendedNPEMessage", desc := "()Ljava/lang/String;" } : Jvm.MethodName)) ∈ lw_all := lw_g (lw_at lw_m2 164 rfl) rfl
theorem q514 : (Jvm.Cond.instantiable "java/lang/NullPointerException" (8 : Nat)) ∈ lw_all := lw_g (lw_at lw_m2 165 rfl) rfl
theorem q515 : (Jvm.Cond.native ({ cls := "java/lang/NullPointerException", name := "getExtendedNPEMessage", desc := "()Ljava/lang/String;" } : Jvm.MethodName)) ∈ lw_all := lw_g (lw_at lw_m2 166 rfl) rfl
theorem q516 : (Jvm.Cond.methodLink "java/lang/NullPointerException" (24 : Nat) ({ cls := "java/lang/RuntimeException", name := "fillInStackTrace", desc := "()Ljava/lang/Throwable;" } : Jvm.MethodName)) ∈ lw_all := lw_g (lw_at lw_m2 167 rfl) rfl
theorem q519 : (Jvm.Cond.superclass "java/lang/NullPointerException" "java/lang/RuntimeException") ∈ lw_all := lw_g (lw_at lw_m2 170 rfl) rfl
theorem q569 : (Jvm.Cond.instanceMethod ({ cls := "java/lang/NullPointerException", name := "<init>", desc := "()V" } : Jvm.MethodName)) ∈ lw_all := lw_g (lw_at lw_m2 220 rfl) rfl
theorem q570 : (Jvm.Cond.code ({ cls := "java/lang/NullPointerException", name := "<init>", desc := "()V" } : Jvm.MethodName) prog_43_method_1_code (1 : Nat) (Option.none : Option Jvm.ClassFile.FieldType)) ∈ lw_all := lw_g (lw_at lw_m2 221 rfl) rfl
theorem q571 : (Jvm.Cond.methodLink "java/lang/NullPointerException" (1 : Nat) ({ cls := "java/lang/RuntimeException", name := "<init>", desc := "()V" } : Jvm.MethodName)) ∈ lw_all := lw_g (lw_at lw_m2 222 rfl) rfl
theorem q578 : (Jvm.Cond.fieldLink "java/lang/NullPointerException" (10 : Nat) "java/lang/NullPointerException" "extendedMessageState" "I") ∈ lw_all := lw_g (lw_at lw_m2 229 rfl) rfl
theorem q579 : (Jvm.Cond.fieldLink "java/lang/NullPointerException" (20 : Nat) "java/lang/NullPointerException" "extendedMessage" "Ljava/lang/String;") ∈ lw_all := lw_g (lw_at lw_m2 230 rfl) rfl
theorem q580 : (Jvm.Cond.lays "java/lang/NullPointerException" "java/lang/NullPointerException" "extendedMessageState" "I") ∈ lw_all := lw_g (lw_at lw_m2 231 rfl) rfl
theorem q581 : (Jvm.Cond.soleField "java/lang/NullPointerException" "extendedMessageState") ∈ lw_all := lw_g (lw_at lw_m2 232 rfl) rfl
theorem q582 : (Jvm.Cond.lays "java/lang/NullPointerException" "java/lang/NullPointerException" "extendedMessage" "Ljava/lang/String;") ∈ lw_all := lw_g (lw_at lw_m2 233 rfl) rfl
theorem q583 : (Jvm.Cond.soleField "java/lang/NullPointerException" "extendedMessage") ∈ lw_all := lw_g (lw_at lw_m2 234 rfl) rfl
theorem q584 : (Jvm.Cond.lays "java/lang/NullPointerException" "java/lang/Throwable" "backtrace" "Ljava/lang/Object;") ∈ lw_all := lw_g (lw_at lw_m2 235 rfl) rfl
theorem q585 : (Jvm.Cond.lays "java/lang/NullPointerException" "java/lang/Throwable" "detailMessage" "Ljava/lang/String;") ∈ lw_all := lw_g (lw_at lw_m2 236 rfl) rfl
theorem q586 : (Jvm.Cond.lays "java/lang/NullPointerException" "java/lang/Throwable" "cause" "Ljava/lang/Throwable;") ∈ lw_all := lw_g (lw_at lw_m2 237 rfl) rfl
theorem q587 : (Jvm.Cond.lays "java/lang/NullPointerException" "java/lang/Throwable" "stackTrace" "[Ljava/lang/StackTraceElement;") ∈ lw_all := lw_g (lw_at lw_m2 238 rfl) rfl
theorem q588 : (Jvm.Cond.lays "java/lang/NullPointerException" "java/lang/Throwable" "depth" "I") ∈ lw_all := lw_g (lw_at lw_m2 239 rfl) rfl
theorem q589 : (Jvm.Cond.lays "java/lang/NullPointerException" "java/lang/Throwable" "suppressedExceptions" "Ljava/util/List;") ∈ lw_all := lw_g (lw_at lw_m3 0 rfl) rfl
theorem q590 : (Jvm.Cond.castable "java/lang/NullPointerException" "java/lang/NullPointerException") ∈ lw_tbl := lw_at lw_m3 1 rfl
theorem q591 : (Jvm.Cond.selects "java/lang/NullPointerException" ({ cls := "java/lang/Throwable", name := "fillInStackTrace", desc := "(I)Ljava/lang/Throwable;" } : Jvm.MethodName) ({ cls := "java/lang/Throwable", name := "fillInStackTrace", desc := "(I)Ljava/lang/Throwable;" } : Jvm.MethodName)) ∈ lw_all := lw_g (lw_at lw_m3 2 rfl) rfl
theorem q123 : (Jvm.Cond.initialized "java/lang/IndexOutOfBoundsException") ∈ lw_all := lw_g (lw_at lw_m1 14 rfl) rfl
theorem q598 : (Jvm.Cond.instanceMethod ({ cls := "java/lang/IndexOutOfBoundsException", name := "<init>", desc := "(Ljava/lang/String;)V" } : Jvm.MethodName)) ∈ lw_all := lw_g (lw_at lw_m3 9 rfl) rfl
theorem q599 : (Jvm.Cond.code ({ cls := "java/lang/IndexOutOfBoundsException", name := "<init>", desc := "(Ljava/lang/String;)V" } : Jvm.MethodName) prog_39_method_2_code (2 : Nat) (Option.none : Option Jvm.ClassFile.FieldType)) ∈ lw_all := lw_g (lw_at lw_m3 10 rfl) rfl
theorem q600 : (Jvm.Cond.methodLink "java/lang/IndexOutOfBoundsException" (7 : Nat) ({ cls := "java/lang/RuntimeException", name := "<init>", desc := "(Ljava/lang/String;)V" } : Jvm.MethodName)) ∈ lw_all := lw_g (lw_at lw_m3 11 rfl) rfl
theorem q609 : (Jvm.Cond.declares ({ cls := "java/lang/IndexOutOfBoundsException", name := "<init>", desc := "()V" } : Jvm.MethodName)) ∈ lw_tbl := lw_at lw_m3 20 rfl
theorem q610 : (Jvm.Cond.declares ({ cls := "java/lang/IndexOutOfBoundsException", name := "<init>", desc := "(Ljava/lang/String;)V" } : Jvm.MethodName)) ∈ lw_tbl := lw_at lw_m3 21 rfl
theorem q124 : (Jvm.Cond.initialized "java/lang/ArrayIndexOutOfBoundsException") ∈ lw_all := lw_g (lw_at lw_m1 15 rfl) rfl
theorem q505 : (Jvm.Cond.selects "java/lang/ArrayIndexOutOfBoundsException" ({ cls := "java/lang/Throwable", name := "fillInStackTrace", desc := "()Ljava/lang/Throwable;" } : Jvm.MethodName) ({ cls := "java/lang/Throwable", name := "fillInStackTrace", desc := "()Ljava/lang/Throwable;" } : Jvm.MethodName)) ∈ lw_all := lw_g (lw_at lw_m2 156 rfl) rfl
theorem q594 : (Jvm.Cond.instantiable "java/lang/ArrayIndexOutOfBoundsException" (6 : Nat)) ∈ lw_all := lw_g (lw_at lw_m3 5 rfl) rfl
theorem q595 : (Jvm.Cond.instanceMethod ({ cls := "java/lang/ArrayIndexOutOfBoundsException", name := "<init>", desc := "(Ljava/lang/String;)V" } : Jvm.MethodName)) ∈ lw_all := lw_g (lw_at lw_m3 6 rfl) rfl
theorem q596 : (Jvm.Cond.code ({ cls := "java/lang/ArrayIndexOutOfBoundsException", name := "<init>", desc := "(Ljava/lang/String;)V" } : Jvm.MethodName) prog_35_method_2_code (2 : Nat) (Option.none : Option Jvm.ClassFile.FieldType)) ∈ lw_all := lw_g (lw_at lw_m3 7 rfl) rfl
theorem q597 : (Jvm.Cond.methodLink "java/lang/ArrayIndexOutOfBoundsException" (7 : Nat) ({ cls := "java/lang/IndexOutOfBoundsException", name := "<init>", desc := "(Ljava/lang/String;)V" } : Jvm.MethodName)) ∈ lw_all := lw_g (lw_at lw_m3 8 rfl) rfl
theorem q601 : (Jvm.Cond.lays "java/lang/ArrayIndexOutOfBoundsException" "java/lang/Throwable" "backtrace" "Ljava/lang/Object;") ∈ lw_all := lw_g (lw_at lw_m3 12 rfl) rfl
theorem q602 : (Jvm.Cond.lays "java/lang/ArrayIndexOutOfBoundsException" "java/lang/Throwable" "detailMessage" "Ljava/lang/String;") ∈ lw_all := lw_g (lw_at lw_m3 13 rfl) rfl
theorem q603 : (Jvm.Cond.lays "java/lang/ArrayIndexOutOfBoundsException" "java/lang/Throwable" "cause" "Ljava/lang/Throwable;") ∈ lw_all := lw_g (lw_at lw_m3 14 rfl) rfl
theorem q604 : (Jvm.Cond.lays "java/lang/ArrayIndexOutOfBoundsException" "java/lang/Throwable" "stackTrace" "[Ljava/lang/StackTraceElement;") ∈ lw_all := lw_g (lw_at lw_m3 15 rfl) rfl
theorem q605 : (Jvm.Cond.lays "java/lang/ArrayIndexOutOfBoundsException" "java/lang/Throwable" "depth" "I") ∈ lw_all := lw_g (lw_at lw_m3 16 rfl) rfl
theorem q606 : (Jvm.Cond.lays "java/lang/ArrayIndexOutOfBoundsException" "java/lang/Throwable" "suppressedExceptions" "Ljava/util/List;") ∈ lw_all := lw_g (lw_at lw_m3 17 rfl) rfl
theorem q607 : (Jvm.Cond.superclass "java/lang/ArrayIndexOutOfBoundsException" "java/lang/IndexOutOfBoundsException") ∈ lw_all := lw_g (lw_at lw_m3 18 rfl) rfl
theorem q608 : (Jvm.Cond.castable "java/lang/ArrayIndexOutOfBoundsException" "java/lang/ArrayIndexOutOfBoundsException") ∈ lw_tbl := lw_at lw_m3 19 rfl
theorem q611 : (Jvm.Cond.selects "java/lang/ArrayIndexOutOfBoundsException" ({ cls := "java/lang/Throwable", name := "fillInStackTrace", desc := "(I)Ljava/lang/Throwable;" } : Jvm.MethodName) ({ cls := "java/lang/Throwable", name := "fillInStackTrace", desc := "(I)Ljava/lang/Throwable;" } : Jvm.MethodName)) ∈ lw_all := lw_g (lw_at lw_m3 22 rfl) rfl
theorem q2300 : (Jvm.Cond.castable "java/lang/ArrayIndexOutOfBoundsException" "java/lang/IndexOutOfBoundsException") ∈ lw_tbl := lw_at lw_m10 31 rfl
theorem q127 : (Jvm.Cond.initialized "java/lang/StringLatin1") ∈ lw_all := lw_g (lw_at lw_m1 18 rfl) rfl
theorem q786 : (Jvm.Cond.static ({ cls := "java/lang/StringLatin1", name := "indexOf", desc := "([BIII)I" } : Jvm.MethodName)) ∈ lw_all := lw_g (lw_at lw_m3 197 rfl) rfl
theorem q787 : (Jvm.Cond.code ({ cls := "java/lang/StringLatin1", name := "indexOf", desc := "([BIII)I" } : Jvm.MethodName) prog_46_method_22_code (4 : Nat) (Option.some Jvm.ClassFile.FieldType.int)) ∈ lw_all := lw_g (lw_at lw_m3 198 rfl) rfl
theorem q788 : (Jvm.Cond.methodLink "java/lang/StringLatin1" (88 : Nat) ({ cls := "java/lang/StringLatin1", name := "canEncode", desc := "(I)Z" } : Jvm.MethodName)) ∈ lw_all := lw_g (lw_at lw_m3 199 rfl) rfl
theorem q789 : (Jvm.Cond.static ({ cls := "java/lang/StringLatin1", name := "canEncode", desc := "(I)Z" } : Jvm.MethodName)) ∈ lw_all := lw_g (lw_at lw_m3 200 rfl) rfl
theorem q790 : (Jvm.Cond.code ({ cls := "java/lang/StringLatin1", name := "canEncode", desc := "(I)Z" } : Jvm.MethodName) prog_46_method_4_code (1 : Nat) (Option.some Jvm.ClassFile.FieldType.boolean)) ∈ lw_all := lw_g (lw_at lw_m3 201 rfl) rfl
theorem q791 : (Jvm.Cond.methodLink "java/lang/StringLatin1" (92 : Nat) ({ cls := "java/lang/Math", name := "max", desc := "(II)I" } : Jvm.MethodName)) ∈ lw_all := lw_g (lw_at lw_m3 202 rfl) rfl
theorem q794 : (Jvm.Cond.methodLink "java/lang/StringLatin1" (38 : Nat) ({ cls := "java/lang/Math", name := "min", desc := "(II)I" } : Jvm.MethodName)) ∈ lw_all := lw_g (lw_at lw_m3 205 rfl) rfl
theorem q797 : (Jvm.Cond.methodLink "java/lang/StringLatin1" (95 : Nat) ({ cls := "java/lang/StringLatin1", name := "indexOfChar", desc := "([BIII)I" } : Jvm.MethodName)) ∈ lw_all := lw_g (lw_at lw_m3 208 rfl) rfl
theorem q798 : (Jvm.Cond.static ({ cls := "java/lang/StringLatin1", name := "indexOfChar", desc := "([BIII)I" } : Jvm.MethodName)) ∈ lw_all := lw_g (lw_at lw_m3 209 rfl) rfl
theorem q799 : (Jvm.Cond.code ({ cls := "java/lang/StringLatin1", name := "indexOfChar", desc := "([BIII)I" } : Jvm.MethodName) prog_46_method_23_code (6 : Nat) (Option.some Jvm.ClassFile.FieldType.int)) ∈ lw_all := lw_g (lw_at lw_m3 210 rfl) rfl
theorem q128 : (Jvm.Cond.initialized "java/lang/Math") ∈ lw_all := lw_g (lw_at lw_m1 19 rfl) rfl
theorem q792 : (Jvm.Cond.static ({ cls := "java/lang/Math", name := "max", desc := "(II)I" } : Jvm.MethodName)) ∈ lw_all := lw_g (lw_at lw_m3 203 rfl) rfl
theorem q793 : (Jvm.Cond.code ({ cls := "java/lang/Math", name := "max", desc := "(II)I" } : Jvm.MethodName) prog_41_method_65_code (2 : Nat) (Option.some Jvm.ClassFile.FieldType.int)) ∈ lw_all := lw_g (lw_at lw_m3 204 rfl) rfl
theorem q795 : (Jvm.Cond.static ({ cls := "java/lang/Math", name := "min", desc := "(II)I" } : Jvm.MethodName)) ∈ lw_all := lw_g (lw_at lw_m3 206 rfl) rfl
theorem q796 : (Jvm.Cond.code ({ cls := "java/lang/Math", name := "min", desc := "(II)I" } : Jvm.MethodName) prog_41_method_69_code (2 : Nat) (Option.some Jvm.ClassFile.FieldType.int)) ∈ lw_all := lw_g (lw_at lw_m3 207 rfl) rfl
theorem q1085 : (Jvm.Cond.static ({ cls := "java/lang/Math", name := "abs", desc := "(I)I" } : Jvm.MethodName)) ∈ lw_all := lw_g (lw_at lw_m5 16 rfl) rfl
theorem q1086 : (Jvm.Cond.code ({ cls := "java/lang/Math", name := "abs", desc := "(I)I" } : Jvm.MethodName) prog_41_method_59_code (1 : Nat) (Option.some Jvm.ClassFile.FieldType.int)) ∈ lw_all := lw_g (lw_at lw_m5 17 rfl) rfl
theorem q110 : (Jvm.Cond.initialized "SpeaksInTurn") ∈ lw_all := lw_g (lw_at lw_m1 1 rfl) rfl
theorem q158 : (Jvm.Cond.instantiable "SpeaksInTurn" (34 : Nat)) ∈ lw_all := lw_g (lw_at lw_m1 49 rfl) rfl
theorem q160 : (Jvm.Cond.instanceMethod ({ cls := "SpeaksInTurn", name := "<init>", desc := "()V" } : Jvm.MethodName)) ∈ lw_all := lw_g (lw_at lw_m1 51 rfl) rfl
theorem q161 : (Jvm.Cond.code ({ cls := "SpeaksInTurn", name := "<init>", desc := "()V" } : Jvm.MethodName) prog_1_method_1_code (1 : Nat) (Option.none : Option Jvm.ClassFile.FieldType)) ∈ lw_all := lw_g (lw_at lw_m1 52 rfl) rfl
theorem q162 : (Jvm.Cond.methodLink "SpeaksInTurn" (1 : Nat) ({ cls := "java/lang/Object", name := "<init>", desc := "()V" } : Jvm.MethodName)) ∈ lw_all := lw_g (lw_at lw_m1 53 rfl) rfl
theorem q165 : (Jvm.Cond.classLink "SpeaksInTurn" (9 : Nat) "SpeaksInTurn$Person") ∈ lw_all := lw_g (lw_at lw_m1 56 rfl) rfl
theorem q167 : (Jvm.Cond.classLink "SpeaksInTurn" (15 : Nat) "SpeaksInTurn$Thing") ∈ lw_all := lw_g (lw_at lw_m1 58 rfl) rfl
theorem q169 : (Jvm.Cond.classLink "SpeaksInTurn" (21 : Nat) "SpeaksInTurn$Card") ∈ lw_all := lw_g (lw_at lw_m1 60 rfl) rfl
theorem q171 : (Jvm.Cond.classLink "SpeaksInTurn" (31 : Nat) "SpeaksInTurn$Change") ∈ lw_all := lw_g (lw_at lw_m1 62 rfl) rfl
theorem q173 : (Jvm.Cond.classLink "SpeaksInTurn" (41 : Nat) "SpeaksInTurn$Facts") ∈ lw_all := lw_g (lw_at lw_m1 64 rfl) rfl
theorem q175 : (Jvm.Cond.methodLinkNest "SpeaksInTurn" (43 : Nat) ({ cls := "SpeaksInTurn$Facts", name := "<init>", desc := "()V" } : Jvm.MethodName) "SpeaksInTurn") ∈ lw_tbl := lw_at lw_m1 66 rfl
theorem q181 : (Jvm.Cond.fieldLinkNest "SpeaksInTurn" (236 : Nat) "SpeaksInTurn$Facts" "named" "[I" "SpeaksInTurn") ∈ lw_tbl := lw_at lw_m1 72 rfl
theorem q187 : (Jvm.Cond.classLink "SpeaksInTurn" (52 : Nat) "SpeaksInTurn$Meeting") ∈ lw_all := lw_g (lw_at lw_m1 78 rfl) rfl
theorem q189 : (Jvm.Cond.methodLinkNest "SpeaksInTurn" (54 : Nat) ({ cls := "SpeaksInTurn$Meeting", name := "<init>", desc := "(LSpeaksInTurn;)V" } : Jvm.MethodName) "SpeaksInTurn") ∈ lw_tbl := lw_at lw_m1 80 rfl
theorem q194 : (Jvm.Cond.fieldLinkNest "SpeaksInTurn" (336 : Nat) "SpeaksInTurn$Meeting" "took" "[I" "SpeaksInTurn") ∈ lw_tbl := lw_at lw_m1 85 rfl
theorem q196 : (Jvm.Cond.fieldLinkNest "SpeaksInTurn" (321 : Nat) "SpeaksInTurn$Meeting" "begins" "[I" "SpeaksInTurn") ∈ lw_tbl := lw_at lw_m1 87 rfl
theorem q198 : (Jvm.Cond.fieldLinkNest "SpeaksInTurn" (315 : Nat) "SpeaksInTurn$Meeting" "who" "[I" "SpeaksInTurn") ∈ lw_tbl := lw_at lw_m1 89 rfl
theorem q200 : (Jvm.Cond.fieldLinkNest "SpeaksInTurn" (318 : Nat) "SpeaksInTurn$Meeting" "on" "[I" "SpeaksInTurn") ∈ lw_tbl := lw_at lw_m1 91 rfl
theorem q202 : (Jvm.Cond.fieldLinkNest "SpeaksInTurn" (324 : Nat) "SpeaksInTurn$Meeting" "lasts" "[I" "SpeaksInTurn") ∈ lw_tbl := lw_at lw_m1 93 rfl
theorem q204 : (Jvm.Cond.fieldLinkNest "SpeaksInTurn" (327 : Nat) "SpeaksInTurn$Meeting" "news" "[I" "SpeaksInTurn") ∈ lw_tbl := lw_at lw_m1 95 rfl
theorem q206 : (Jvm.Cond.fieldLinkNest "SpeaksInTurn" (330 : Nat) "SpeaksInTurn$Meeting" "again" "[I" "SpeaksInTurn") ∈ lw_tbl := lw_at lw_m1 97 rfl
theorem q208 : (Jvm.Cond.fieldLinkNest "SpeaksInTurn" (333 : Nat) "SpeaksInTurn$Meeting" "stopped" "[I" "SpeaksInTurn") ∈ lw_tbl := lw_at lw_m1 99 rfl
theorem q210 : (Jvm.Cond.fieldLinkNest "SpeaksInTurn" (348 : Nat) "SpeaksInTurn$Meeting" "firstBy" "[I" "SpeaksInTurn") ∈ lw_tbl := lw_at lw_m1 101 rfl
theorem q212 : (Jvm.Cond.fieldLinkNest "SpeaksInTurn" (351 : Nat) "SpeaksInTurn$Meeting" "firstIn" "[I" "SpeaksInTurn") ∈ lw_tbl := lw_at lw_m1 103 rfl
theorem q214 : (Jvm.Cond.fieldLinkNest "SpeaksInTurn" (339 : Nat) "SpeaksInTurn$Meeting" "spoke" "[I" "SpeaksInTurn") ∈ lw_tbl := lw_at lw_m1 105 rfl
theorem q216 : (Jvm.Cond.fieldLinkNest "SpeaksInTurn" (342 : Nat) "SpeaksInTurn$Meeting" "stops" "[I" "SpeaksInTurn") ∈ lw_tbl := lw_at lw_m1 107 rfl
theorem q218 : (Jvm.Cond.fieldLinkNest "SpeaksInTurn" (345 : Nat) "SpeaksInTurn$Meeting" "taken" "[I" "SpeaksInTurn") ∈ lw_tbl := lw_at lw_m1 109 rfl
theorem q223 : (Jvm.Cond.fieldLinkNest "SpeaksInTurn" (273 : Nat) "SpeaksInTurn$Meeting" "minute" "I" "SpeaksInTurn") ∈ lw_tbl := lw_at lw_m1 114 rfl
theorem q225 : (Jvm.Cond.fieldLinkNest "SpeaksInTurn" (276 : Nat) "SpeaksInTurn$Meeting" "many" "I" "SpeaksInTurn") ∈ lw_tbl := lw_at lw_m1 116 rfl
theorem q227 : (Jvm.Cond.fieldLinkNest "SpeaksInTurn" (288 : Nat) "SpeaksInTurn$Meeting" "said" "I" "SpeaksInTurn") ∈ lw_tbl := lw_at lw_m1 118 rfl
theorem q276 : (Jvm.Cond.classLink "SpeaksInTurn" (76 : Nat) "SpeaksInTurn$Plain") ∈ lw_all := lw_g (lw_at lw_m1 167 rfl) rfl
theorem q278 : (Jvm.Cond.classLink "SpeaksInTurn" (82 : Nat) "SpeaksInTurn$Held") ∈ lw_all := lw_g (lw_at lw_m1 169 rfl) rfl
theorem q280 : (Jvm.Cond.fieldLink "SpeaksInTurn" (11 : Nat) "SpeaksInTurn" "people" "[LSpeaksInTurn$Person;") ∈ lw_all := lw_g (lw_at lw_m1 171 rfl) rfl
theorem q282 : (Jvm.Cond.fieldLink "SpeaksInTurn" (17 : Nat) "SpeaksInTurn" "things" "[LSpeaksInTurn$Thing;") ∈ lw_all := lw_g (lw_at lw_m1 173 rfl) rfl
theorem q284 : (Jvm.Cond.fieldLink "SpeaksInTurn" (23 : Nat) "SpeaksInTurn" "cards" "[LSpeaksInTurn$Card;") ∈ lw_all := lw_g (lw_at lw_m1 175 rfl) rfl
theorem q286 : (Jvm.Cond.fieldLink "SpeaksInTurn" (88 : Nat) "SpeaksInTurn" "personMany" "I") ∈ lw_all := lw_g (lw_at lw_m1 177 rfl) rfl
theorem q289 : (Jvm.Cond.fieldLink "SpeaksInTurn" (95 : Nat) "SpeaksInTurn" "thingMany" "I") ∈ lw_all := lw_g (lw_at lw_m1 180 rfl) rfl
theorem q291 : (Jvm.Cond.fieldLink "SpeaksInTurn" (108 : Nat) "SpeaksInTurn" "cardMany" "I") ∈ lw_all := lw_g (lw_at lw_m1 182 rfl) rfl
theorem q292 : (Jvm.Cond.fieldLink "SpeaksInTurn" (136 : Nat) "SpeaksInTurn" "rule" "I") ∈ lw_all := lw_g (lw_at lw_m1 183 rfl) rfl
theorem q293 : (Jvm.Cond.fieldLink "SpeaksInTurn" (139 : Nat) "SpeaksInTurn" "standing" "I") ∈ lw_all := lw_g (lw_at lw_m1 184 rfl) rfl
theorem q295 : (Jvm.Cond.fieldLink "SpeaksInTurn" (27 : Nat) "SpeaksInTurn" "timer" "I") ∈ lw_all := lw_g (lw_at lw_m1 186 rfl) rfl
theorem q296 : (Jvm.Cond.fieldLink "SpeaksInTurn" (33 : Nat) "SpeaksInTurn" "changes" "[LSpeaksInTurn$Change;") ∈ lw_all := lw_g (lw_at lw_m1 187 rfl) rfl
theorem q297 : (Jvm.Cond.fieldLink "SpeaksInTurn" (176 : Nat) "SpeaksInTurn" "doneMany" "I") ∈ lw_all := lw_g (lw_at lw_m1 188 rfl) rfl
theorem q298 : (Jvm.Cond.fieldLink "SpeaksInTurn" (173 : Nat) "SpeaksInTurn" "undoneMany" "I") ∈ lw_all := lw_g (lw_at lw_m1 189 rfl) rfl
theorem q299 : (Jvm.Cond.fieldLink "SpeaksInTurn" (37 : Nat) "SpeaksInTurn" "tape" "[B") ∈ lw_all := lw_g (lw_at lw_m1 190 rfl) rfl
theorem q302 : (Jvm.Cond.fieldLink "SpeaksInTurn" (198 : Nat) "SpeaksInTurn" "taped" "I") ∈ lw_all := lw_g (lw_at lw_m1 193 rfl) rfl
theorem q303 : (Jvm.Cond.fieldLink "SpeaksInTurn" (211 : Nat) "SpeaksInTurn" "law" "LSpeaksInTurn$Line;") ∈ lw_all := lw_g (lw_at lw_m1 194 rfl) rfl
theorem q304 : (Jvm.Cond.fieldLink "SpeaksInTurn" (44 : Nat) "SpeaksInTurn" "facts" "LSpeaksInTurn$Facts;") ∈ lw_all := lw_g (lw_at lw_m1 195 rfl) rfl
theorem q305 : (Jvm.Cond.fieldLink "SpeaksInTurn" (48 : Nat) "SpeaksInTurn" "order" "[I") ∈ lw_all := lw_g (lw_at lw_m1 196 rfl) rfl
theorem q306 : (Jvm.Cond.fieldLink "SpeaksInTurn" (57 : Nat) "SpeaksInTurn" "kept" "LSpeaksInTurn$Meeting;") ∈ lw_all := lw_g (lw_at lw_m1 197 rfl) rfl
theorem q307 : (Jvm.Cond.fieldLink "SpeaksInTurn" (61 : Nat) "SpeaksInTurn" "tried" "LSpeaksInTurn$Meeting;") ∈ lw_all := lw_g (lw_at lw_m1 198 rfl) rfl
theorem q308 : (Jvm.Cond.fieldLink "SpeaksInTurn" (64 : Nat) "SpeaksInTurn" "keptTold" "[I") ∈ lw_all := lw_g (lw_at lw_m1 199 rfl) rfl
theorem q309 : (Jvm.Cond.fieldLink "SpeaksInTurn" (67 : Nat) "SpeaksInTurn" "keptSums" "[I") ∈ lw_all := lw_g (lw_at lw_m1 200 rfl) rfl
theorem q310 : (Jvm.Cond.fieldLink "SpeaksInTurn" (70 : Nat) "SpeaksInTurn" "keptThere" "[I") ∈ lw_all := lw_g (lw_at lw_m1 201 rfl) rfl
theorem q311 : (Jvm.Cond.fieldLink "SpeaksInTurn" (260 : Nat) "SpeaksInTurn" "hasMeeting" "Z") ∈ lw_all := lw_g (lw_at lw_m1 202 rfl) rfl
theorem q312 : (Jvm.Cond.fieldLink "SpeaksInTurn" (264 : Nat) "SpeaksInTurn" "peopleThen" "I") ∈ lw_all := lw_g (lw_at lw_m1 203 rfl) rfl
theorem q313 : (Jvm.Cond.fieldLink "SpeaksInTurn" (267 : Nat) "SpeaksInTurn" "thingsThen" "I") ∈ lw_all := lw_g (lw_at lw_m1 204 rfl) rfl
theorem q314 : (Jvm.Cond.fieldLink "SpeaksInTurn" (270 : Nat) "SpeaksInTurn" "cardsThen" "I") ∈ lw_all := lw_g (lw_at lw_m1 205 rfl) rfl
theorem q315 : (Jvm.Cond.fieldLink "SpeaksInTurn" (354 : Nat) "SpeaksInTurn" "bestIs" "I") ∈ lw_all := lw_g (lw_at lw_m1 206 rfl) rfl
theorem q316 : (Jvm.Cond.fieldLink "SpeaksInTurn" (357 : Nat) "SpeaksInTurn" "leastWrong" "I") ∈ lw_all := lw_g (lw_at lw_m1 207 rfl) rfl
theorem q317 : (Jvm.Cond.fieldLink "SpeaksInTurn" (360 : Nat) "SpeaksInTurn" "leastCost" "I") ∈ lw_all := lw_g (lw_at lw_m1 208 rfl) rfl
theorem q318 : (Jvm.Cond.fieldLink "SpeaksInTurn" (390 : Nat) "SpeaksInTurn" "traces" "I") ∈ lw_all := lw_g (lw_at lw_m1 209 rfl) rfl
theorem q319 : (Jvm.Cond.fieldLink "SpeaksInTurn" (73 : Nat) "SpeaksInTurn" "traced" "[B") ∈ lw_all := lw_g (lw_at lw_m1 210 rfl) rfl
theorem q320 : (Jvm.Cond.fieldLink "SpeaksInTurn" (78 : Nat) "SpeaksInTurn" "bodies" "[LSpeaksInTurn$Plain;") ∈ lw_all := lw_g (lw_at lw_m1 211 rfl) rfl
theorem q321 : (Jvm.Cond.fieldLink "SpeaksInTurn" (393 : Nat) "SpeaksInTurn" "bodyMany" "I") ∈ lw_all := lw_g (lw_at lw_m1 212 rfl) rfl
theorem q322 : (Jvm.Cond.fieldLink "SpeaksInTurn" (84 : Nat) "SpeaksInTurn" "shelves" "[LSpeaksInTurn$Held;") ∈ lw_all := lw_g (lw_at lw_m1 213 rfl) rfl
theorem q323 : (Jvm.Cond.laysFinal "SpeaksInTurn" "SpeaksInTurn" "people" "[LSpeaksInTurn$Person;") ∈ lw_all := lw_g (lw_at lw_m1 214 rfl) rfl
theorem q324 : (Jvm.Cond.soleField "SpeaksInTurn" "people") ∈ lw_all := lw_g (lw_at lw_m1 215 rfl) rfl
theorem q325 : (Jvm.Cond.laysFinal "SpeaksInTurn" "SpeaksInTurn" "things" "[LSpeaksInTurn$Thing;") ∈ lw_all := lw_g (lw_at lw_m1 216 rfl) rfl
theorem q326 : (Jvm.Cond.soleField "SpeaksInTurn" "things") ∈ lw_all := lw_g (lw_at lw_m1 217 rfl) rfl
theorem q327 : (Jvm.Cond.laysFinal "SpeaksInTurn" "SpeaksInTurn" "cards" "[LSpeaksInTurn$Card;") ∈ lw_all := lw_g (lw_at lw_m1 218 rfl) rfl
theorem q328 : (Jvm.Cond.soleField "SpeaksInTurn" "cards") ∈ lw_all := lw_g (lw_at lw_m1 219 rfl) rfl
theorem q329 : (Jvm.Cond.lays "SpeaksInTurn" "SpeaksInTurn" "personMany" "I") ∈ lw_all := lw_g (lw_at lw_m1 220 rfl) rfl
theorem q330 : (Jvm.Cond.soleField "SpeaksInTurn" "personMany") ∈ lw_all := lw_g (lw_at lw_m1 221 rfl) rfl
theorem q331 : (Jvm.Cond.lays "SpeaksInTurn" "SpeaksInTurn" "thingMany" "I") ∈ lw_all := lw_g (lw_at lw_m1 222 rfl) rfl
theorem q332 : (Jvm.Cond.soleField "SpeaksInTurn" "thingMany") ∈ lw_all := lw_g (lw_at lw_m1 223 rfl) rfl
theorem q333 : (Jvm.Cond.lays "SpeaksInTurn" "SpeaksInTurn" "cardMany" "I") ∈ lw_all := lw_g (lw_at lw_m1 224 rfl) rfl
theorem q334 : (Jvm.Cond.soleField "SpeaksInTurn" "cardMany") ∈ lw_all := lw_g (lw_at lw_m1 225 rfl) rfl
theorem q335 : (Jvm.Cond.lays "SpeaksInTurn" "SpeaksInTurn" "rule" "I") ∈ lw_all := lw_g (lw_at lw_m1 226 rfl) rfl
theorem q336 : (Jvm.Cond.soleField "SpeaksInTurn" "rule") ∈ lw_all := lw_g (lw_at lw_m1 227 rfl) rfl
theorem q337 : (Jvm.Cond.lays "SpeaksInTurn" "SpeaksInTurn" "standing" "I") ∈ lw_all := lw_g (lw_at lw_m1 228 rfl) rfl
theorem q338 : (Jvm.Cond.soleField "SpeaksInTurn" "standing") ∈ lw_all := lw_g (lw_at lw_m1 229 rfl) rfl
theorem q339 : (Jvm.Cond.lays "SpeaksInTurn" "SpeaksInTurn" "timer" "I") ∈ lw_all := lw_g (lw_at lw_m1 230 rfl) rfl
theorem q340 : (Jvm.Cond.soleField "SpeaksInTurn" "timer") ∈ lw_all := lw_g (lw_at lw_m1 231 rfl) rfl
theorem q341 : (Jvm.Cond.laysFinal "SpeaksInTurn" "SpeaksInTurn" "changes" "[LSpeaksInTurn$Change;") ∈ lw_all := lw_g (lw_at lw_m1 232 rfl) rfl
theorem q342 : (Jvm.Cond.soleField "SpeaksInTurn" "changes") ∈ lw_all := lw_g (lw_at lw_m1 233 rfl) rfl
theorem q343 : (Jvm.Cond.lays "SpeaksInTurn" "SpeaksInTurn" "doneMany" "I") ∈ lw_all := lw_g (lw_at lw_m1 234 rfl) rfl
theorem q344 : (Jvm.Cond.soleField "SpeaksInTurn" "doneMany") ∈ lw_all := lw_g (lw_at lw_m1 235 rfl) rfl
theorem q345 : (Jvm.Cond.lays "SpeaksInTurn" "SpeaksInTurn" "undoneMany" "I") ∈ lw_all := lw_g (lw_at lw_m1 236 rfl) rfl
theorem q346 : (Jvm.Cond.soleField "SpeaksInTurn" "undoneMany") ∈ lw_all := lw_g (lw_at lw_m1 237 rfl) rfl
theorem q347 : (Jvm.Cond.laysFinal "SpeaksInTurn" "SpeaksInTurn" "tape" "[B") ∈ lw_all := lw_g (lw_at lw_m1 238 rfl) rfl
theorem q348 : (Jvm.Cond.soleField "SpeaksInTurn" "tape") ∈ lw_all := lw_g (lw_at lw_m1 239 rfl) rfl
theorem q349 : (Jvm.Cond.lays "SpeaksInTurn" "SpeaksInTurn" "taped" "I") ∈ lw_all := lw_g (lw_at lw_m2 0 rfl) rfl
theorem q350 : (Jvm.Cond.soleField "SpeaksInTurn" "taped") ∈ lw_all := lw_g (lw_at lw_m2 1 rfl) rfl
theorem q351 : (Jvm.Cond.lays "SpeaksInTurn" "SpeaksInTurn" "law" "LSpeaksInTurn$Line;") ∈ lw_all := lw_g (lw_at lw_m2 2 rfl) rfl
theorem q352 : (Jvm.Cond.soleField "SpeaksInTurn" "law") ∈ lw_all := lw_g (lw_at lw_m2 3 rfl) rfl
theorem q353 : (Jvm.Cond.laysFinal "SpeaksInTurn" "SpeaksInTurn" "facts" "LSpeaksInTurn$Facts;") ∈ lw_all := lw_g (lw_at lw_m2 4 rfl) rfl
theorem q354 : (Jvm.Cond.soleField "SpeaksInTurn" "facts") ∈ lw_all := lw_g (lw_at lw_m2 5 rfl) rfl
theorem q355 : (Jvm.Cond.laysFinal "SpeaksInTurn" "SpeaksInTurn" "order" "[I") ∈ lw_all := lw_g (lw_at lw_m2 6 rfl) rfl
theorem q356 : (Jvm.Cond.soleField "SpeaksInTurn" "order") ∈ lw_all := lw_g (lw_at lw_m2 7 rfl) rfl
theorem q357 : (Jvm.Cond.laysFinal "SpeaksInTurn" "SpeaksInTurn" "kept" "LSpeaksInTurn$Meeting;") ∈ lw_all := lw_g (lw_at lw_m2 8 rfl) rfl
theorem q358 : (Jvm.Cond.soleField "SpeaksInTurn" "kept") ∈ lw_all := lw_g (lw_at lw_m2 9 rfl) rfl
theorem q359 : (Jvm.Cond.laysFinal "SpeaksInTurn" "SpeaksInTurn" "tried" "LSpeaksInTurn$Meeting;") ∈ lw_all := lw_g (lw_at lw_m2 10 rfl) rfl
theorem q360 : (Jvm.Cond.soleField "SpeaksInTurn" "tried") ∈ lw_all := lw_g (lw_at lw_m2 11 rfl) rfl
theorem q361 : (Jvm.Cond.laysFinal "SpeaksInTurn" "SpeaksInTurn" "keptTold" "[I") ∈ lw_all := lw_g (lw_at lw_m2 12 rfl) rfl
theorem q362 : (Jvm.Cond.soleField "SpeaksInTurn" "keptTold") ∈ lw_all := lw_g (lw_at lw_m2 13 rfl) rfl
theorem q363 : (Jvm.Cond.laysFinal "SpeaksInTurn" "SpeaksInTurn" "keptSums" "[I") ∈ lw_all := lw_g (lw_at lw_m2 14 rfl) rfl
theorem q364 : (Jvm.Cond.soleField "SpeaksInTurn" "keptSums") ∈ lw_all := lw_g (lw_at lw_m2 15 rfl) rfl
theorem q365 : (Jvm.Cond.laysFinal "SpeaksInTurn" "SpeaksInTurn" "keptThere" "[I") ∈ lw_all := lw_g (lw_at lw_m2 16 rfl) rfl
theorem q366 : (Jvm.Cond.soleField "SpeaksInTurn" "keptThere") ∈ lw_all := lw_g (lw_at lw_m2 17 rfl) rfl
theorem q367 : (Jvm.Cond.lays "SpeaksInTurn" "SpeaksInTurn" "hasMeeting" "Z") ∈ lw_all := lw_g (lw_at lw_m2 18 rfl) rfl
theorem q368 : (Jvm.Cond.soleField "SpeaksInTurn" "hasMeeting") ∈ lw_all := lw_g (lw_at lw_m2 19 rfl) rfl
theorem q369 : (Jvm.Cond.lays "SpeaksInTurn" "SpeaksInTurn" "peopleThen" "I") ∈ lw_all := lw_g (lw_at lw_m2 20 rfl) rfl
theorem q370 : (Jvm.Cond.soleField "SpeaksInTurn" "peopleThen") ∈ lw_all := lw_g (lw_at lw_m2 21 rfl) rfl
theorem q371 : (Jvm.Cond.lays "SpeaksInTurn" "SpeaksInTurn" "thingsThen" "I") ∈ lw_all := lw_g (lw_at lw_m2 22 rfl) rfl
theorem q372 : (Jvm.Cond.soleField "SpeaksInTurn" "thingsThen") ∈ lw_all := lw_g (lw_at lw_m2 23 rfl) rfl
theorem q373 : (Jvm.Cond.lays "SpeaksInTurn" "SpeaksInTurn" "cardsThen" "I") ∈ lw_all := lw_g (lw_at lw_m2 24 rfl) rfl
theorem q374 : (Jvm.Cond.soleField "SpeaksInTurn" "cardsThen") ∈ lw_all := lw_g (lw_at lw_m2 25 rfl) rfl
theorem q375 : (Jvm.Cond.lays "SpeaksInTurn" "SpeaksInTurn" "bestIs" "I") ∈ lw_all := lw_g (lw_at lw_m2 26 rfl) rfl
theorem q376 : (Jvm.Cond.soleField "SpeaksInTurn" "bestIs") ∈ lw_all := lw_g (lw_at lw_m2 27 rfl) rfl
theorem q377 : (Jvm.Cond.lays "SpeaksInTurn" "SpeaksInTurn" "leastWrong" "I") ∈ lw_all := lw_g (lw_at lw_m2 28 rfl) rfl
theorem q378 : (Jvm.Cond.soleField "SpeaksInTurn" "leastWrong") ∈ lw_all := lw_g (lw_at lw_m2 29 rfl) rfl
theorem q379 : (Jvm.Cond.lays "SpeaksInTurn" "SpeaksInTurn" "leastCost" "I") ∈ lw_all := lw_g (lw_at lw_m2 30 rfl) rfl
theorem q380 : (Jvm.Cond.soleField "SpeaksInTurn" "leastCost") ∈ lw_all := lw_g (lw_at lw_m2 31 rfl) rfl
theorem q381 : (Jvm.Cond.lays "SpeaksInTurn" "SpeaksInTurn" "traces" "I") ∈ lw_all := lw_g (lw_at lw_m2 32 rfl) rfl
theorem q382 : (Jvm.Cond.soleField "SpeaksInTurn" "traces") ∈ lw_all := lw_g (lw_at lw_m2 33 rfl) rfl
theorem q383 : (Jvm.Cond.laysFinal "SpeaksInTurn" "SpeaksInTurn" "traced" "[B") ∈ lw_all := lw_g (lw_at lw_m2 34 rfl) rfl
theorem q384 : (Jvm.Cond.soleField "SpeaksInTurn" "traced") ∈ lw_all := lw_g (lw_at lw_m2 35 rfl) rfl
theorem q385 : (Jvm.Cond.laysFinal "SpeaksInTurn" "SpeaksInTurn" "bodies" "[LSpeaksInTurn$Plain;") ∈ lw_all := lw_g (lw_at lw_m2 36 rfl) rfl
theorem q386 : (Jvm.Cond.soleField "SpeaksInTurn" "bodies") ∈ lw_all := lw_g (lw_at lw_m2 37 rfl) rfl
theorem q387 : (Jvm.Cond.lays "SpeaksInTurn" "SpeaksInTurn" "bodyMany" "I") ∈ lw_all := lw_g (lw_at lw_m2 38 rfl) rfl
theorem q388 : (Jvm.Cond.soleField "SpeaksInTurn" "bodyMany") ∈ lw_all := lw_g (lw_at lw_m2 39 rfl) rfl
theorem q389 : (Jvm.Cond.laysFinal "SpeaksInTurn" "SpeaksInTurn" "shelves" "[LSpeaksInTurn$Held;") ∈ lw_all := lw_g (lw_at lw_m2 40 rfl) rfl
theorem q390 : (Jvm.Cond.soleField "SpeaksInTurn" "shelves") ∈ lw_all := lw_g (lw_at lw_m2 41 rfl) rfl
theorem q391 : (Jvm.Cond.superclass "SpeaksInTurn" "java/lang/Object") ∈ lw_all := lw_g (lw_at lw_m2 42 rfl) rfl
theorem q393 : (Jvm.Cond.instanceMethod ({ cls := "SpeaksInTurn", name := "person", desc := "(II)I" } : Jvm.MethodName)) ∈ lw_all := lw_g (lw_at lw_m2 44 rfl) rfl
theorem q394 : (Jvm.Cond.selects "SpeaksInTurn" ({ cls := "SpeaksInTurn", name := "person", desc := "(II)I" } : Jvm.MethodName) ({ cls := "SpeaksInTurn", name := "person", desc := "(II)I" } : Jvm.MethodName)) ∈ lw_all := lw_g (lw_at lw_m2 45 rfl) rfl
theorem q395 : (Jvm.Cond.code ({ cls := "SpeaksInTurn", name := "person", desc := "(II)I" } : Jvm.MethodName) prog_1_method_5_code (3 : Nat) (Option.some Jvm.ClassFile.FieldType.int)) ∈ lw_all := lw_g (lw_at lw_m2 46 rfl) rfl
theorem q396 : (Jvm.Cond.methodLink "SpeaksInTurn" (91 : Nat) ({ cls := "SpeaksInTurn", name := "in", desc := "(III)Z" } : Jvm.MethodName)) ∈ lw_all := lw_g (lw_at lw_m2 47 rfl) rfl
theorem q397 : (Jvm.Cond.static ({ cls := "SpeaksInTurn", name := "in", desc := "(III)Z" } : Jvm.MethodName)) ∈ lw_all := lw_g (lw_at lw_m2 48 rfl) rfl
theorem q398 : (Jvm.Cond.code ({ cls := "SpeaksInTurn", name := "in", desc := "(III)Z" } : Jvm.MethodName) prog_1_method_2_code (3 : Nat) (Option.some Jvm.ClassFile.FieldType.boolean)) ∈ lw_all := lw_g (lw_at lw_m2 49 rfl) rfl
theorem q400 : (Jvm.Cond.methodLink "SpeaksInTurn" (98 : Nat) ({ cls := "SpeaksInTurn$Person", name := "<init>", desc := "(IIII)V" } : Jvm.MethodName)) ∈ lw_all := lw_g (lw_at lw_m2 51 rfl) rfl
theorem q405 : (Jvm.Cond.fieldLinkNest "SpeaksInTurn" (152 : Nat) "SpeaksInTurn$Person" "wage" "I" "SpeaksInTurn") ∈ lw_tbl := lw_at lw_m2 56 rfl
theorem q408 : (Jvm.Cond.fieldLinkNest "SpeaksInTurn" (146 : Nat) "SpeaksInTurn$Person" "rank" "I" "SpeaksInTurn") ∈ lw_tbl := lw_at lw_m2 59 rfl
theorem q411 : (Jvm.Cond.fieldLinkNest "SpeaksInTurn" (149 : Nat) "SpeaksInTurn$Person" "voice" "I" "SpeaksInTurn") ∈ lw_tbl := lw_at lw_m2 62 rfl
theorem q415 : (Jvm.Cond.fieldLinkNest "SpeaksInTurn" (155 : Nat) "SpeaksInTurn$Person" "late" "I" "SpeaksInTurn") ∈ lw_tbl := lw_at lw_m2 66 rfl
theorem q426 : (Jvm.Cond.instanceMethod ({ cls := "SpeaksInTurn", name := "thing", desc := "(II)I" } : Jvm.MethodName)) ∈ lw_all := lw_g (lw_at lw_m2 77 rfl) rfl
theorem q427 : (Jvm.Cond.selects "SpeaksInTurn" ({ cls := "SpeaksInTurn", name := "thing", desc := "(II)I" } : Jvm.MethodName) ({ cls := "SpeaksInTurn", name := "thing", desc := "(II)I" } : Jvm.MethodName)) ∈ lw_all := lw_g (lw_at lw_m2 78 rfl) rfl
theorem q428 : (Jvm.Cond.code ({ cls := "SpeaksInTurn", name := "thing", desc := "(II)I" } : Jvm.MethodName) prog_1_method_6_code (3 : Nat) (Option.some Jvm.ClassFile.FieldType.int)) ∈ lw_all := lw_g (lw_at lw_m2 79 rfl) rfl
theorem q430 : (Jvm.Cond.methodLink "SpeaksInTurn" (101 : Nat) ({ cls := "SpeaksInTurn$Thing", name := "<init>", desc := "(II)V" } : Jvm.MethodName)) ∈ lw_all := lw_g (lw_at lw_m2 81 rfl) rfl
theorem q435 : (Jvm.Cond.fieldLinkNest "SpeaksInTurn" (158 : Nat) "SpeaksInTurn$Thing" "worth" "I" "SpeaksInTurn") ∈ lw_tbl := lw_at lw_m2 86 rfl
theorem q438 : (Jvm.Cond.fieldLinkNest "SpeaksInTurn" (161 : Nat) "SpeaksInTurn$Thing" "easy" "I" "SpeaksInTurn") ∈ lw_tbl := lw_at lw_m2 89 rfl
theorem q445 : (Jvm.Cond.instanceMethod ({ cls := "SpeaksInTurn", name := "card", desc := "(III)I" } : Jvm.MethodName)) ∈ lw_all := lw_g (lw_at lw_m2 96 rfl) rfl
theorem q446 : (Jvm.Cond.selects "SpeaksInTurn" ({ cls := "SpeaksInTurn", name := "card", desc := "(III)I" } : Jvm.MethodName) ({ cls := "SpeaksInTurn", name := "card", desc := "(III)I" } : Jvm.MethodName)) ∈ lw_all := lw_g (lw_at lw_m2 97 rfl) rfl
theorem q447 : (Jvm.Cond.code ({ cls := "SpeaksInTurn", name := "card", desc := "(III)I" } : Jvm.MethodName) prog_1_method_9_code (4 : Nat) (Option.some Jvm.ClassFile.FieldType.int)) ∈ lw_all := lw_g (lw_at lw_m2 98 rfl) rfl
theorem q448 : (Jvm.Cond.methodLink "SpeaksInTurn" (114 : Nat) ({ cls := "SpeaksInTurn", name := "isCardSo", desc := "(III)Z" } : Jvm.MethodName)) ∈ lw_all := lw_g (lw_at lw_m2 99 rfl) rfl
theorem q449 : (Jvm.Cond.privateMethod ({ cls := "SpeaksInTurn", name := "isCardSo", desc := "(III)Z" } : Jvm.MethodName)) ∈ lw_tbl := lw_at lw_m2 100 rfl
theorem q450 : (Jvm.Cond.instanceMethod ({ cls := "SpeaksInTurn", name := "isCardSo", desc := "(III)Z" } : Jvm.MethodName)) ∈ lw_all := lw_g (lw_at lw_m2 101 rfl) rfl
theorem q451 : (Jvm.Cond.code ({ cls := "SpeaksInTurn", name := "isCardSo", desc := "(III)Z" } : Jvm.MethodName) prog_1_method_7_code (4 : Nat) (Option.some Jvm.ClassFile.FieldType.boolean)) ∈ lw_all := lw_g (lw_at lw_m2 102 rfl) rfl
theorem q452 : (Jvm.Cond.methodLink "SpeaksInTurn" (104 : Nat) ({ cls := "SpeaksInTurn", name := "isThing", desc := "(I)Z" } : Jvm.MethodName)) ∈ lw_all := lw_g (lw_at lw_m2 103 rfl) rfl
theorem q453 : (Jvm.Cond.privateMethod ({ cls := "SpeaksInTurn", name := "isThing", desc := "(I)Z" } : Jvm.MethodName)) ∈ lw_tbl := lw_at lw_m2 104 rfl
theorem q454 : (Jvm.Cond.instanceMethod ({ cls := "SpeaksInTurn", name := "isThing", desc := "(I)Z" } : Jvm.MethodName)) ∈ lw_all := lw_g (lw_at lw_m2 105 rfl) rfl
theorem q455 : (Jvm.Cond.code ({ cls := "SpeaksInTurn", name := "isThing", desc := "(I)Z" } : Jvm.MethodName) prog_1_method_4_code (2 : Nat) (Option.some Jvm.ClassFile.FieldType.boolean)) ∈ lw_all := lw_g (lw_at lw_m2 106 rfl) rfl
theorem q456 : (Jvm.Cond.methodLink "SpeaksInTurn" (117 : Nat) ({ cls := "SpeaksInTurn", name := "addCard", desc := "(III)I" } : Jvm.MethodName)) ∈ lw_all := lw_g (lw_at lw_m2 107 rfl) rfl
theorem q457 : (Jvm.Cond.privateMethod ({ cls := "SpeaksInTurn", name := "addCard", desc := "(III)I" } : Jvm.MethodName)) ∈ lw_tbl := lw_at lw_m2 108 rfl
theorem q458 : (Jvm.Cond.instanceMethod ({ cls := "SpeaksInTurn", name := "addCard", desc := "(III)I" } : Jvm.MethodName)) ∈ lw_all := lw_g (lw_at lw_m2 109 rfl) rfl
theorem q459 : (Jvm.Cond.code ({ cls := "SpeaksInTurn", name := "addCard", desc := "(III)I" } : Jvm.MethodName) prog_1_method_8_code (4 : Nat) (Option.some Jvm.ClassFile.FieldType.int)) ∈ lw_all := lw_g (lw_at lw_m2 110 rfl) rfl
theorem q461 : (Jvm.Cond.methodLink "SpeaksInTurn" (111 : Nat) ({ cls := "SpeaksInTurn$Card", name := "<init>", desc := "(III)V" } : Jvm.MethodName)) ∈ lw_all := lw_g (lw_at lw_m2 112 rfl) rfl
theorem q467 : (Jvm.Cond.fieldLinkNest "SpeaksInTurn" (164 : Nat) "SpeaksInTurn$Card" "thing" "I" "SpeaksInTurn") ∈ lw_tbl := lw_at lw_m2 118 rfl
theorem q469 : (Jvm.Cond.fieldLinkNest "SpeaksInTurn" (167 : Nat) "SpeaksInTurn$Card" "counts" "I" "SpeaksInTurn") ∈ lw_tbl := lw_at lw_m2 120 rfl
theorem q472 : (Jvm.Cond.fieldLinkNest "SpeaksInTurn" (170 : Nat) "SpeaksInTurn$Card" "known" "I" "SpeaksInTurn") ∈ lw_tbl := lw_at lw_m2 123 rfl
theorem q481 : (Jvm.Cond.instanceMethod ({ cls := "SpeaksInTurn", name := "cards", desc := "(III)I" } : Jvm.MethodName)) ∈ lw_all := lw_g (lw_at lw_m2 132 rfl) rfl
theorem q482 : (Jvm.Cond.selects "SpeaksInTurn" ({ cls := "SpeaksInTurn", name := "cards", desc := "(III)I" } : Jvm.MethodName) ({ cls := "SpeaksInTurn", name := "cards", desc := "(III)I" } : Jvm.MethodName)) ∈ lw_all := lw_g (lw_at lw_m2 133 rfl) rfl
theorem q483 : (Jvm.Cond.codeWith ({ cls := "SpeaksInTurn", name := "cards", desc := "(III)I" } : Jvm.MethodName) prog_1_method_10_code (11 : Nat) (Option.some Jvm.ClassFile.FieldType.int) [((22 : Nat), (108 : Nat), (132 : Nat), (130 : Nat)), ((109 : Nat), (129 : Nat), (132 : Nat), (130 : Nat)), ((22 : Nat), (108 : Nat), (137 : Nat), (132 : Nat)), ((109 : Nat), (129 : Nat), (137 : Nat), (132 : Nat)), ((22 : Nat), (108 : Nat), (142 : Nat), (134 : Nat)), ((109 : Nat), (129 : Nat), (142 : Nat), (134 : Nat))]) ∈ lw_all := lw_g (lw_at lw_m2 134 rfl) rfl
theorem q484 : (Jvm.Cond.classLink "SpeaksInTurn" (130 : Nat) "java/lang/ClassCastException") ∈ lw_all := lw_g (lw_at lw_m2 135 rfl) rfl
theorem q568 : (Jvm.Cond.classLink "SpeaksInTurn" (132 : Nat) "java/lang/NullPointerException") ∈ lw_all := lw_g (lw_at lw_m2 219 rfl) rfl
theorem q593 : (Jvm.Cond.classLink "SpeaksInTurn" (134 : Nat) "java/lang/IndexOutOfBoundsException") ∈ lw_all := lw_g (lw_at lw_m3 4 rfl) rfl
theorem q612 : (Jvm.Cond.methodLink "SpeaksInTurn" (121 : Nat) ({ cls := "SpeaksInTurn", name := "isShelf", desc := "(I)Z" } : Jvm.MethodName)) ∈ lw_all := lw_g (lw_at lw_m3 23 rfl) rfl
theorem q613 : (Jvm.Cond.static ({ cls := "SpeaksInTurn", name := "isShelf", desc := "(I)Z" } : Jvm.MethodName)) ∈ lw_all := lw_g (lw_at lw_m3 24 rfl) rfl
theorem q614 : (Jvm.Cond.code ({ cls := "SpeaksInTurn", name := "isShelf", desc := "(I)Z" } : Jvm.MethodName) prog_1_method_48_code (1 : Nat) (Option.some Jvm.ClassFile.FieldType.boolean)) ∈ lw_all := lw_g (lw_at lw_m3 25 rfl) rfl
theorem q615 : (Jvm.Cond.classLink "SpeaksInTurn" (124 : Nat) "SpeaksInTurn$ShortRow") ∈ lw_all := lw_g (lw_at lw_m3 26 rfl) rfl
theorem q616 : (Jvm.Cond.methodLink "SpeaksInTurn" (126 : Nat) ({ cls := "SpeaksInTurn$ShortRow", name := "at", desc := "(I)J" } : Jvm.MethodName)) ∈ lw_all := lw_g (lw_at lw_m3 27 rfl) rfl
theorem q621 : (Jvm.Cond.instanceMethod ({ cls := "SpeaksInTurn", name := "set", desc := "(II)I" } : Jvm.MethodName)) ∈ lw_all := lw_g (lw_at lw_m3 32 rfl) rfl
theorem q622 : (Jvm.Cond.selects "SpeaksInTurn" ({ cls := "SpeaksInTurn", name := "set", desc := "(II)I" } : Jvm.MethodName) ({ cls := "SpeaksInTurn", name := "set", desc := "(II)I" } : Jvm.MethodName)) ∈ lw_all := lw_g (lw_at lw_m3 33 rfl) rfl
theorem q623 : (Jvm.Cond.code ({ cls := "SpeaksInTurn", name := "set", desc := "(II)I" } : Jvm.MethodName) prog_1_method_11_code (4 : Nat) (Option.some Jvm.ClassFile.FieldType.int)) ∈ lw_all := lw_g (lw_at lw_m3 34 rfl) rfl
theorem q625 : (Jvm.Cond.instanceMethod ({ cls := "SpeaksInTurn", name := "of", desc := "(II)I" } : Jvm.MethodName)) ∈ lw_all := lw_g (lw_at lw_m3 36 rfl) rfl
theorem q626 : (Jvm.Cond.selects "SpeaksInTurn" ({ cls := "SpeaksInTurn", name := "of", desc := "(II)I" } : Jvm.MethodName) ({ cls := "SpeaksInTurn", name := "of", desc := "(II)I" } : Jvm.MethodName)) ∈ lw_all := lw_g (lw_at lw_m3 37 rfl) rfl
theorem q627 : (Jvm.Cond.code ({ cls := "SpeaksInTurn", name := "of", desc := "(II)I" } : Jvm.MethodName) prog_1_method_12_code (4 : Nat) (Option.some Jvm.ClassFile.FieldType.int)) ∈ lw_all := lw_g (lw_at lw_m3 38 rfl) rfl
theorem q628 : (Jvm.Cond.methodLink "SpeaksInTurn" (142 : Nat) ({ cls := "SpeaksInTurn", name := "isPerson", desc := "(I)Z" } : Jvm.MethodName)) ∈ lw_all := lw_g (lw_at lw_m3 39 rfl) rfl
theorem q629 : (Jvm.Cond.privateMethod ({ cls := "SpeaksInTurn", name := "isPerson", desc := "(I)Z" } : Jvm.MethodName)) ∈ lw_tbl := lw_at lw_m3 40 rfl
theorem q630 : (Jvm.Cond.instanceMethod ({ cls := "SpeaksInTurn", name := "isPerson", desc := "(I)Z" } : Jvm.MethodName)) ∈ lw_all := lw_g (lw_at lw_m3 41 rfl) rfl
theorem q631 : (Jvm.Cond.code ({ cls := "SpeaksInTurn", name := "isPerson", desc := "(I)Z" } : Jvm.MethodName) prog_1_method_3_code (2 : Nat) (Option.some Jvm.ClassFile.FieldType.boolean)) ∈ lw_all := lw_g (lw_at lw_m3 42 rfl) rfl
theorem q632 : (Jvm.Cond.constant "SpeaksInTurn" (145 : Nat) (-2000000000 : Int32)) ∈ lw_all := lw_g (lw_at lw_m3 43 rfl) rfl
theorem q634 : (Jvm.Cond.instanceMethod ({ cls := "SpeaksInTurn", name := "undo", desc := "()I" } : Jvm.MethodName)) ∈ lw_all := lw_g (lw_at lw_m3 45 rfl) rfl
theorem q635 : (Jvm.Cond.selects "SpeaksInTurn" ({ cls := "SpeaksInTurn", name := "undo", desc := "()I" } : Jvm.MethodName) ({ cls := "SpeaksInTurn", name := "undo", desc := "()I" } : Jvm.MethodName)) ∈ lw_all := lw_g (lw_at lw_m3 46 rfl) rfl
theorem q636 : (Jvm.Cond.code ({ cls := "SpeaksInTurn", name := "undo", desc := "()I" } : Jvm.MethodName) prog_1_method_15_code (1 : Nat) (Option.some Jvm.ClassFile.FieldType.int)) ∈ lw_all := lw_g (lw_at lw_m3 47 rfl) rfl
theorem q637 : (Jvm.Cond.methodLink "SpeaksInTurn" (180 : Nat) ({ cls := "SpeaksInTurn", name := "setTo", desc := "(III)V" } : Jvm.MethodName)) ∈ lw_all := lw_g (lw_at lw_m3 48 rfl) rfl
theorem q638 : (Jvm.Cond.privateMethod ({ cls := "SpeaksInTurn", name := "setTo", desc := "(III)V" } : Jvm.MethodName)) ∈ lw_tbl := lw_at lw_m3 49 rfl
theorem q639 : (Jvm.Cond.instanceMethod ({ cls := "SpeaksInTurn", name := "setTo", desc := "(III)V" } : Jvm.MethodName)) ∈ lw_all := lw_g (lw_at lw_m3 50 rfl) rfl
theorem q640 : (Jvm.Cond.code ({ cls := "SpeaksInTurn", name := "setTo", desc := "(III)V" } : Jvm.MethodName) prog_1_method_13_code (4 : Nat) (Option.none : Option Jvm.ClassFile.FieldType)) ∈ lw_all := lw_g (lw_at lw_m3 51 rfl) rfl
theorem q642 : (Jvm.Cond.instanceMethod ({ cls := "SpeaksInTurn", name := "redo", desc := "()I" } : Jvm.MethodName)) ∈ lw_all := lw_g (lw_at lw_m3 53 rfl) rfl
theorem q643 : (Jvm.Cond.selects "SpeaksInTurn" ({ cls := "SpeaksInTurn", name := "redo", desc := "()I" } : Jvm.MethodName) ({ cls := "SpeaksInTurn", name := "redo", desc := "()I" } : Jvm.MethodName)) ∈ lw_all := lw_g (lw_at lw_m3 54 rfl) rfl
theorem q644 : (Jvm.Cond.code ({ cls := "SpeaksInTurn", name := "redo", desc := "()I" } : Jvm.MethodName) prog_1_method_16_code (1 : Nat) (Option.some Jvm.ClassFile.FieldType.int)) ∈ lw_all := lw_g (lw_at lw_m3 55 rfl) rfl
theorem q646 : (Jvm.Cond.instanceMethod ({ cls := "SpeaksInTurn", name := "mend", desc := "(III)I" } : Jvm.MethodName)) ∈ lw_all := lw_g (lw_at lw_m3 57 rfl) rfl
theorem q647 : (Jvm.Cond.selects "SpeaksInTurn" ({ cls := "SpeaksInTurn", name := "mend", desc := "(III)I" } : Jvm.MethodName) ({ cls := "SpeaksInTurn", name := "mend", desc := "(III)I" } : Jvm.MethodName)) ∈ lw_all := lw_g (lw_at lw_m3 58 rfl) rfl
theorem q648 : (Jvm.Cond.code ({ cls := "SpeaksInTurn", name := "mend", desc := "(III)I" } : Jvm.MethodName) prog_1_method_17_code (4 : Nat) (Option.some Jvm.ClassFile.FieldType.int)) ∈ lw_all := lw_g (lw_at lw_m3 59 rfl) rfl
theorem q649 : (Jvm.Cond.methodLink "SpeaksInTurn" (194 : Nat) ({ cls := "SpeaksInTurn", name := "become", desc := "(IIII)I" } : Jvm.MethodName)) ∈ lw_all := lw_g (lw_at lw_m3 60 rfl) rfl
theorem q650 : (Jvm.Cond.privateMethod ({ cls := "SpeaksInTurn", name := "become", desc := "(IIII)I" } : Jvm.MethodName)) ∈ lw_tbl := lw_at lw_m3 61 rfl
theorem q651 : (Jvm.Cond.instanceMethod ({ cls := "SpeaksInTurn", name := "become", desc := "(IIII)I" } : Jvm.MethodName)) ∈ lw_all := lw_g (lw_at lw_m3 62 rfl) rfl
theorem q652 : (Jvm.Cond.code ({ cls := "SpeaksInTurn", name := "become", desc := "(IIII)I" } : Jvm.MethodName) prog_1_method_14_code (6 : Nat) (Option.some Jvm.ClassFile.FieldType.int)) ∈ lw_all := lw_g (lw_at lw_m3 63 rfl) rfl
theorem q654 : (Jvm.Cond.methodLink "SpeaksInTurn" (179 : Nat) ({ cls := "SpeaksInTurn$Change", name := "<init>", desc := "(IIII)V" } : Jvm.MethodName)) ∈ lw_all := lw_g (lw_at lw_m3 65 rfl) rfl
theorem q659 : (Jvm.Cond.fieldLinkNest "SpeaksInTurn" (183 : Nat) "SpeaksInTurn$Change" "of" "I" "SpeaksInTurn") ∈ lw_tbl := lw_at lw_m3 70 rfl
theorem q661 : (Jvm.Cond.fieldLinkNest "SpeaksInTurn" (186 : Nat) "SpeaksInTurn$Change" "at" "I" "SpeaksInTurn") ∈ lw_tbl := lw_at lw_m3 72 rfl
theorem q663 : (Jvm.Cond.fieldLinkNest "SpeaksInTurn" (188 : Nat) "SpeaksInTurn$Change" "before" "I" "SpeaksInTurn") ∈ lw_tbl := lw_at lw_m3 74 rfl
theorem q665 : (Jvm.Cond.fieldLinkNest "SpeaksInTurn" (191 : Nat) "SpeaksInTurn$Change" "behind" "I" "SpeaksInTurn") ∈ lw_tbl := lw_at lw_m3 76 rfl
theorem q676 : (Jvm.Cond.instanceMethod ({ cls := "SpeaksInTurn", name := "feed", desc := "(I)I" } : Jvm.MethodName)) ∈ lw_all := lw_g (lw_at lw_m3 87 rfl) rfl
theorem q677 : (Jvm.Cond.selects "SpeaksInTurn" ({ cls := "SpeaksInTurn", name := "feed", desc := "(I)I" } : Jvm.MethodName) ({ cls := "SpeaksInTurn", name := "feed", desc := "(I)I" } : Jvm.MethodName)) ∈ lw_all := lw_g (lw_at lw_m3 88 rfl) rfl
theorem q678 : (Jvm.Cond.code ({ cls := "SpeaksInTurn", name := "feed", desc := "(I)I" } : Jvm.MethodName) prog_1_method_18_code (2 : Nat) (Option.some Jvm.ClassFile.FieldType.int)) ∈ lw_all := lw_g (lw_at lw_m3 89 rfl) rfl
theorem q680 : (Jvm.Cond.instanceMethod ({ cls := "SpeaksInTurn", name := "law", desc := "()I" } : Jvm.MethodName)) ∈ lw_all := lw_g (lw_at lw_m3 91 rfl) rfl
theorem q681 : (Jvm.Cond.selects "SpeaksInTurn" ({ cls := "SpeaksInTurn", name := "law", desc := "()I" } : Jvm.MethodName) ({ cls := "SpeaksInTurn", name := "law", desc := "()I" } : Jvm.MethodName)) ∈ lw_all := lw_g (lw_at lw_m3 92 rfl) rfl
theorem q682 : (Jvm.Cond.code ({ cls := "SpeaksInTurn", name := "law", desc := "()I" } : Jvm.MethodName) prog_1_method_19_code (3 : Nat) (Option.some Jvm.ClassFile.FieldType.int)) ∈ lw_all := lw_g (lw_at lw_m3 93 rfl) rfl
theorem q683 : (Jvm.Cond.classLink "SpeaksInTurn" (201 : Nat) "SpeaksInTurn$Reader") ∈ lw_all := lw_g (lw_at lw_m3 94 rfl) rfl
theorem q685 : (Jvm.Cond.methodLinkNest "SpeaksInTurn" (203 : Nat) ({ cls := "SpeaksInTurn$Reader", name := "<init>", desc := "(LSpeaksInTurn;)V" } : Jvm.MethodName) "SpeaksInTurn") ∈ lw_tbl := lw_at lw_m3 96 rfl
theorem q691 : (Jvm.Cond.fieldLinkNest "SpeaksInTurn" (208 : Nat) "SpeaksInTurn$Reader" "fault" "I" "SpeaksInTurn") ∈ lw_tbl := lw_at lw_m3 102 rfl
theorem q703 : (Jvm.Cond.methodLink "SpeaksInTurn" (204 : Nat) ({ cls := "SpeaksInTurn$Reader", name := "lines", desc := "()LSpeaksInTurn$Line;" } : Jvm.MethodName)) ∈ lw_all := lw_g (lw_at lw_m3 114 rfl) rfl
theorem q718 : (Jvm.Cond.fieldLinkNest "SpeaksInTurn" (215 : Nat) "SpeaksInTurn$Line" "test" "LSpeaksInTurn$Node;" "SpeaksInTurn") ∈ lw_tbl := lw_at lw_m3 129 rfl
theorem q720 : (Jvm.Cond.fieldLinkNest "SpeaksInTurn" (227 : Nat) "SpeaksInTurn$Line" "gives" "LSpeaksInTurn$Node;" "SpeaksInTurn") ∈ lw_tbl := lw_at lw_m3 131 rfl
theorem q722 : (Jvm.Cond.fieldLinkNest "SpeaksInTurn" (230 : Nat) "SpeaksInTurn$Line" "next" "LSpeaksInTurn$Line;" "SpeaksInTurn") ∈ lw_tbl := lw_at lw_m3 133 rfl
theorem q925 : (Jvm.Cond.instanceMethod ({ cls := "SpeaksInTurn", name := "meet", desc := "(I)I" } : Jvm.MethodName)) ∈ lw_all := lw_g (lw_at lw_m4 96 rfl) rfl
theorem q926 : (Jvm.Cond.selects "SpeaksInTurn" ({ cls := "SpeaksInTurn", name := "meet", desc := "(I)I" } : Jvm.MethodName) ({ cls := "SpeaksInTurn", name := "meet", desc := "(I)I" } : Jvm.MethodName)) ∈ lw_all := lw_g (lw_at lw_m4 97 rfl) rfl
theorem q927 : (Jvm.Cond.code ({ cls := "SpeaksInTurn", name := "meet", desc := "(I)I" } : Jvm.MethodName) prog_1_method_27_code (3 : Nat) (Option.some Jvm.ClassFile.FieldType.int)) ∈ lw_all := lw_g (lw_at lw_m4 98 rfl) rfl
theorem q928 : (Jvm.Cond.methodLink "SpeaksInTurn" (249 : Nat) ({ cls := "SpeaksInTurn", name := "isOrder", desc := "(I)Z" } : Jvm.MethodName)) ∈ lw_all := lw_g (lw_at lw_m4 99 rfl) rfl
theorem q929 : (Jvm.Cond.privateMethod ({ cls := "SpeaksInTurn", name := "isOrder", desc := "(I)Z" } : Jvm.MethodName)) ∈ lw_tbl := lw_at lw_m4 100 rfl
theorem q930 : (Jvm.Cond.instanceMethod ({ cls := "SpeaksInTurn", name := "isOrder", desc := "(I)Z" } : Jvm.MethodName)) ∈ lw_all := lw_g (lw_at lw_m4 101 rfl) rfl
theorem q931 : (Jvm.Cond.code ({ cls := "SpeaksInTurn", name := "isOrder", desc := "(I)Z" } : Jvm.MethodName) prog_1_method_25_code (6 : Nat) (Option.some Jvm.ClassFile.FieldType.boolean)) ∈ lw_all := lw_g (lw_at lw_m4 102 rfl) rfl
theorem q932 : (Jvm.Cond.methodLink "SpeaksInTurn" (246 : Nat) ({ cls := "SpeaksInTurn", name := "asTheyCame", desc := "()V" } : Jvm.MethodName)) ∈ lw_all := lw_g (lw_at lw_m4 103 rfl) rfl
theorem q933 : (Jvm.Cond.privateMethod ({ cls := "SpeaksInTurn", name := "asTheyCame", desc := "()V" } : Jvm.MethodName)) ∈ lw_tbl := lw_at lw_m4 104 rfl
theorem q934 : (Jvm.Cond.instanceMethod ({ cls := "SpeaksInTurn", name := "asTheyCame", desc := "()V" } : Jvm.MethodName)) ∈ lw_all := lw_g (lw_at lw_m4 105 rfl) rfl
theorem q935 : (Jvm.Cond.code ({ cls := "SpeaksInTurn", name := "asTheyCame", desc := "()V" } : Jvm.MethodName) prog_1_method_24_code (2 : Nat) (Option.none : Option Jvm.ClassFile.FieldType)) ∈ lw_all := lw_g (lw_at lw_m4 106 rfl) rfl
theorem q936 : (Jvm.Cond.methodLink "SpeaksInTurn" (252 : Nat) ({ cls := "SpeaksInTurn", name := "isEmpty", desc := "()Z" } : Jvm.MethodName)) ∈ lw_all := lw_g (lw_at lw_m4 107 rfl) rfl
theorem q937 : (Jvm.Cond.privateMethod ({ cls := "SpeaksInTurn", name := "isEmpty", desc := "()Z" } : Jvm.MethodName)) ∈ lw_tbl := lw_at lw_m4 108 rfl
theorem q938 : (Jvm.Cond.instanceMethod ({ cls := "SpeaksInTurn", name := "isEmpty", desc := "()Z" } : Jvm.MethodName)) ∈ lw_all := lw_g (lw_at lw_m4 109 rfl) rfl
theorem q939 : (Jvm.Cond.code ({ cls := "SpeaksInTurn", name := "isEmpty", desc := "()Z" } : Jvm.MethodName) prog_1_method_26_code (1 : Nat) (Option.some Jvm.ClassFile.FieldType.boolean)) ∈ lw_all := lw_g (lw_at lw_m4 110 rfl) rfl
theorem q940 : (Jvm.Cond.methodLink "SpeaksInTurn" (256 : Nat) ({ cls := "SpeaksInTurn$Meeting", name := "go", desc := "([IIII)V" } : Jvm.MethodName)) ∈ lw_all := lw_g (lw_at lw_m4 111 rfl) rfl
theorem q973 : (Jvm.Cond.privateMethod ({ cls := "SpeaksInTurn", name := "wishOf", desc := "(IIIIII)I" } : Jvm.MethodName)) ∈ lw_tbl := lw_at lw_m4 144 rfl
theorem q974 : (Jvm.Cond.instanceMethod ({ cls := "SpeaksInTurn", name := "wishOf", desc := "(IIIIII)I" } : Jvm.MethodName)) ∈ lw_all := lw_g (lw_at lw_m4 145 rfl) rfl
theorem q975 : (Jvm.Cond.code ({ cls := "SpeaksInTurn", name := "wishOf", desc := "(IIIIII)I" } : Jvm.MethodName) prog_1_method_21_code (8 : Nat) (Option.some Jvm.ClassFile.FieldType.int)) ∈ lw_all := lw_g (lw_at lw_m4 146 rfl) rfl
theorem q976 : (Jvm.Cond.methodLink "SpeaksInTurn" (233 : Nat) ({ cls := "SpeaksInTurn$Facts", name := "clear", desc := "()V" } : Jvm.MethodName)) ∈ lw_all := lw_g (lw_at lw_m4 147 rfl) rfl
theorem q980 : (Jvm.Cond.methodLink "SpeaksInTurn" (239 : Nat) ({ cls := "SpeaksInTurn", name := "gives", desc := "()I" } : Jvm.MethodName)) ∈ lw_all := lw_g (lw_at lw_m4 151 rfl) rfl
theorem q981 : (Jvm.Cond.privateMethod ({ cls := "SpeaksInTurn", name := "gives", desc := "()I" } : Jvm.MethodName)) ∈ lw_tbl := lw_at lw_m4 152 rfl
theorem q982 : (Jvm.Cond.instanceMethod ({ cls := "SpeaksInTurn", name := "gives", desc := "()I" } : Jvm.MethodName)) ∈ lw_all := lw_g (lw_at lw_m4 153 rfl) rfl
theorem q983 : (Jvm.Cond.code ({ cls := "SpeaksInTurn", name := "gives", desc := "()I" } : Jvm.MethodName) prog_1_method_20_code (2 : Nat) (Option.some Jvm.ClassFile.FieldType.int)) ∈ lw_all := lw_g (lw_at lw_m4 154 rfl) rfl
theorem q984 : (Jvm.Cond.methodLink "SpeaksInTurn" (221 : Nat) ({ cls := "SpeaksInTurn$Node", name := "value", desc := "(LSpeaksInTurn$Facts;)I" } : Jvm.MethodName)) ∈ lw_all := lw_g (lw_at lw_m4 155 rfl) rfl
theorem q1042 : (Jvm.Cond.methodLink "SpeaksInTurn" (279 : Nat) ({ cls := "SpeaksInTurn$Meeting", name := "decided", desc := "()I" } : Jvm.MethodName)) ∈ lw_all := lw_g (lw_at lw_m4 213 rfl) rfl
theorem q1050 : (Jvm.Cond.methodLink "SpeaksInTurn" (282 : Nat) ({ cls := "SpeaksInTurn$Meeting", name := "heldBack", desc := "()I" } : Jvm.MethodName)) ∈ lw_all := lw_g (lw_at lw_m4 221 rfl) rfl
theorem q1054 : (Jvm.Cond.methodLink "SpeaksInTurn" (285 : Nat) ({ cls := "SpeaksInTurn", name := "byAll", desc := "()I" } : Jvm.MethodName)) ∈ lw_all := lw_g (lw_at lw_m4 225 rfl) rfl
theorem q1055 : (Jvm.Cond.privateMethod ({ cls := "SpeaksInTurn", name := "byAll", desc := "()I" } : Jvm.MethodName)) ∈ lw_tbl := lw_at lw_m4 226 rfl
theorem q1056 : (Jvm.Cond.instanceMethod ({ cls := "SpeaksInTurn", name := "byAll", desc := "()I" } : Jvm.MethodName)) ∈ lw_all := lw_g (lw_at lw_m4 227 rfl) rfl
theorem q1057 : (Jvm.Cond.code ({ cls := "SpeaksInTurn", name := "byAll", desc := "()I" } : Jvm.MethodName) prog_1_method_23_code (5 : Nat) (Option.some Jvm.ClassFile.FieldType.int)) ∈ lw_all := lw_g (lw_at lw_m4 228 rfl) rfl
theorem q1058 : (Jvm.Cond.methodLink "SpeaksInTurn" (242 : Nat) ({ cls := "SpeaksInTurn", name := "isKnown", desc := "(LSpeaksInTurn$Card;)Z" } : Jvm.MethodName)) ∈ lw_all := lw_g (lw_at lw_m4 229 rfl) rfl
theorem q1059 : (Jvm.Cond.privateMethod ({ cls := "SpeaksInTurn", name := "isKnown", desc := "(LSpeaksInTurn$Card;)Z" } : Jvm.MethodName)) ∈ lw_tbl := lw_at lw_m4 230 rfl
theorem q1060 : (Jvm.Cond.instanceMethod ({ cls := "SpeaksInTurn", name := "isKnown", desc := "(LSpeaksInTurn$Card;)Z" } : Jvm.MethodName)) ∈ lw_all := lw_g (lw_at lw_m4 231 rfl) rfl
theorem q1061 : (Jvm.Cond.code ({ cls := "SpeaksInTurn", name := "isKnown", desc := "(LSpeaksInTurn$Card;)Z" } : Jvm.MethodName) prog_1_method_22_code (2 : Nat) (Option.some Jvm.ClassFile.FieldType.boolean)) ∈ lw_all := lw_g (lw_at lw_m4 232 rfl) rfl
theorem q1062 : (Jvm.Cond.methodLink "SpeaksInTurn" (291 : Nat) ({ cls := "SpeaksInTurn", name := "alone", desc := "(I)I" } : Jvm.MethodName)) ∈ lw_all := lw_g (lw_at lw_m4 233 rfl) rfl
theorem q1063 : (Jvm.Cond.privateMethod ({ cls := "SpeaksInTurn", name := "alone", desc := "(I)I" } : Jvm.MethodName)) ∈ lw_tbl := lw_at lw_m4 234 rfl
theorem q1064 : (Jvm.Cond.instanceMethod ({ cls := "SpeaksInTurn", name := "alone", desc := "(I)I" } : Jvm.MethodName)) ∈ lw_all := lw_g (lw_at lw_m4 235 rfl) rfl
theorem q1065 : (Jvm.Cond.code ({ cls := "SpeaksInTurn", name := "alone", desc := "(I)I" } : Jvm.MethodName) prog_1_method_28_code (4 : Nat) (Option.some Jvm.ClassFile.FieldType.int)) ∈ lw_all := lw_g (lw_at lw_m4 236 rfl) rfl
theorem q1066 : (Jvm.Cond.methodLink "SpeaksInTurn" (310 : Nat) ({ cls := "java/lang/Integer", name := "bitCount", desc := "(I)I" } : Jvm.MethodName)) ∈ lw_all := lw_g (lw_at lw_m4 237 rfl) rfl
theorem q1072 : (Jvm.Cond.methodLink "SpeaksInTurn" (295 : Nat) ({ cls := "SpeaksInTurn$Meeting", name := "cost", desc := "()I" } : Jvm.MethodName)) ∈ lw_all := lw_g (lw_at lw_m5 3 rfl) rfl
theorem q1080 : (Jvm.Cond.methodLink "SpeaksInTurn" (298 : Nat) ({ cls := "SpeaksInTurn$Meeting", name := "shed", desc := "()I" } : Jvm.MethodName)) ∈ lw_all := lw_g (lw_at lw_m5 11 rfl) rfl
theorem q1087 : (Jvm.Cond.methodLink "SpeaksInTurn" (301 : Nat) ({ cls := "SpeaksInTurn", name := "needed", desc := "(I)I" } : Jvm.MethodName)) ∈ lw_all := lw_g (lw_at lw_m5 18 rfl) rfl
theorem q1088 : (Jvm.Cond.privateMethod ({ cls := "SpeaksInTurn", name := "needed", desc := "(I)I" } : Jvm.MethodName)) ∈ lw_tbl := lw_at lw_m5 19 rfl
theorem q1089 : (Jvm.Cond.instanceMethod ({ cls := "SpeaksInTurn", name := "needed", desc := "(I)I" } : Jvm.MethodName)) ∈ lw_all := lw_g (lw_at lw_m5 20 rfl) rfl
theorem q1090 : (Jvm.Cond.code ({ cls := "SpeaksInTurn", name := "needed", desc := "(I)I" } : Jvm.MethodName) prog_1_method_29_code (4 : Nat) (Option.some Jvm.ClassFile.FieldType.int)) ∈ lw_all := lw_g (lw_at lw_m5 21 rfl) rfl
theorem q1091 : (Jvm.Cond.methodLink "SpeaksInTurn" (304 : Nat) ({ cls := "SpeaksInTurn$Meeting", name := "sumOf", desc := "(I)I" } : Jvm.MethodName)) ∈ lw_all := lw_g (lw_at lw_m5 22 rfl) rfl
theorem q1092 : (Jvm.Cond.methodLink "SpeaksInTurn" (307 : Nat) ({ cls := "SpeaksInTurn$Meeting", name := "thereFor", desc := "(I)I" } : Jvm.MethodName)) ∈ lw_all := lw_g (lw_at lw_m5 23 rfl) rfl
theorem q1094 : (Jvm.Cond.instanceMethod ({ cls := "SpeaksInTurn", name := "told", desc := "(I)I" } : Jvm.MethodName)) ∈ lw_all := lw_g (lw_at lw_m5 25 rfl) rfl
theorem q1095 : (Jvm.Cond.selects "SpeaksInTurn" ({ cls := "SpeaksInTurn", name := "told", desc := "(I)I" } : Jvm.MethodName) ({ cls := "SpeaksInTurn", name := "told", desc := "(I)I" } : Jvm.MethodName)) ∈ lw_all := lw_g (lw_at lw_m5 26 rfl) rfl
theorem q1096 : (Jvm.Cond.code ({ cls := "SpeaksInTurn", name := "told", desc := "(I)I" } : Jvm.MethodName) prog_1_method_30_code (2 : Nat) (Option.some Jvm.ClassFile.FieldType.int)) ∈ lw_all := lw_g (lw_at lw_m5 27 rfl) rfl
theorem q1098 : (Jvm.Cond.instanceMethod ({ cls := "SpeaksInTurn", name := "saying", desc := "(II)I" } : Jvm.MethodName)) ∈ lw_all := lw_g (lw_at lw_m5 29 rfl) rfl
theorem q1099 : (Jvm.Cond.selects "SpeaksInTurn" ({ cls := "SpeaksInTurn", name := "saying", desc := "(II)I" } : Jvm.MethodName) ({ cls := "SpeaksInTurn", name := "saying", desc := "(II)I" } : Jvm.MethodName)) ∈ lw_all := lw_g (lw_at lw_m5 30 rfl) rfl
theorem q1100 : (Jvm.Cond.code ({ cls := "SpeaksInTurn", name := "saying", desc := "(II)I" } : Jvm.MethodName) prog_1_method_31_code (3 : Nat) (Option.some Jvm.ClassFile.FieldType.int)) ∈ lw_all := lw_g (lw_at lw_m5 31 rfl) rfl
theorem q1102 : (Jvm.Cond.instanceMethod ({ cls := "SpeaksInTurn", name := "took", desc := "(II)I" } : Jvm.MethodName)) ∈ lw_all := lw_g (lw_at lw_m5 33 rfl) rfl
theorem q1103 : (Jvm.Cond.selects "SpeaksInTurn" ({ cls := "SpeaksInTurn", name := "took", desc := "(II)I" } : Jvm.MethodName) ({ cls := "SpeaksInTurn", name := "took", desc := "(II)I" } : Jvm.MethodName)) ∈ lw_all := lw_g (lw_at lw_m5 34 rfl) rfl
theorem q1104 : (Jvm.Cond.code ({ cls := "SpeaksInTurn", name := "took", desc := "(II)I" } : Jvm.MethodName) prog_1_method_32_code (3 : Nat) (Option.some Jvm.ClassFile.FieldType.int)) ∈ lw_all := lw_g (lw_at lw_m5 35 rfl) rfl
theorem q1106 : (Jvm.Cond.instanceMethod ({ cls := "SpeaksInTurn", name := "did", desc := "(II)I" } : Jvm.MethodName)) ∈ lw_all := lw_g (lw_at lw_m5 37 rfl) rfl
theorem q1107 : (Jvm.Cond.selects "SpeaksInTurn" ({ cls := "SpeaksInTurn", name := "did", desc := "(II)I" } : Jvm.MethodName) ({ cls := "SpeaksInTurn", name := "did", desc := "(II)I" } : Jvm.MethodName)) ∈ lw_all := lw_g (lw_at lw_m5 38 rfl) rfl
theorem q1108 : (Jvm.Cond.code ({ cls := "SpeaksInTurn", name := "did", desc := "(II)I" } : Jvm.MethodName) prog_1_method_33_code (3 : Nat) (Option.some Jvm.ClassFile.FieldType.int)) ∈ lw_all := lw_g (lw_at lw_m5 39 rfl) rfl
theorem q1110 : (Jvm.Cond.instanceMethod ({ cls := "SpeaksInTurn", name := "first", desc := "(II)I" } : Jvm.MethodName)) ∈ lw_all := lw_g (lw_at lw_m5 41 rfl) rfl
theorem q1111 : (Jvm.Cond.selects "SpeaksInTurn" ({ cls := "SpeaksInTurn", name := "first", desc := "(II)I" } : Jvm.MethodName) ({ cls := "SpeaksInTurn", name := "first", desc := "(II)I" } : Jvm.MethodName)) ∈ lw_all := lw_g (lw_at lw_m5 42 rfl) rfl
theorem q1112 : (Jvm.Cond.code ({ cls := "SpeaksInTurn", name := "first", desc := "(II)I" } : Jvm.MethodName) prog_1_method_34_code (3 : Nat) (Option.some Jvm.ClassFile.FieldType.int)) ∈ lw_all := lw_g (lw_at lw_m5 43 rfl) rfl
theorem q1114 : (Jvm.Cond.instanceMethod ({ cls := "SpeaksInTurn", name := "rule", desc := "(I)I" } : Jvm.MethodName)) ∈ lw_all := lw_g (lw_at lw_m5 45 rfl) rfl
theorem q1115 : (Jvm.Cond.selects "SpeaksInTurn" ({ cls := "SpeaksInTurn", name := "rule", desc := "(I)I" } : Jvm.MethodName) ({ cls := "SpeaksInTurn", name := "rule", desc := "(I)I" } : Jvm.MethodName)) ∈ lw_all := lw_g (lw_at lw_m5 46 rfl) rfl
theorem q1116 : (Jvm.Cond.code ({ cls := "SpeaksInTurn", name := "rule", desc := "(I)I" } : Jvm.MethodName) prog_1_method_37_code (3 : Nat) (Option.some Jvm.ClassFile.FieldType.int)) ∈ lw_all := lw_g (lw_at lw_m5 47 rfl) rfl
theorem q1117 : (Jvm.Cond.methodLink "SpeaksInTurn" (363 : Nat) ({ cls := "SpeaksInTurn", name := "look", desc := "(I)V" } : Jvm.MethodName)) ∈ lw_all := lw_g (lw_at lw_m5 48 rfl) rfl
theorem q1118 : (Jvm.Cond.privateMethod ({ cls := "SpeaksInTurn", name := "look", desc := "(I)V" } : Jvm.MethodName)) ∈ lw_tbl := lw_at lw_m5 49 rfl
theorem q1119 : (Jvm.Cond.instanceMethod ({ cls := "SpeaksInTurn", name := "look", desc := "(I)V" } : Jvm.MethodName)) ∈ lw_all := lw_g (lw_at lw_m5 50 rfl) rfl
theorem q1120 : (Jvm.Cond.code ({ cls := "SpeaksInTurn", name := "look", desc := "(I)V" } : Jvm.MethodName) prog_1_method_35_code (4 : Nat) (Option.none : Option Jvm.ClassFile.FieldType)) ∈ lw_all := lw_g (lw_at lw_m5 51 rfl) rfl
theorem q1121 : (Jvm.Cond.methodLink "SpeaksInTurn" (367 : Nat) ({ cls := "SpeaksInTurn", name := "best", desc := "(I)I" } : Jvm.MethodName)) ∈ lw_all := lw_g (lw_at lw_m5 52 rfl) rfl
theorem q1122 : (Jvm.Cond.privateMethod ({ cls := "SpeaksInTurn", name := "best", desc := "(I)I" } : Jvm.MethodName)) ∈ lw_tbl := lw_at lw_m5 53 rfl
theorem q1123 : (Jvm.Cond.instanceMethod ({ cls := "SpeaksInTurn", name := "best", desc := "(I)I" } : Jvm.MethodName)) ∈ lw_all := lw_g (lw_at lw_m5 54 rfl) rfl
theorem q1124 : (Jvm.Cond.code ({ cls := "SpeaksInTurn", name := "best", desc := "(I)I" } : Jvm.MethodName) prog_1_method_36_code (2 : Nat) (Option.some Jvm.ClassFile.FieldType.int)) ∈ lw_all := lw_g (lw_at lw_m5 55 rfl) rfl
theorem q1126 : (Jvm.Cond.instanceMethod ({ cls := "SpeaksInTurn", name := "order", desc := "(I)I" } : Jvm.MethodName)) ∈ lw_all := lw_g (lw_at lw_m5 57 rfl) rfl
theorem q1127 : (Jvm.Cond.selects "SpeaksInTurn" ({ cls := "SpeaksInTurn", name := "order", desc := "(I)I" } : Jvm.MethodName) ({ cls := "SpeaksInTurn", name := "order", desc := "(I)I" } : Jvm.MethodName)) ∈ lw_all := lw_g (lw_at lw_m5 58 rfl) rfl
theorem q1128 : (Jvm.Cond.code ({ cls := "SpeaksInTurn", name := "order", desc := "(I)I" } : Jvm.MethodName) prog_1_method_39_code (2 : Nat) (Option.some Jvm.ClassFile.FieldType.int)) ∈ lw_all := lw_g (lw_at lw_m5 59 rfl) rfl
theorem q1129 : (Jvm.Cond.methodLink "SpeaksInTurn" (370 : Nat) ({ cls := "SpeaksInTurn", name := "tryOrders", desc := "(III)V" } : Jvm.MethodName)) ∈ lw_all := lw_g (lw_at lw_m5 60 rfl) rfl
theorem q1130 : (Jvm.Cond.privateMethod ({ cls := "SpeaksInTurn", name := "tryOrders", desc := "(III)V" } : Jvm.MethodName)) ∈ lw_tbl := lw_at lw_m5 61 rfl
theorem q1131 : (Jvm.Cond.instanceMethod ({ cls := "SpeaksInTurn", name := "tryOrders", desc := "(III)V" } : Jvm.MethodName)) ∈ lw_all := lw_g (lw_at lw_m5 62 rfl) rfl
theorem q1132 : (Jvm.Cond.code ({ cls := "SpeaksInTurn", name := "tryOrders", desc := "(III)V" } : Jvm.MethodName) prog_1_method_38_code (5 : Nat) (Option.none : Option Jvm.ClassFile.FieldType)) ∈ lw_all := lw_g (lw_at lw_m5 63 rfl) rfl
theorem q1134 : (Jvm.Cond.instanceMethod ({ cls := "SpeaksInTurn", name := "times", desc := "(I)I" } : Jvm.MethodName)) ∈ lw_all := lw_g (lw_at lw_m5 65 rfl) rfl
theorem q1135 : (Jvm.Cond.selects "SpeaksInTurn" ({ cls := "SpeaksInTurn", name := "times", desc := "(I)I" } : Jvm.MethodName) ({ cls := "SpeaksInTurn", name := "times", desc := "(I)I" } : Jvm.MethodName)) ∈ lw_all := lw_g (lw_at lw_m5 66 rfl) rfl
theorem q1136 : (Jvm.Cond.code ({ cls := "SpeaksInTurn", name := "times", desc := "(I)I" } : Jvm.MethodName) prog_1_method_40_code (3 : Nat) (Option.some Jvm.ClassFile.FieldType.int)) ∈ lw_all := lw_g (lw_at lw_m5 67 rfl) rfl
theorem q1138 : (Jvm.Cond.instanceMethod ({ cls := "SpeaksInTurn", name := "film", desc := "(I)I" } : Jvm.MethodName)) ∈ lw_all := lw_g (lw_at lw_m5 69 rfl) rfl
theorem q1139 : (Jvm.Cond.selects "SpeaksInTurn" ({ cls := "SpeaksInTurn", name := "film", desc := "(I)I" } : Jvm.MethodName) ({ cls := "SpeaksInTurn", name := "film", desc := "(I)I" } : Jvm.MethodName)) ∈ lw_all := lw_g (lw_at lw_m5 70 rfl) rfl
theorem q1140 : (Jvm.Cond.codeWith ({ cls := "SpeaksInTurn", name := "film", desc := "(I)I" } : Jvm.MethodName) prog_1_method_42_code (3 : Nat) (Option.some Jvm.ClassFile.FieldType.int) [((9 : Nat), (41 : Nat), (42 : Nat), (130 : Nat)), ((9 : Nat), (41 : Nat), (46 : Nat), (132 : Nat))]) ∈ lw_all := lw_g (lw_at lw_m5 71 rfl) rfl
theorem q1141 : (Jvm.Cond.classLink "SpeaksInTurn" (374 : Nat) "SpeaksInTurn$ByteRow") ∈ lw_all := lw_g (lw_at lw_m5 72 rfl) rfl
theorem q1142 : (Jvm.Cond.methodLink "SpeaksInTurn" (373 : Nat) ({ cls := "SpeaksInTurn$ByteRow", name := "size", desc := "()I" } : Jvm.MethodName)) ∈ lw_all := lw_g (lw_at lw_m5 73 rfl) rfl
theorem q1146 : (Jvm.Cond.methodLink "SpeaksInTurn" (379 : Nat) ({ cls := "SpeaksInTurn", name := "filmed", desc := "(LSpeaksInTurn$ByteRow;)I" } : Jvm.MethodName)) ∈ lw_all := lw_g (lw_at lw_m5 77 rfl) rfl
theorem q1147 : (Jvm.Cond.privateMethod ({ cls := "SpeaksInTurn", name := "filmed", desc := "(LSpeaksInTurn$ByteRow;)I" } : Jvm.MethodName)) ∈ lw_tbl := lw_at lw_m5 78 rfl
theorem q1148 : (Jvm.Cond.instanceMethod ({ cls := "SpeaksInTurn", name := "filmed", desc := "(LSpeaksInTurn$ByteRow;)I" } : Jvm.MethodName)) ∈ lw_all := lw_g (lw_at lw_m5 79 rfl) rfl
theorem q1149 : (Jvm.Cond.code ({ cls := "SpeaksInTurn", name := "filmed", desc := "(LSpeaksInTurn$ByteRow;)I" } : Jvm.MethodName) prog_1_method_41_code (6 : Nat) (Option.some Jvm.ClassFile.FieldType.int)) ∈ lw_all := lw_g (lw_at lw_m5 80 rfl) rfl
theorem q1150 : (Jvm.Cond.methodLink "SpeaksInTurn" (378 : Nat) ({ cls := "SpeaksInTurn$ByteRow", name := "at", desc := "(I)J" } : Jvm.MethodName)) ∈ lw_all := lw_g (lw_at lw_m5 81 rfl) rfl
theorem q1155 : (Jvm.Cond.instanceMethod ({ cls := "SpeaksInTurn", name := "wish", desc := "(II)I" } : Jvm.MethodName)) ∈ lw_all := lw_g (lw_at lw_m5 86 rfl) rfl
theorem q1156 : (Jvm.Cond.selects "SpeaksInTurn" ({ cls := "SpeaksInTurn", name := "wish", desc := "(II)I" } : Jvm.MethodName) ({ cls := "SpeaksInTurn", name := "wish", desc := "(II)I" } : Jvm.MethodName)) ∈ lw_all := lw_g (lw_at lw_m5 87 rfl) rfl
theorem q1157 : (Jvm.Cond.code ({ cls := "SpeaksInTurn", name := "wish", desc := "(II)I" } : Jvm.MethodName) prog_1_method_43_code (5 : Nat) (Option.some Jvm.ClassFile.FieldType.int)) ∈ lw_all := lw_g (lw_at lw_m5 88 rfl) rfl
theorem q1158 : (Jvm.Cond.methodLink "SpeaksInTurn" (383 : Nat) ({ cls := "SpeaksInTurn$Card", name := "isOf", desc := "(I)Z" } : Jvm.MethodName)) ∈ lw_all := lw_g (lw_at lw_m5 89 rfl) rfl
theorem q1159 : (Jvm.Cond.methodLink "SpeaksInTurn" (386 : Nat) ({ cls := "SpeaksInTurn", name := "wishOf", desc := "(IIIIII)I" } : Jvm.MethodName)) ∈ lw_all := lw_g (lw_at lw_m5 90 rfl) rfl
theorem q1161 : (Jvm.Cond.instanceMethod ({ cls := "SpeaksInTurn", name := "body", desc := "(I)I" } : Jvm.MethodName)) ∈ lw_all := lw_g (lw_at lw_m5 92 rfl) rfl
theorem q1162 : (Jvm.Cond.selects "SpeaksInTurn" ({ cls := "SpeaksInTurn", name := "body", desc := "(I)I" } : Jvm.MethodName) ({ cls := "SpeaksInTurn", name := "body", desc := "(I)I" } : Jvm.MethodName)) ∈ lw_all := lw_g (lw_at lw_m5 93 rfl) rfl
theorem q1163 : (Jvm.Cond.code ({ cls := "SpeaksInTurn", name := "body", desc := "(I)I" } : Jvm.MethodName) prog_1_method_47_code (2 : Nat) (Option.some Jvm.ClassFile.FieldType.int)) ∈ lw_all := lw_g (lw_at lw_m5 94 rfl) rfl
theorem q1164 : (Jvm.Cond.methodLink "SpeaksInTurn" (420 : Nat) ({ cls := "SpeaksInTurn", name := "made", desc := "(I)LSpeaksInTurn$Plain;" } : Jvm.MethodName)) ∈ lw_all := lw_g (lw_at lw_m5 95 rfl) rfl
theorem q1165 : (Jvm.Cond.privateMethod ({ cls := "SpeaksInTurn", name := "made", desc := "(I)LSpeaksInTurn$Plain;" } : Jvm.MethodName)) ∈ lw_tbl := lw_at lw_m5 96 rfl
theorem q1166 : (Jvm.Cond.instanceMethod ({ cls := "SpeaksInTurn", name := "made", desc := "(I)LSpeaksInTurn$Plain;" } : Jvm.MethodName)) ∈ lw_all := lw_g (lw_at lw_m5 97 rfl) rfl
theorem q1167 : (Jvm.Cond.code ({ cls := "SpeaksInTurn", name := "made", desc := "(I)LSpeaksInTurn$Plain;" } : Jvm.MethodName) prog_1_method_46_code (2 : Nat) (Option.some (Jvm.ClassFile.FieldType.object "SpeaksInTurn$Plain"))) ∈ lw_all := lw_g (lw_at lw_m5 98 rfl) rfl
theorem q1168 : (Jvm.Cond.classLink "SpeaksInTurn" (396 : Nat) "SpeaksInTurn$New") ∈ lw_all := lw_g (lw_at lw_m5 99 rfl) rfl
theorem q1170 : (Jvm.Cond.methodLink "SpeaksInTurn" (398 : Nat) ({ cls := "SpeaksInTurn$New", name := "<init>", desc := "(LSpeaksInTurn;I)V" } : Jvm.MethodName)) ∈ lw_all := lw_g (lw_at lw_m5 101 rfl) rfl
theorem q1190 : (Jvm.Cond.classLink "SpeaksInTurn" (401 : Nat) "SpeaksInTurn$Shared") ∈ lw_all := lw_g (lw_at lw_m5 121 rfl) rfl
theorem q1192 : (Jvm.Cond.methodLink "SpeaksInTurn" (403 : Nat) ({ cls := "SpeaksInTurn$Shared", name := "<init>", desc := "(LSpeaksInTurn;I)V" } : Jvm.MethodName)) ∈ lw_all := lw_g (lw_at lw_m5 123 rfl) rfl
theorem q1202 : (Jvm.Cond.classLink "SpeaksInTurn" (404 : Nat) "SpeaksInTurn$Again") ∈ lw_all := lw_g (lw_at lw_m5 133 rfl) rfl
theorem q1204 : (Jvm.Cond.methodLink "SpeaksInTurn" (406 : Nat) ({ cls := "SpeaksInTurn$Again", name := "<init>", desc := "(LSpeaksInTurn;I)V" } : Jvm.MethodName)) ∈ lw_all := lw_g (lw_at lw_m5 135 rfl) rfl
theorem q1215 : (Jvm.Cond.classLink "SpeaksInTurn" (407 : Nat) "SpeaksInTurn$Stopped") ∈ lw_all := lw_g (lw_at lw_m5 146 rfl) rfl
theorem q1217 : (Jvm.Cond.methodLink "SpeaksInTurn" (409 : Nat) ({ cls := "SpeaksInTurn$Stopped", name := "<init>", desc := "(LSpeaksInTurn;I)V" } : Jvm.MethodName)) ∈ lw_all := lw_g (lw_at lw_m5 148 rfl) rfl
theorem q1227 : (Jvm.Cond.classLink "SpeaksInTurn" (410 : Nat) "SpeaksInTurn$Taken") ∈ lw_all := lw_g (lw_at lw_m5 158 rfl) rfl
theorem q1229 : (Jvm.Cond.methodLink "SpeaksInTurn" (412 : Nat) ({ cls := "SpeaksInTurn$Taken", name := "<init>", desc := "(LSpeaksInTurn;I)V" } : Jvm.MethodName)) ∈ lw_all := lw_g (lw_at lw_m5 160 rfl) rfl
theorem q1241 : (Jvm.Cond.classLink "SpeaksInTurn" (413 : Nat) "SpeaksInTurn$Easy") ∈ lw_all := lw_g (lw_at lw_m5 172 rfl) rfl
theorem q1243 : (Jvm.Cond.methodLink "SpeaksInTurn" (415 : Nat) ({ cls := "SpeaksInTurn$Easy", name := "<init>", desc := "(LSpeaksInTurn;I)V" } : Jvm.MethodName)) ∈ lw_all := lw_g (lw_at lw_m5 174 rfl) rfl
theorem q1253 : (Jvm.Cond.classLink "SpeaksInTurn" (416 : Nat) "SpeaksInTurn$Unheard") ∈ lw_all := lw_g (lw_at lw_m5 184 rfl) rfl
theorem q1255 : (Jvm.Cond.methodLink "SpeaksInTurn" (418 : Nat) ({ cls := "SpeaksInTurn$Unheard", name := "<init>", desc := "(LSpeaksInTurn;I)V" } : Jvm.MethodName)) ∈ lw_all := lw_g (lw_at lw_m5 186 rfl) rfl
theorem q1267 : (Jvm.Cond.methodLink "SpeaksInTurn" (419 : Nat) ({ cls := "SpeaksInTurn$Plain", name := "<init>", desc := "(LSpeaksInTurn;I)V" } : Jvm.MethodName)) ∈ lw_all := lw_g (lw_at lw_m5 198 rfl) rfl
theorem q1272 : (Jvm.Cond.instanceMethod ({ cls := "SpeaksInTurn", name := "act", desc := "(III)I" } : Jvm.MethodName)) ∈ lw_all := lw_g (lw_at lw_m5 203 rfl) rfl
theorem q1273 : (Jvm.Cond.selects "SpeaksInTurn" ({ cls := "SpeaksInTurn", name := "act", desc := "(III)I" } : Jvm.MethodName) ({ cls := "SpeaksInTurn", name := "act", desc := "(III)I" } : Jvm.MethodName)) ∈ lw_all := lw_g (lw_at lw_m5 204 rfl) rfl
theorem q1274 : (Jvm.Cond.code ({ cls := "SpeaksInTurn", name := "act", desc := "(III)I" } : Jvm.MethodName) prog_1_method_49_code (6 : Nat) (Option.some Jvm.ClassFile.FieldType.int)) ∈ lw_all := lw_g (lw_at lw_m5 205 rfl) rfl
theorem q1275 : (Jvm.Cond.methodLink "SpeaksInTurn" (424 : Nat) ({ cls := "SpeaksInTurn", name := "isBody", desc := "(I)Z" } : Jvm.MethodName)) ∈ lw_all := lw_g (lw_at lw_m5 206 rfl) rfl
theorem q1276 : (Jvm.Cond.privateMethod ({ cls := "SpeaksInTurn", name := "isBody", desc := "(I)Z" } : Jvm.MethodName)) ∈ lw_tbl := lw_at lw_m5 207 rfl
theorem q1277 : (Jvm.Cond.instanceMethod ({ cls := "SpeaksInTurn", name := "isBody", desc := "(I)Z" } : Jvm.MethodName)) ∈ lw_all := lw_g (lw_at lw_m5 208 rfl) rfl
theorem q1278 : (Jvm.Cond.code ({ cls := "SpeaksInTurn", name := "isBody", desc := "(I)Z" } : Jvm.MethodName) prog_1_method_45_code (2 : Nat) (Option.some Jvm.ClassFile.FieldType.boolean)) ∈ lw_all := lw_g (lw_at lw_m5 209 rfl) rfl
theorem q1279 : (Jvm.Cond.interfaceEntry "SpeaksInTurn" (427 : Nat)) ∈ lw_tbl := lw_at lw_m5 210 rfl
theorem q1280 : (Jvm.Cond.methodLink "SpeaksInTurn" (427 : Nat) ({ cls := "SpeaksInTurn$Knows", name := "knows", desc := "(I)I" } : Jvm.MethodName)) ∈ lw_all := lw_g (lw_at lw_m5 211 rfl) rfl
theorem q1290 : (Jvm.Cond.privateMethod ({ cls := "SpeaksInTurn", name := "ran", desc := "(I)V" } : Jvm.MethodName)) ∈ lw_tbl := lw_at lw_m5 221 rfl
theorem q1291 : (Jvm.Cond.instanceMethod ({ cls := "SpeaksInTurn", name := "ran", desc := "(I)V" } : Jvm.MethodName)) ∈ lw_all := lw_g (lw_at lw_m5 222 rfl) rfl
theorem q1292 : (Jvm.Cond.code ({ cls := "SpeaksInTurn", name := "ran", desc := "(I)V" } : Jvm.MethodName) prog_1_method_44_code (2 : Nat) (Option.none : Option Jvm.ClassFile.FieldType)) ∈ lw_all := lw_g (lw_at lw_m5 223 rfl) rfl
theorem q1324 : (Jvm.Cond.interfaceEntry "SpeaksInTurn" (432 : Nat)) ∈ lw_tbl := lw_at lw_m6 15 rfl
theorem q1325 : (Jvm.Cond.methodLink "SpeaksInTurn" (432 : Nat) ({ cls := "SpeaksInTurn$Tells", name := "tells", desc := "(I)I" } : Jvm.MethodName)) ∈ lw_all := lw_g (lw_at lw_m6 16 rfl) rfl
theorem q1415 : (Jvm.Cond.methodLink "SpeaksInTurn" (437 : Nat) ({ cls := "SpeaksInTurn$Plain", name := "speaks", desc := "(I)I" } : Jvm.MethodName)) ∈ lw_all := lw_g (lw_at lw_m6 106 rfl) rfl
theorem q1416 : (Jvm.Cond.methodLink "SpeaksInTurn" (440 : Nat) ({ cls := "SpeaksInTurn$Plain", name := "stops", desc := "(I)I" } : Jvm.MethodName)) ∈ lw_all := lw_g (lw_at lw_m6 107 rfl) rfl
theorem q1418 : (Jvm.Cond.instanceMethod ({ cls := "SpeaksInTurn", name := "trace", desc := "(I)I" } : Jvm.MethodName)) ∈ lw_all := lw_g (lw_at lw_m6 109 rfl) rfl
theorem q1419 : (Jvm.Cond.selects "SpeaksInTurn" ({ cls := "SpeaksInTurn", name := "trace", desc := "(I)I" } : Jvm.MethodName) ({ cls := "SpeaksInTurn", name := "trace", desc := "(I)I" } : Jvm.MethodName)) ∈ lw_all := lw_g (lw_at lw_m6 110 rfl) rfl
theorem q1420 : (Jvm.Cond.code ({ cls := "SpeaksInTurn", name := "trace", desc := "(I)I" } : Jvm.MethodName) prog_1_method_50_code (2 : Nat) (Option.some Jvm.ClassFile.FieldType.int)) ∈ lw_all := lw_g (lw_at lw_m6 111 rfl) rfl
theorem q1422 : (Jvm.Cond.instanceMethod ({ cls := "SpeaksInTurn", name := "keep", desc := "(II)I" } : Jvm.MethodName)) ∈ lw_all := lw_g (lw_at lw_m6 113 rfl) rfl
theorem q1423 : (Jvm.Cond.selects "SpeaksInTurn" ({ cls := "SpeaksInTurn", name := "keep", desc := "(II)I" } : Jvm.MethodName) ({ cls := "SpeaksInTurn", name := "keep", desc := "(II)I" } : Jvm.MethodName)) ∈ lw_all := lw_g (lw_at lw_m6 114 rfl) rfl
theorem q1424 : (Jvm.Cond.code ({ cls := "SpeaksInTurn", name := "keep", desc := "(II)I" } : Jvm.MethodName) prog_1_method_51_code (3 : Nat) (Option.some Jvm.ClassFile.FieldType.int)) ∈ lw_all := lw_g (lw_at lw_m6 115 rfl) rfl
theorem q1426 : (Jvm.Cond.instanceMethod ({ cls := "SpeaksInTurn", name := "row", desc := "(III)I" } : Jvm.MethodName)) ∈ lw_all := lw_g (lw_at lw_m6 117 rfl) rfl
theorem q1427 : (Jvm.Cond.selects "SpeaksInTurn" ({ cls := "SpeaksInTurn", name := "row", desc := "(III)I" } : Jvm.MethodName) ({ cls := "SpeaksInTurn", name := "row", desc := "(III)I" } : Jvm.MethodName)) ∈ lw_all := lw_g (lw_at lw_m6 118 rfl) rfl
theorem q1428 : (Jvm.Cond.codeWith ({ cls := "SpeaksInTurn", name := "row", desc := "(III)I" } : Jvm.MethodName) prog_1_method_53_code (5 : Nat) (Option.some Jvm.ClassFile.FieldType.int) [((24 : Nat), (35 : Nat), (38 : Nat), (458 : Nat))]) ∈ lw_all := lw_g (lw_at lw_m6 119 rfl) rfl
theorem q1429 : (Jvm.Cond.classLink "SpeaksInTurn" (458 : Nat) "java/lang/NegativeArraySizeException") ∈ lw_all := lw_g (lw_at lw_m6 120 rfl) rfl
theorem q1443 : (Jvm.Cond.methodLink "SpeaksInTurn" (454 : Nat) ({ cls := "SpeaksInTurn", name := "newRow", desc := "(II)LSpeaksInTurn$Row;" } : Jvm.MethodName)) ∈ lw_all := lw_g (lw_at lw_m6 134 rfl) rfl
theorem q1444 : (Jvm.Cond.static ({ cls := "SpeaksInTurn", name := "newRow", desc := "(II)LSpeaksInTurn$Row;" } : Jvm.MethodName)) ∈ lw_all := lw_g (lw_at lw_m6 135 rfl) rfl
theorem q1445 : (Jvm.Cond.code ({ cls := "SpeaksInTurn", name := "newRow", desc := "(II)LSpeaksInTurn$Row;" } : Jvm.MethodName) prog_1_method_52_code (2 : Nat) (Option.some (Jvm.ClassFile.FieldType.object "SpeaksInTurn$Row"))) ∈ lw_all := lw_g (lw_at lw_m6 136 rfl) rfl
theorem q1447 : (Jvm.Cond.methodLink "SpeaksInTurn" (442 : Nat) ({ cls := "SpeaksInTurn$ByteRow", name := "<init>", desc := "(I)V" } : Jvm.MethodName)) ∈ lw_all := lw_g (lw_at lw_m6 138 rfl) rfl
theorem q1459 : (Jvm.Cond.methodLink "SpeaksInTurn" (444 : Nat) ({ cls := "SpeaksInTurn$ShortRow", name := "<init>", desc := "(I)V" } : Jvm.MethodName)) ∈ lw_all := lw_g (lw_at lw_m6 150 rfl) rfl
theorem q1468 : (Jvm.Cond.classLink "SpeaksInTurn" (445 : Nat) "SpeaksInTurn$IntRow") ∈ lw_all := lw_g (lw_at lw_m6 159 rfl) rfl
theorem q1470 : (Jvm.Cond.methodLink "SpeaksInTurn" (447 : Nat) ({ cls := "SpeaksInTurn$IntRow", name := "<init>", desc := "(I)V" } : Jvm.MethodName)) ∈ lw_all := lw_g (lw_at lw_m6 161 rfl) rfl
theorem q1478 : (Jvm.Cond.classLink "SpeaksInTurn" (448 : Nat) "SpeaksInTurn$LongRow") ∈ lw_all := lw_g (lw_at lw_m6 169 rfl) rfl
theorem q1480 : (Jvm.Cond.methodLink "SpeaksInTurn" (450 : Nat) ({ cls := "SpeaksInTurn$LongRow", name := "<init>", desc := "(I)V" } : Jvm.MethodName)) ∈ lw_all := lw_g (lw_at lw_m6 171 rfl) rfl
theorem q1489 : (Jvm.Cond.classLink "SpeaksInTurn" (451 : Nat) "SpeaksInTurn$BooleanRow") ∈ lw_all := lw_g (lw_at lw_m6 180 rfl) rfl
theorem q1491 : (Jvm.Cond.methodLink "SpeaksInTurn" (453 : Nat) ({ cls := "SpeaksInTurn$BooleanRow", name := "<init>", desc := "(I)V" } : Jvm.MethodName)) ∈ lw_all := lw_g (lw_at lw_m6 182 rfl) rfl
theorem q1501 : (Jvm.Cond.instanceMethod ({ cls := "SpeaksInTurn", name := "put", desc := "(IIJ)I" } : Jvm.MethodName)) ∈ lw_all := lw_g (lw_at lw_m6 192 rfl) rfl
theorem q1502 : (Jvm.Cond.selects "SpeaksInTurn" ({ cls := "SpeaksInTurn", name := "put", desc := "(IIJ)I" } : Jvm.MethodName) ({ cls := "SpeaksInTurn", name := "put", desc := "(IIJ)I" } : Jvm.MethodName)) ∈ lw_all := lw_g (lw_at lw_m6 193 rfl) rfl
theorem q1503 : (Jvm.Cond.codeWith ({ cls := "SpeaksInTurn", name := "put", desc := "(IIJ)I" } : Jvm.MethodName) prog_1_method_54_code (6 : Nat) (Option.some Jvm.ClassFile.FieldType.int) [((9 : Nat), (31 : Nat), (32 : Nat), (132 : Nat)), ((9 : Nat), (31 : Nat), (37 : Nat), (130 : Nat)), ((9 : Nat), (31 : Nat), (42 : Nat), (134 : Nat))]) ∈ lw_all := lw_g (lw_at lw_m6 194 rfl) rfl
theorem q1504 : (Jvm.Cond.classLink "SpeaksInTurn" (460 : Nat) "SpeaksInTurn$Row") ∈ lw_all := lw_g (lw_at lw_m6 195 rfl) rfl
theorem q1505 : (Jvm.Cond.methodLink "SpeaksInTurn" (462 : Nat) ({ cls := "SpeaksInTurn$Row", name := "put", desc := "(IJ)Z" } : Jvm.MethodName)) ∈ lw_all := lw_g (lw_at lw_m6 196 rfl) rfl
theorem q1524 : (Jvm.Cond.instanceMethod ({ cls := "SpeaksInTurn", name := "element", desc := "(II)J" } : Jvm.MethodName)) ∈ lw_all := lw_g (lw_at lw_m6 215 rfl) rfl
theorem q1525 : (Jvm.Cond.selects "SpeaksInTurn" ({ cls := "SpeaksInTurn", name := "element", desc := "(II)J" } : Jvm.MethodName) ({ cls := "SpeaksInTurn", name := "element", desc := "(II)J" } : Jvm.MethodName)) ∈ lw_all := lw_g (lw_at lw_m6 216 rfl) rfl
theorem q1526 : (Jvm.Cond.codeWith ({ cls := "SpeaksInTurn", name := "element", desc := "(II)J" } : Jvm.MethodName) prog_1_method_55_code (4 : Nat) (Option.some Jvm.ClassFile.FieldType.long) [((11 : Nat), (24 : Nat), (25 : Nat), (132 : Nat)), ((11 : Nat), (24 : Nat), (30 : Nat), (130 : Nat)), ((11 : Nat), (24 : Nat), (35 : Nat), (134 : Nat))]) ∈ lw_all := lw_g (lw_at lw_m6 217 rfl) rfl
theorem q1527 : (Jvm.Cond.constantLong "SpeaksInTurn" (468 : Nat) (-9223372036854775808 : Int64)) ∈ lw_all := lw_g (lw_at lw_m6 218 rfl) rfl
theorem q1528 : (Jvm.Cond.methodLink "SpeaksInTurn" (470 : Nat) ({ cls := "SpeaksInTurn$Row", name := "at", desc := "(I)J" } : Jvm.MethodName)) ∈ lw_all := lw_g (lw_at lw_m6 219 rfl) rfl
theorem q1543 : (Jvm.Cond.instanceMethod ({ cls := "SpeaksInTurn", name := "shift", desc := "(IIIII)I" } : Jvm.MethodName)) ∈ lw_all := lw_g (lw_at lw_m6 234 rfl) rfl
theorem q1544 : (Jvm.Cond.selects "SpeaksInTurn" ({ cls := "SpeaksInTurn", name := "shift", desc := "(IIIII)I" } : Jvm.MethodName) ({ cls := "SpeaksInTurn", name := "shift", desc := "(IIIII)I" } : Jvm.MethodName)) ∈ lw_all := lw_g (lw_at lw_m6 235 rfl) rfl
theorem q1545 : (Jvm.Cond.codeWith ({ cls := "SpeaksInTurn", name := "shift", desc := "(IIIII)I" } : Jvm.MethodName) prog_1_method_56_code (7 : Nat) (Option.some Jvm.ClassFile.FieldType.int) [((37 : Nat), (63 : Nat), (66 : Nat), (130 : Nat)), ((37 : Nat), (63 : Nat), (71 : Nat), (134 : Nat))]) ∈ lw_all := lw_g (lw_at lw_m6 236 rfl) rfl
theorem q1546 : (Jvm.Cond.methodLink "SpeaksInTurn" (471 : Nat) ({ cls := "SpeaksInTurn$Row", name := "copy", desc := "(ILSpeaksInTurn$Row;II)V" } : Jvm.MethodName)) ∈ lw_all := lw_g (lw_at lw_m6 237 rfl) rfl
theorem q1577 : (Jvm.Cond.instanceMethod ({ cls := "SpeaksInTurn", name := "taken", desc := "(II)I" } : Jvm.MethodName)) ∈ lw_all := lw_g (lw_at lw_m7 28 rfl) rfl
theorem q1578 : (Jvm.Cond.selects "SpeaksInTurn" ({ cls := "SpeaksInTurn", name := "taken", desc := "(II)I" } : Jvm.MethodName) ({ cls := "SpeaksInTurn", name := "taken", desc := "(II)I" } : Jvm.MethodName)) ∈ lw_all := lw_g (lw_at lw_m7 29 rfl) rfl
theorem q1579 : (Jvm.Cond.codeWith ({ cls := "SpeaksInTurn", name := "taken", desc := "(II)I" } : Jvm.MethodName) prog_1_method_57_code (4 : Nat) (Option.some Jvm.ClassFile.FieldType.int) [((19 : Nat), (46 : Nat), (47 : Nat), (132 : Nat)), ((19 : Nat), (46 : Nat), (51 : Nat), (130 : Nat))]) ∈ lw_all := lw_g (lw_at lw_m7 30 rfl) rfl
theorem q1580 : (Jvm.Cond.methodLink "SpeaksInTurn" (475 : Nat) ({ cls := "SpeaksInTurn$Plain", name := "isUnder", desc := "(I)Z" } : Jvm.MethodName)) ∈ lw_all := lw_g (lw_at lw_m7 31 rfl) rfl
theorem q1627 : (Jvm.Cond.methodLink "SpeaksInTurn" (478 : Nat) ({ cls := "SpeaksInTurn$Plain", name := "kind", desc := "()I" } : Jvm.MethodName)) ∈ lw_all := lw_g (lw_at lw_m7 78 rfl) rfl
theorem q1629 : (Jvm.Cond.instanceMethod ({ cls := "SpeaksInTurn", name := "count", desc := "(I)I" } : Jvm.MethodName)) ∈ lw_all := lw_g (lw_at lw_m7 80 rfl) rfl
theorem q1630 : (Jvm.Cond.selects "SpeaksInTurn" ({ cls := "SpeaksInTurn", name := "count", desc := "(I)I" } : Jvm.MethodName) ({ cls := "SpeaksInTurn", name := "count", desc := "(I)I" } : Jvm.MethodName)) ∈ lw_all := lw_g (lw_at lw_m7 81 rfl) rfl
theorem q1631 : (Jvm.Cond.code ({ cls := "SpeaksInTurn", name := "count", desc := "(I)I" } : Jvm.MethodName) prog_1_method_58_code (2 : Nat) (Option.some Jvm.ClassFile.FieldType.int)) ∈ lw_all := lw_g (lw_at lw_m7 82 rfl) rfl
theorem q111 : (Jvm.Cond.initialized "SpeaksInTurn$Facts") ∈ lw_all := lw_g (lw_at lw_m1 2 rfl) rfl
theorem q174 : (Jvm.Cond.instantiable "SpeaksInTurn$Facts" (1 : Nat)) ∈ lw_all := lw_g (lw_at lw_m1 65 rfl) rfl
theorem q176 : (Jvm.Cond.instanceMethod ({ cls := "SpeaksInTurn$Facts", name := "<init>", desc := "()V" } : Jvm.MethodName)) ∈ lw_all := lw_g (lw_at lw_m1 67 rfl) rfl
theorem q177 : (Jvm.Cond.code ({ cls := "SpeaksInTurn$Facts", name := "<init>", desc := "()V" } : Jvm.MethodName) prog_9_method_1_code (1 : Nat) (Option.none : Option Jvm.ClassFile.FieldType)) ∈ lw_all := lw_g (lw_at lw_m1 68 rfl) rfl
theorem q178 : (Jvm.Cond.methodLink "SpeaksInTurn$Facts" (1 : Nat) ({ cls := "java/lang/Object", name := "<init>", desc := "()V" } : Jvm.MethodName)) ∈ lw_all := lw_g (lw_at lw_m1 69 rfl) rfl
theorem q179 : (Jvm.Cond.fieldLink "SpeaksInTurn$Facts" (7 : Nat) "SpeaksInTurn$Facts" "named" "[I") ∈ lw_all := lw_g (lw_at lw_m1 70 rfl) rfl
theorem q182 : (Jvm.Cond.laysFinal "SpeaksInTurn$Facts" "SpeaksInTurn$Facts" "named" "[I") ∈ lw_all := lw_g (lw_at lw_m1 73 rfl) rfl
theorem q183 : (Jvm.Cond.soleField "SpeaksInTurn$Facts" "named") ∈ lw_all := lw_g (lw_at lw_m1 74 rfl) rfl
theorem q184 : (Jvm.Cond.superclass "SpeaksInTurn$Facts" "java/lang/Object") ∈ lw_all := lw_g (lw_at lw_m1 75 rfl) rfl
theorem q977 : (Jvm.Cond.instanceMethod ({ cls := "SpeaksInTurn$Facts", name := "clear", desc := "()V" } : Jvm.MethodName)) ∈ lw_all := lw_g (lw_at lw_m4 148 rfl) rfl
theorem q978 : (Jvm.Cond.selects "SpeaksInTurn$Facts" ({ cls := "SpeaksInTurn$Facts", name := "clear", desc := "()V" } : Jvm.MethodName) ({ cls := "SpeaksInTurn$Facts", name := "clear", desc := "()V" } : Jvm.MethodName)) ∈ lw_all := lw_g (lw_at lw_m4 149 rfl) rfl
theorem q979 : (Jvm.Cond.code ({ cls := "SpeaksInTurn$Facts", name := "clear", desc := "()V" } : Jvm.MethodName) prog_9_method_2_code (2 : Nat) (Option.none : Option Jvm.ClassFile.FieldType)) ∈ lw_all := lw_g (lw_at lw_m4 150 rfl) rfl
theorem q133 : (Jvm.Cond.initialized "SpeaksInTurn$Name") ∈ lw_all := lw_g (lw_at lw_m1 24 rfl) rfl
theorem q180 : (Jvm.Cond.fieldLinkNest "SpeaksInTurn$Name" (13 : Nat) "SpeaksInTurn$Facts" "named" "[I" "SpeaksInTurn") ∈ lw_tbl := lw_at lw_m1 71 rfl
theorem q850 : (Jvm.Cond.instantiable "SpeaksInTurn$Name" (1 : Nat)) ∈ lw_all := lw_g (lw_at lw_m4 21 rfl) rfl
theorem q852 : (Jvm.Cond.instanceMethod ({ cls := "SpeaksInTurn$Name", name := "<init>", desc := "(I)V" } : Jvm.MethodName)) ∈ lw_all := lw_g (lw_at lw_m4 23 rfl) rfl
theorem q853 : (Jvm.Cond.code ({ cls := "SpeaksInTurn$Name", name := "<init>", desc := "(I)V" } : Jvm.MethodName) prog_17_method_1_code (2 : Nat) (Option.none : Option Jvm.ClassFile.FieldType)) ∈ lw_all := lw_g (lw_at lw_m4 24 rfl) rfl
theorem q854 : (Jvm.Cond.methodLinkNest "SpeaksInTurn$Name" (1 : Nat) ({ cls := "SpeaksInTurn$Node", name := "<init>", desc := "()V" } : Jvm.MethodName) "SpeaksInTurn") ∈ lw_tbl := lw_at lw_m4 25 rfl
theorem q858 : (Jvm.Cond.fieldLink "SpeaksInTurn$Name" (7 : Nat) "SpeaksInTurn$Name" "letter" "I") ∈ lw_all := lw_g (lw_at lw_m4 29 rfl) rfl
theorem q859 : (Jvm.Cond.laysFinal "SpeaksInTurn$Name" "SpeaksInTurn$Name" "letter" "I") ∈ lw_all := lw_g (lw_at lw_m4 30 rfl) rfl
theorem q860 : (Jvm.Cond.soleField "SpeaksInTurn$Name" "letter") ∈ lw_all := lw_g (lw_at lw_m4 31 rfl) rfl
theorem q861 : (Jvm.Cond.superclass "SpeaksInTurn$Name" "SpeaksInTurn$Node") ∈ lw_all := lw_g (lw_at lw_m4 32 rfl) rfl
theorem q993 : (Jvm.Cond.instanceMethod ({ cls := "SpeaksInTurn$Name", name := "value", desc := "(LSpeaksInTurn$Facts;)I" } : Jvm.MethodName)) ∈ lw_all := lw_g (lw_at lw_m4 164 rfl) rfl
theorem q994 : (Jvm.Cond.code ({ cls := "SpeaksInTurn$Name", name := "value", desc := "(LSpeaksInTurn$Facts;)I" } : Jvm.MethodName) prog_17_method_2_code (2 : Nat) (Option.some Jvm.ClassFile.FieldType.int)) ∈ lw_all := lw_g (lw_at lw_m4 165 rfl) rfl
theorem q1005 : (Jvm.Cond.selects "SpeaksInTurn$Name" ({ cls := "SpeaksInTurn$Node", name := "value", desc := "(LSpeaksInTurn$Facts;)I" } : Jvm.MethodName) ({ cls := "SpeaksInTurn$Name", name := "value", desc := "(LSpeaksInTurn$Facts;)I" } : Jvm.MethodName)) ∈ lw_all := lw_g (lw_at lw_m4 176 rfl) rfl
theorem q134 : (Jvm.Cond.initialized "SpeaksInTurn$Denied") ∈ lw_all := lw_g (lw_at lw_m1 25 rfl) rfl
theorem q871 : (Jvm.Cond.instantiable "SpeaksInTurn$Denied" (1 : Nat)) ∈ lw_all := lw_g (lw_at lw_m4 42 rfl) rfl
theorem q873 : (Jvm.Cond.instanceMethod ({ cls := "SpeaksInTurn$Denied", name := "<init>", desc := "(LSpeaksInTurn$Node;)V" } : Jvm.MethodName)) ∈ lw_all := lw_g (lw_at lw_m4 44 rfl) rfl
theorem q874 : (Jvm.Cond.code ({ cls := "SpeaksInTurn$Denied", name := "<init>", desc := "(LSpeaksInTurn$Node;)V" } : Jvm.MethodName) prog_7_method_1_code (2 : Nat) (Option.none : Option Jvm.ClassFile.FieldType)) ∈ lw_all := lw_g (lw_at lw_m4 45 rfl) rfl
theorem q875 : (Jvm.Cond.methodLinkNest "SpeaksInTurn$Denied" (1 : Nat) ({ cls := "SpeaksInTurn$Node", name := "<init>", desc := "()V" } : Jvm.MethodName) "SpeaksInTurn") ∈ lw_tbl := lw_at lw_m4 46 rfl
theorem q876 : (Jvm.Cond.fieldLink "SpeaksInTurn$Denied" (7 : Nat) "SpeaksInTurn$Denied" "of" "LSpeaksInTurn$Node;") ∈ lw_all := lw_g (lw_at lw_m4 47 rfl) rfl
theorem q877 : (Jvm.Cond.laysFinal "SpeaksInTurn$Denied" "SpeaksInTurn$Denied" "of" "LSpeaksInTurn$Node;") ∈ lw_all := lw_g (lw_at lw_m4 48 rfl) rfl
theorem q878 : (Jvm.Cond.soleField "SpeaksInTurn$Denied" "of") ∈ lw_all := lw_g (lw_at lw_m4 49 rfl) rfl
theorem q879 : (Jvm.Cond.superclass "SpeaksInTurn$Denied" "SpeaksInTurn$Node") ∈ lw_all := lw_g (lw_at lw_m4 50 rfl) rfl
theorem q987 : (Jvm.Cond.selects "SpeaksInTurn$Denied" ({ cls := "SpeaksInTurn$Node", name := "value", desc := "(LSpeaksInTurn$Facts;)I" } : Jvm.MethodName) ({ cls := "SpeaksInTurn$Denied", name := "value", desc := "(LSpeaksInTurn$Facts;)I" } : Jvm.MethodName)) ∈ lw_all := lw_g (lw_at lw_m4 158 rfl) rfl
theorem q988 : (Jvm.Cond.instanceMethod ({ cls := "SpeaksInTurn$Denied", name := "value", desc := "(LSpeaksInTurn$Facts;)I" } : Jvm.MethodName)) ∈ lw_all := lw_g (lw_at lw_m4 159 rfl) rfl
theorem q989 : (Jvm.Cond.code ({ cls := "SpeaksInTurn$Denied", name := "value", desc := "(LSpeaksInTurn$Facts;)I" } : Jvm.MethodName) prog_7_method_2_code (2 : Nat) (Option.some Jvm.ClassFile.FieldType.int)) ∈ lw_all := lw_g (lw_at lw_m4 160 rfl) rfl
theorem q990 : (Jvm.Cond.methodLink "SpeaksInTurn$Denied" (13 : Nat) ({ cls := "SpeaksInTurn$Node", name := "value", desc := "(LSpeaksInTurn$Facts;)I" } : Jvm.MethodName)) ∈ lw_all := lw_g (lw_at lw_m4 161 rfl) rfl
theorem q135 : (Jvm.Cond.initialized "SpeaksInTurn$Turned") ∈ lw_all := lw_g (lw_at lw_m1 26 rfl) rfl
theorem q881 : (Jvm.Cond.instantiable "SpeaksInTurn$Turned" (1 : Nat)) ∈ lw_all := lw_g (lw_at lw_m4 52 rfl) rfl
theorem q883 : (Jvm.Cond.instanceMethod ({ cls := "SpeaksInTurn$Turned", name := "<init>", desc := "(LSpeaksInTurn$Node;)V" } : Jvm.MethodName)) ∈ lw_all := lw_g (lw_at lw_m4 54 rfl) rfl
theorem q884 : (Jvm.Cond.code ({ cls := "SpeaksInTurn$Turned", name := "<init>", desc := "(LSpeaksInTurn$Node;)V" } : Jvm.MethodName) prog_31_method_1_code (2 : Nat) (Option.none : Option Jvm.ClassFile.FieldType)) ∈ lw_all := lw_g (lw_at lw_m4 55 rfl) rfl
theorem q885 : (Jvm.Cond.methodLinkNest "SpeaksInTurn$Turned" (1 : Nat) ({ cls := "SpeaksInTurn$Node", name := "<init>", desc := "()V" } : Jvm.MethodName) "SpeaksInTurn") ∈ lw_tbl := lw_at lw_m4 56 rfl
theorem q886 : (Jvm.Cond.fieldLink "SpeaksInTurn$Turned" (7 : Nat) "SpeaksInTurn$Turned" "of" "LSpeaksInTurn$Node;") ∈ lw_all := lw_g (lw_at lw_m4 57 rfl) rfl
theorem q887 : (Jvm.Cond.laysFinal "SpeaksInTurn$Turned" "SpeaksInTurn$Turned" "of" "LSpeaksInTurn$Node;") ∈ lw_all := lw_g (lw_at lw_m4 58 rfl) rfl
theorem q888 : (Jvm.Cond.soleField "SpeaksInTurn$Turned" "of") ∈ lw_all := lw_g (lw_at lw_m4 59 rfl) rfl
theorem q889 : (Jvm.Cond.superclass "SpeaksInTurn$Turned" "SpeaksInTurn$Node") ∈ lw_all := lw_g (lw_at lw_m4 60 rfl) rfl
theorem q998 : (Jvm.Cond.instanceMethod ({ cls := "SpeaksInTurn$Turned", name := "value", desc := "(LSpeaksInTurn$Facts;)I" } : Jvm.MethodName)) ∈ lw_all := lw_g (lw_at lw_m4 169 rfl) rfl
theorem q999 : (Jvm.Cond.code ({ cls := "SpeaksInTurn$Turned", name := "value", desc := "(LSpeaksInTurn$Facts;)I" } : Jvm.MethodName) prog_31_method_2_code (2 : Nat) (Option.some Jvm.ClassFile.FieldType.int)) ∈ lw_all := lw_g (lw_at lw_m4 170 rfl) rfl
theorem q1000 : (Jvm.Cond.methodLink "SpeaksInTurn$Turned" (13 : Nat) ({ cls := "SpeaksInTurn$Node", name := "value", desc := "(LSpeaksInTurn$Facts;)I" } : Jvm.MethodName)) ∈ lw_all := lw_g (lw_at lw_m4 171 rfl) rfl
theorem q1007 : (Jvm.Cond.selects "SpeaksInTurn$Turned" ({ cls := "SpeaksInTurn$Node", name := "value", desc := "(LSpeaksInTurn$Facts;)I" } : Jvm.MethodName) ({ cls := "SpeaksInTurn$Turned", name := "value", desc := "(LSpeaksInTurn$Facts;)I" } : Jvm.MethodName)) ∈ lw_all := lw_g (lw_at lw_m4 178 rfl) rfl
theorem q136 : (Jvm.Cond.initialized "SpeaksInTurn$Leaf") ∈ lw_all := lw_g (lw_at lw_m1 27 rfl) rfl
theorem q892 : (Jvm.Cond.instantiable "SpeaksInTurn$Leaf" (1 : Nat)) ∈ lw_all := lw_g (lw_at lw_m4 63 rfl) rfl
theorem q894 : (Jvm.Cond.instanceMethod ({ cls := "SpeaksInTurn$Leaf", name := "<init>", desc := "(I)V" } : Jvm.MethodName)) ∈ lw_all := lw_g (lw_at lw_m4 65 rfl) rfl
theorem q895 : (Jvm.Cond.code ({ cls := "SpeaksInTurn$Leaf", name := "<init>", desc := "(I)V" } : Jvm.MethodName) prog_13_method_1_code (2 : Nat) (Option.none : Option Jvm.ClassFile.FieldType)) ∈ lw_all := lw_g (lw_at lw_m4 66 rfl) rfl
theorem q896 : (Jvm.Cond.methodLinkNest "SpeaksInTurn$Leaf" (1 : Nat) ({ cls := "SpeaksInTurn$Node", name := "<init>", desc := "()V" } : Jvm.MethodName) "SpeaksInTurn") ∈ lw_tbl := lw_at lw_m4 67 rfl
theorem q897 : (Jvm.Cond.fieldLink "SpeaksInTurn$Leaf" (7 : Nat) "SpeaksInTurn$Leaf" "number" "I") ∈ lw_all := lw_g (lw_at lw_m4 68 rfl) rfl
theorem q898 : (Jvm.Cond.laysFinal "SpeaksInTurn$Leaf" "SpeaksInTurn$Leaf" "number" "I") ∈ lw_all := lw_g (lw_at lw_m4 69 rfl) rfl
theorem q899 : (Jvm.Cond.soleField "SpeaksInTurn$Leaf" "number") ∈ lw_all := lw_g (lw_at lw_m4 70 rfl) rfl
theorem q900 : (Jvm.Cond.superclass "SpeaksInTurn$Leaf" "SpeaksInTurn$Node") ∈ lw_all := lw_g (lw_at lw_m4 71 rfl) rfl
theorem q991 : (Jvm.Cond.instanceMethod ({ cls := "SpeaksInTurn$Leaf", name := "value", desc := "(LSpeaksInTurn$Facts;)I" } : Jvm.MethodName)) ∈ lw_all := lw_g (lw_at lw_m4 162 rfl) rfl
theorem q992 : (Jvm.Cond.code ({ cls := "SpeaksInTurn$Leaf", name := "value", desc := "(LSpeaksInTurn$Facts;)I" } : Jvm.MethodName) prog_13_method_2_code (2 : Nat) (Option.some Jvm.ClassFile.FieldType.int)) ∈ lw_all := lw_g (lw_at lw_m4 163 rfl) rfl
theorem q1004 : (Jvm.Cond.selects "SpeaksInTurn$Leaf" ({ cls := "SpeaksInTurn$Node", name := "value", desc := "(LSpeaksInTurn$Facts;)I" } : Jvm.MethodName) ({ cls := "SpeaksInTurn$Leaf", name := "value", desc := "(LSpeaksInTurn$Facts;)I" } : Jvm.MethodName)) ∈ lw_all := lw_g (lw_at lw_m4 175 rfl) rfl
theorem q137 : (Jvm.Cond.initialized "SpeaksInTurn$Pair") ∈ lw_all := lw_g (lw_at lw_m1 28 rfl) rfl
theorem q907 : (Jvm.Cond.instantiable "SpeaksInTurn$Pair" (3 : Nat)) ∈ lw_all := lw_g (lw_at lw_m4 78 rfl) rfl
theorem q909 : (Jvm.Cond.instanceMethod ({ cls := "SpeaksInTurn$Pair", name := "<init>", desc := "(ILSpeaksInTurn$Node;LSpeaksInTurn$Node;)V" } : Jvm.MethodName)) ∈ lw_all := lw_g (lw_at lw_m4 80 rfl) rfl
theorem q910 : (Jvm.Cond.code ({ cls := "SpeaksInTurn$Pair", name := "<init>", desc := "(ILSpeaksInTurn$Node;LSpeaksInTurn$Node;)V" } : Jvm.MethodName) prog_20_method_1_code (4 : Nat) (Option.none : Option Jvm.ClassFile.FieldType)) ∈ lw_all := lw_g (lw_at lw_m4 81 rfl) rfl
theorem q911 : (Jvm.Cond.methodLinkNest "SpeaksInTurn$Pair" (1 : Nat) ({ cls := "SpeaksInTurn$Node", name := "<init>", desc := "()V" } : Jvm.MethodName) "SpeaksInTurn") ∈ lw_tbl := lw_at lw_m4 82 rfl
theorem q912 : (Jvm.Cond.fieldLink "SpeaksInTurn$Pair" (7 : Nat) "SpeaksInTurn$Pair" "sign" "I") ∈ lw_all := lw_g (lw_at lw_m4 83 rfl) rfl
theorem q913 : (Jvm.Cond.fieldLink "SpeaksInTurn$Pair" (13 : Nat) "SpeaksInTurn$Pair" "left" "LSpeaksInTurn$Node;") ∈ lw_all := lw_g (lw_at lw_m4 84 rfl) rfl
theorem q914 : (Jvm.Cond.fieldLink "SpeaksInTurn$Pair" (17 : Nat) "SpeaksInTurn$Pair" "right" "LSpeaksInTurn$Node;") ∈ lw_all := lw_g (lw_at lw_m4 85 rfl) rfl
theorem q915 : (Jvm.Cond.laysFinal "SpeaksInTurn$Pair" "SpeaksInTurn$Pair" "sign" "I") ∈ lw_all := lw_g (lw_at lw_m4 86 rfl) rfl
theorem q916 : (Jvm.Cond.soleField "SpeaksInTurn$Pair" "sign") ∈ lw_all := lw_g (lw_at lw_m4 87 rfl) rfl
theorem q917 : (Jvm.Cond.laysFinal "SpeaksInTurn$Pair" "SpeaksInTurn$Pair" "left" "LSpeaksInTurn$Node;") ∈ lw_all := lw_g (lw_at lw_m4 88 rfl) rfl
theorem q918 : (Jvm.Cond.soleField "SpeaksInTurn$Pair" "left") ∈ lw_all := lw_g (lw_at lw_m4 89 rfl) rfl
theorem q919 : (Jvm.Cond.laysFinal "SpeaksInTurn$Pair" "SpeaksInTurn$Pair" "right" "LSpeaksInTurn$Node;") ∈ lw_all := lw_g (lw_at lw_m4 90 rfl) rfl
theorem q920 : (Jvm.Cond.soleField "SpeaksInTurn$Pair" "right") ∈ lw_all := lw_g (lw_at lw_m4 91 rfl) rfl
theorem q921 : (Jvm.Cond.superclass "SpeaksInTurn$Pair" "SpeaksInTurn$Node") ∈ lw_all := lw_g (lw_at lw_m4 92 rfl) rfl
theorem q995 : (Jvm.Cond.instanceMethod ({ cls := "SpeaksInTurn$Pair", name := "value", desc := "(LSpeaksInTurn$Facts;)I" } : Jvm.MethodName)) ∈ lw_all := lw_g (lw_at lw_m4 166 rfl) rfl
theorem q996 : (Jvm.Cond.code ({ cls := "SpeaksInTurn$Pair", name := "value", desc := "(LSpeaksInTurn$Facts;)I" } : Jvm.MethodName) prog_20_method_3_code (4 : Nat) (Option.some Jvm.ClassFile.FieldType.int)) ∈ lw_all := lw_g (lw_at lw_m4 167 rfl) rfl
theorem q997 : (Jvm.Cond.methodLink "SpeaksInTurn$Pair" (20 : Nat) ({ cls := "SpeaksInTurn$Node", name := "value", desc := "(LSpeaksInTurn$Facts;)I" } : Jvm.MethodName)) ∈ lw_all := lw_g (lw_at lw_m4 168 rfl) rfl
theorem q1001 : (Jvm.Cond.methodLink "SpeaksInTurn$Pair" (24 : Nat) ({ cls := "SpeaksInTurn$Pair", name := "is", desc := "(Z)I" } : Jvm.MethodName)) ∈ lw_all := lw_g (lw_at lw_m4 172 rfl) rfl
theorem q1002 : (Jvm.Cond.static ({ cls := "SpeaksInTurn$Pair", name := "is", desc := "(Z)I" } : Jvm.MethodName)) ∈ lw_all := lw_g (lw_at lw_m4 173 rfl) rfl
theorem q1003 : (Jvm.Cond.code ({ cls := "SpeaksInTurn$Pair", name := "is", desc := "(Z)I" } : Jvm.MethodName) prog_20_method_2_code (1 : Nat) (Option.some Jvm.ClassFile.FieldType.int)) ∈ lw_all := lw_g (lw_at lw_m4 174 rfl) rfl
theorem q1006 : (Jvm.Cond.selects "SpeaksInTurn$Pair" ({ cls := "SpeaksInTurn$Node", name := "value", desc := "(LSpeaksInTurn$Facts;)I" } : Jvm.MethodName) ({ cls := "SpeaksInTurn$Pair", name := "value", desc := "(LSpeaksInTurn$Facts;)I" } : Jvm.MethodName)) ∈ lw_all := lw_g (lw_at lw_m4 177 rfl) rfl
theorem q138 : (Jvm.Cond.initialized "SpeaksInTurn$Change") ∈ lw_all := lw_g (lw_at lw_m1 29 rfl) rfl
theorem q653 : (Jvm.Cond.instantiable "SpeaksInTurn$Change" (4 : Nat)) ∈ lw_all := lw_g (lw_at lw_m3 64 rfl) rfl
theorem q655 : (Jvm.Cond.instanceMethod ({ cls := "SpeaksInTurn$Change", name := "<init>", desc := "(IIII)V" } : Jvm.MethodName)) ∈ lw_all := lw_g (lw_at lw_m3 66 rfl) rfl
theorem q656 : (Jvm.Cond.code ({ cls := "SpeaksInTurn$Change", name := "<init>", desc := "(IIII)V" } : Jvm.MethodName) prog_6_method_1_code (5 : Nat) (Option.none : Option Jvm.ClassFile.FieldType)) ∈ lw_all := lw_g (lw_at lw_m3 67 rfl) rfl
theorem q657 : (Jvm.Cond.methodLink "SpeaksInTurn$Change" (1 : Nat) ({ cls := "java/lang/Object", name := "<init>", desc := "()V" } : Jvm.MethodName)) ∈ lw_all := lw_g (lw_at lw_m3 68 rfl) rfl
theorem q658 : (Jvm.Cond.fieldLink "SpeaksInTurn$Change" (7 : Nat) "SpeaksInTurn$Change" "of" "I") ∈ lw_all := lw_g (lw_at lw_m3 69 rfl) rfl
theorem q660 : (Jvm.Cond.fieldLink "SpeaksInTurn$Change" (13 : Nat) "SpeaksInTurn$Change" "at" "I") ∈ lw_all := lw_g (lw_at lw_m3 71 rfl) rfl
theorem q662 : (Jvm.Cond.fieldLink "SpeaksInTurn$Change" (16 : Nat) "SpeaksInTurn$Change" "before" "I") ∈ lw_all := lw_g (lw_at lw_m3 73 rfl) rfl
theorem q664 : (Jvm.Cond.fieldLink "SpeaksInTurn$Change" (19 : Nat) "SpeaksInTurn$Change" "behind" "I") ∈ lw_all := lw_g (lw_at lw_m3 75 rfl) rfl
theorem q666 : (Jvm.Cond.laysFinal "SpeaksInTurn$Change" "SpeaksInTurn$Change" "of" "I") ∈ lw_all := lw_g (lw_at lw_m3 77 rfl) rfl
theorem q667 : (Jvm.Cond.soleField "SpeaksInTurn$Change" "of") ∈ lw_all := lw_g (lw_at lw_m3 78 rfl) rfl
theorem q668 : (Jvm.Cond.laysFinal "SpeaksInTurn$Change" "SpeaksInTurn$Change" "at" "I") ∈ lw_all := lw_g (lw_at lw_m3 79 rfl) rfl
theorem q669 : (Jvm.Cond.soleField "SpeaksInTurn$Change" "at") ∈ lw_all := lw_g (lw_at lw_m3 80 rfl) rfl
theorem q670 : (Jvm.Cond.laysFinal "SpeaksInTurn$Change" "SpeaksInTurn$Change" "before" "I") ∈ lw_all := lw_g (lw_at lw_m3 81 rfl) rfl
theorem q671 : (Jvm.Cond.soleField "SpeaksInTurn$Change" "before") ∈ lw_all := lw_g (lw_at lw_m3 82 rfl) rfl
theorem q672 : (Jvm.Cond.laysFinal "SpeaksInTurn$Change" "SpeaksInTurn$Change" "behind" "I") ∈ lw_all := lw_g (lw_at lw_m3 83 rfl) rfl
theorem q673 : (Jvm.Cond.soleField "SpeaksInTurn$Change" "behind") ∈ lw_all := lw_g (lw_at lw_m3 84 rfl) rfl
theorem q674 : (Jvm.Cond.superclass "SpeaksInTurn$Change" "java/lang/Object") ∈ lw_all := lw_g (lw_at lw_m3 85 rfl) rfl
theorem q140 : (Jvm.Cond.initialized "SpeaksInTurn$Held") ∈ lw_all := lw_g (lw_at lw_m1 31 rfl) rfl
theorem q1177 : (Jvm.Cond.instanceMethod ({ cls := "SpeaksInTurn$Held", name := "<init>", desc := "()V" } : Jvm.MethodName)) ∈ lw_all := lw_g (lw_at lw_m5 108 rfl) rfl
theorem q1178 : (Jvm.Cond.code ({ cls := "SpeaksInTurn$Held", name := "<init>", desc := "()V" } : Jvm.MethodName) prog_10_method_1_code (1 : Nat) (Option.none : Option Jvm.ClassFile.FieldType)) ∈ lw_all := lw_g (lw_at lw_m5 109 rfl) rfl
theorem q1179 : (Jvm.Cond.methodLink "SpeaksInTurn$Held" (1 : Nat) ({ cls := "java/lang/Object", name := "<init>", desc := "()V" } : Jvm.MethodName)) ∈ lw_all := lw_g (lw_at lw_m5 110 rfl) rfl
theorem q141 : (Jvm.Cond.initialized "SpeaksInTurn$Plain") ∈ lw_all := lw_g (lw_at lw_m1 32 rfl) rfl
theorem q1174 : (Jvm.Cond.instanceMethod ({ cls := "SpeaksInTurn$Plain", name := "<init>", desc := "(LSpeaksInTurn;I)V" } : Jvm.MethodName)) ∈ lw_all := lw_g (lw_at lw_m5 105 rfl) rfl
theorem q1175 : (Jvm.Cond.code ({ cls := "SpeaksInTurn$Plain", name := "<init>", desc := "(LSpeaksInTurn;I)V" } : Jvm.MethodName) prog_22_method_1_code (3 : Nat) (Option.none : Option Jvm.ClassFile.FieldType)) ∈ lw_all := lw_g (lw_at lw_m5 106 rfl) rfl
theorem q1176 : (Jvm.Cond.methodLinkNest "SpeaksInTurn$Plain" (9 : Nat) ({ cls := "SpeaksInTurn$Held", name := "<init>", desc := "()V" } : Jvm.MethodName) "SpeaksInTurn") ∈ lw_tbl := lw_at lw_m5 107 rfl
theorem q1181 : (Jvm.Cond.fieldLink "SpeaksInTurn$Plain" (15 : Nat) "SpeaksInTurn$Plain" "number" "I") ∈ lw_all := lw_g (lw_at lw_m5 112 rfl) rfl
theorem q1182 : (Jvm.Cond.fieldLink "SpeaksInTurn$Plain" (3 : Nat) "SpeaksInTurn$Plain" "this$0" "LSpeaksInTurn;") ∈ lw_all := lw_g (lw_at lw_m5 113 rfl) rfl
theorem q1186 : (Jvm.Cond.soleField "SpeaksInTurn$Plain" "number") ∈ lw_all := lw_g (lw_at lw_m5 117 rfl) rfl
theorem q1188 : (Jvm.Cond.soleField "SpeaksInTurn$Plain" "this$0") ∈ lw_all := lw_g (lw_at lw_m5 119 rfl) rfl
theorem q1266 : (Jvm.Cond.instantiable "SpeaksInTurn$Plain" (2 : Nat)) ∈ lw_all := lw_g (lw_at lw_m5 197 rfl) rfl
theorem q1268 : (Jvm.Cond.laysFinal "SpeaksInTurn$Plain" "SpeaksInTurn$Plain" "number" "I") ∈ lw_all := lw_g (lw_at lw_m5 199 rfl) rfl
theorem q1269 : (Jvm.Cond.laysFinal "SpeaksInTurn$Plain" "SpeaksInTurn$Plain" "this$0" "LSpeaksInTurn;") ∈ lw_all := lw_g (lw_at lw_m5 200 rfl) rfl
theorem q1270 : (Jvm.Cond.superclass "SpeaksInTurn$Plain" "SpeaksInTurn$Held") ∈ lw_all := lw_g (lw_at lw_m5 201 rfl) rfl
theorem q1286 : (Jvm.Cond.instanceMethod ({ cls := "SpeaksInTurn$Plain", name := "knows", desc := "(I)I" } : Jvm.MethodName)) ∈ lw_all := lw_g (lw_at lw_m5 217 rfl) rfl
theorem q1287 : (Jvm.Cond.publicMethod ({ cls := "SpeaksInTurn$Plain", name := "knows", desc := "(I)I" } : Jvm.MethodName)) ∈ lw_tbl := lw_at lw_m5 218 rfl
theorem q1288 : (Jvm.Cond.code ({ cls := "SpeaksInTurn$Plain", name := "knows", desc := "(I)I" } : Jvm.MethodName) prog_22_method_5_code (2 : Nat) (Option.some Jvm.ClassFile.FieldType.int)) ∈ lw_all := lw_g (lw_at lw_m5 219 rfl) rfl
theorem q1289 : (Jvm.Cond.methodLinkNest "SpeaksInTurn$Plain" (23 : Nat) ({ cls := "SpeaksInTurn", name := "ran", desc := "(I)V" } : Jvm.MethodName) "SpeaksInTurn") ∈ lw_tbl := lw_at lw_m5 220 rfl
theorem q1309 : (Jvm.Cond.castable "SpeaksInTurn$Plain" "SpeaksInTurn$Knows") ∈ lw_tbl := lw_at lw_m6 0 rfl
theorem q1310 : (Jvm.Cond.selects "SpeaksInTurn$Plain" ({ cls := "SpeaksInTurn$Knows", name := "knows", desc := "(I)I" } : Jvm.MethodName) ({ cls := "SpeaksInTurn$Plain", name := "knows", desc := "(I)I" } : Jvm.MethodName)) ∈ lw_all := lw_g (lw_at lw_m6 1 rfl) rfl
theorem q1311 : (Jvm.Cond.unhidden "SpeaksInTurn$Plain" "knows" "(I)I") ∈ lw_tbl := lw_at lw_m6 2 rfl
theorem q1331 : (Jvm.Cond.instanceMethod ({ cls := "SpeaksInTurn$Plain", name := "tells", desc := "(I)I" } : Jvm.MethodName)) ∈ lw_all := lw_g (lw_at lw_m6 22 rfl) rfl
theorem q1332 : (Jvm.Cond.publicMethod ({ cls := "SpeaksInTurn$Plain", name := "tells", desc := "(I)I" } : Jvm.MethodName)) ∈ lw_tbl := lw_at lw_m6 23 rfl
theorem q1333 : (Jvm.Cond.code ({ cls := "SpeaksInTurn$Plain", name := "tells", desc := "(I)I" } : Jvm.MethodName) prog_22_method_8_code (3 : Nat) (Option.some Jvm.ClassFile.FieldType.int)) ∈ lw_all := lw_g (lw_at lw_m6 24 rfl) rfl
theorem q1334 : (Jvm.Cond.methodLink "SpeaksInTurn$Plain" (31 : Nat) ({ cls := "SpeaksInTurn$Plain", name := "speaks", desc := "(I)I" } : Jvm.MethodName)) ∈ lw_all := lw_g (lw_at lw_m6 25 rfl) rfl
theorem q1335 : (Jvm.Cond.instanceMethod ({ cls := "SpeaksInTurn$Plain", name := "speaks", desc := "(I)I" } : Jvm.MethodName)) ∈ lw_all := lw_g (lw_at lw_m6 26 rfl) rfl
theorem q1336 : (Jvm.Cond.selects "SpeaksInTurn$Plain" ({ cls := "SpeaksInTurn$Plain", name := "speaks", desc := "(I)I" } : Jvm.MethodName) ({ cls := "SpeaksInTurn$Plain", name := "speaks", desc := "(I)I" } : Jvm.MethodName)) ∈ lw_all := lw_g (lw_at lw_m6 27 rfl) rfl
theorem q1337 : (Jvm.Cond.sameMethod "SpeaksInTurn$Plain" "SpeaksInTurn$Plain" "speaks" "(I)I") ∈ lw_all := lw_g (lw_at lw_m6 28 rfl) rfl
theorem q1358 : (Jvm.Cond.declares ({ cls := "SpeaksInTurn$Plain", name := "speaks", desc := "(I)I" } : Jvm.MethodName)) ∈ lw_tbl := lw_at lw_m6 49 rfl
theorem q1367 : (Jvm.Cond.instanceMethod ({ cls := "SpeaksInTurn$Plain", name := "stops", desc := "(I)I" } : Jvm.MethodName)) ∈ lw_all := lw_g (lw_at lw_m6 58 rfl) rfl
theorem q1368 : (Jvm.Cond.code ({ cls := "SpeaksInTurn$Plain", name := "stops", desc := "(I)I" } : Jvm.MethodName) prog_22_method_7_code (2 : Nat) (Option.some Jvm.ClassFile.FieldType.int)) ∈ lw_all := lw_g (lw_at lw_m6 59 rfl) rfl
theorem q1371 : (Jvm.Cond.declares ({ cls := "SpeaksInTurn$Plain", name := "knows", desc := "(I)I" } : Jvm.MethodName)) ∈ lw_tbl := lw_at lw_m6 62 rfl
theorem q1374 : (Jvm.Cond.code ({ cls := "SpeaksInTurn$Plain", name := "speaks", desc := "(I)I" } : Jvm.MethodName) prog_22_method_6_code (2 : Nat) (Option.some Jvm.ClassFile.FieldType.int)) ∈ lw_all := lw_g (lw_at lw_m6 65 rfl) rfl
theorem q1375 : (Jvm.Cond.methodLink "SpeaksInTurn$Plain" (27 : Nat) ({ cls := "SpeaksInTurn$Plain", name := "knows", desc := "(I)I" } : Jvm.MethodName)) ∈ lw_all := lw_g (lw_at lw_m6 66 rfl) rfl
theorem q1376 : (Jvm.Cond.methodLink "SpeaksInTurn$Plain" (34 : Nat) ({ cls := "SpeaksInTurn$Plain", name := "stops", desc := "(I)I" } : Jvm.MethodName)) ∈ lw_all := lw_g (lw_at lw_m6 67 rfl) rfl
theorem q1381 : (Jvm.Cond.declares ({ cls := "SpeaksInTurn$Plain", name := "stops", desc := "(I)I" } : Jvm.MethodName)) ∈ lw_tbl := lw_at lw_m6 72 rfl
theorem q1388 : (Jvm.Cond.castable "SpeaksInTurn$Plain" "SpeaksInTurn$Tells") ∈ lw_tbl := lw_at lw_m6 79 rfl
theorem q1389 : (Jvm.Cond.selects "SpeaksInTurn$Plain" ({ cls := "SpeaksInTurn$Tells", name := "tells", desc := "(I)I" } : Jvm.MethodName) ({ cls := "SpeaksInTurn$Plain", name := "tells", desc := "(I)I" } : Jvm.MethodName)) ∈ lw_all := lw_g (lw_at lw_m6 80 rfl) rfl
theorem q1390 : (Jvm.Cond.unhidden "SpeaksInTurn$Plain" "tells" "(I)I") ∈ lw_tbl := lw_at lw_m6 81 rfl
theorem q1406 : (Jvm.Cond.declares ({ cls := "SpeaksInTurn$Plain", name := "tells", desc := "(I)I" } : Jvm.MethodName)) ∈ lw_tbl := lw_at lw_m6 97 rfl
theorem q1581 : (Jvm.Cond.instanceMethod ({ cls := "SpeaksInTurn$Plain", name := "isUnder", desc := "(I)Z" } : Jvm.MethodName)) ∈ lw_all := lw_g (lw_at lw_m7 32 rfl) rfl
theorem q1582 : (Jvm.Cond.selects "SpeaksInTurn$Plain" ({ cls := "SpeaksInTurn$Plain", name := "isUnder", desc := "(I)Z" } : Jvm.MethodName) ({ cls := "SpeaksInTurn$Plain", name := "isUnder", desc := "(I)Z" } : Jvm.MethodName)) ∈ lw_all := lw_g (lw_at lw_m7 33 rfl) rfl
theorem q1583 : (Jvm.Cond.sameMethod "SpeaksInTurn$Plain" "SpeaksInTurn$Plain" "isUnder" "(I)Z") ∈ lw_all := lw_g (lw_at lw_m7 34 rfl) rfl
theorem q1600 : (Jvm.Cond.code ({ cls := "SpeaksInTurn$Plain", name := "isUnder", desc := "(I)Z" } : Jvm.MethodName) prog_22_method_4_code (2 : Nat) (Option.some Jvm.ClassFile.FieldType.boolean)) ∈ lw_all := lw_g (lw_at lw_m7 51 rfl) rfl
theorem q1601 : (Jvm.Cond.methodLink "SpeaksInTurn$Plain" (19 : Nat) ({ cls := "SpeaksInTurn$Plain", name := "kind", desc := "()I" } : Jvm.MethodName)) ∈ lw_all := lw_g (lw_at lw_m7 52 rfl) rfl
theorem q1602 : (Jvm.Cond.instanceMethod ({ cls := "SpeaksInTurn$Plain", name := "kind", desc := "()I" } : Jvm.MethodName)) ∈ lw_all := lw_g (lw_at lw_m7 53 rfl) rfl
theorem q1603 : (Jvm.Cond.selects "SpeaksInTurn$Plain" ({ cls := "SpeaksInTurn$Plain", name := "kind", desc := "()I" } : Jvm.MethodName) ({ cls := "SpeaksInTurn$Plain", name := "kind", desc := "()I" } : Jvm.MethodName)) ∈ lw_all := lw_g (lw_at lw_m7 54 rfl) rfl
theorem q1604 : (Jvm.Cond.sameMethod "SpeaksInTurn$Plain" "SpeaksInTurn$Plain" "kind" "()I") ∈ lw_all := lw_g (lw_at lw_m7 55 rfl) rfl
theorem q1626 : (Jvm.Cond.code ({ cls := "SpeaksInTurn$Plain", name := "kind", desc := "()I" } : Jvm.MethodName) prog_22_method_3_code (1 : Nat) (Option.some Jvm.ClassFile.FieldType.int)) ∈ lw_all := lw_g (lw_at lw_m7 77 rfl) rfl
theorem q2280 : (Jvm.Cond.sameMethod "SpeaksInTurn$Plain" "SpeaksInTurn$Plain" "knows" "(I)I") ∈ lw_all := lw_g (lw_at lw_m10 11 rfl) rfl
theorem q2282 : (Jvm.Cond.sameMethod "SpeaksInTurn$Plain" "SpeaksInTurn$Plain" "stops" "(I)I") ∈ lw_all := lw_g (lw_at lw_m10 13 rfl) rfl
theorem q2286 : (Jvm.Cond.selects "SpeaksInTurn$Plain" ({ cls := "SpeaksInTurn$Plain", name := "knows", desc := "(I)I" } : Jvm.MethodName) ({ cls := "SpeaksInTurn$Plain", name := "knows", desc := "(I)I" } : Jvm.MethodName)) ∈ lw_all := lw_g (lw_at lw_m10 17 rfl) rfl
theorem q2294 : (Jvm.Cond.selects "SpeaksInTurn$Plain" ({ cls := "SpeaksInTurn$Plain", name := "stops", desc := "(I)I" } : Jvm.MethodName) ({ cls := "SpeaksInTurn$Plain", name := "stops", desc := "(I)I" } : Jvm.MethodName)) ∈ lw_all := lw_g (lw_at lw_m10 25 rfl) rfl
theorem q2320 : (Jvm.Cond.castable "SpeaksInTurn$Plain" "SpeaksInTurn$Held") ∈ lw_tbl := lw_at lw_m10 51 rfl
theorem q142 : (Jvm.Cond.initialized "SpeaksInTurn$New") ∈ lw_all := lw_g (lw_at lw_m1 33 rfl) rfl
theorem q1169 : (Jvm.Cond.instantiable "SpeaksInTurn$New" (3 : Nat)) ∈ lw_all := lw_g (lw_at lw_m5 100 rfl) rfl
theorem q1171 : (Jvm.Cond.instanceMethod ({ cls := "SpeaksInTurn$New", name := "<init>", desc := "(LSpeaksInTurn;I)V" } : Jvm.MethodName)) ∈ lw_all := lw_g (lw_at lw_m5 102 rfl) rfl
theorem q1172 : (Jvm.Cond.code ({ cls := "SpeaksInTurn$New", name := "<init>", desc := "(LSpeaksInTurn;I)V" } : Jvm.MethodName) prog_18_method_1_code (3 : Nat) (Option.none : Option Jvm.ClassFile.FieldType)) ∈ lw_all := lw_g (lw_at lw_m5 103 rfl) rfl
theorem q1173 : (Jvm.Cond.methodLink "SpeaksInTurn$New" (7 : Nat) ({ cls := "SpeaksInTurn$Plain", name := "<init>", desc := "(LSpeaksInTurn;I)V" } : Jvm.MethodName)) ∈ lw_all := lw_g (lw_at lw_m5 104 rfl) rfl
theorem q1180 : (Jvm.Cond.fieldLink "SpeaksInTurn$New" (1 : Nat) "SpeaksInTurn$New" "this$0" "LSpeaksInTurn;") ∈ lw_all := lw_g (lw_at lw_m5 111 rfl) rfl
theorem q1183 : (Jvm.Cond.laysFinal "SpeaksInTurn$New" "SpeaksInTurn$New" "this$0" "LSpeaksInTurn;") ∈ lw_all := lw_g (lw_at lw_m5 114 rfl) rfl
theorem q1184 : (Jvm.Cond.soleField "SpeaksInTurn$New" "this$0") ∈ lw_all := lw_g (lw_at lw_m5 115 rfl) rfl
theorem q1185 : (Jvm.Cond.laysFinal "SpeaksInTurn$New" "SpeaksInTurn$Plain" "number" "I") ∈ lw_all := lw_g (lw_at lw_m5 116 rfl) rfl
theorem q1187 : (Jvm.Cond.laysFinal "SpeaksInTurn$New" "SpeaksInTurn$Plain" "this$0" "LSpeaksInTurn;") ∈ lw_all := lw_g (lw_at lw_m5 118 rfl) rfl
theorem q1189 : (Jvm.Cond.superclass "SpeaksInTurn$New" "SpeaksInTurn$Plain") ∈ lw_all := lw_g (lw_at lw_m5 120 rfl) rfl
theorem q1301 : (Jvm.Cond.castable "SpeaksInTurn$New" "SpeaksInTurn$Knows") ∈ lw_tbl := lw_at lw_m5 232 rfl
theorem q1302 : (Jvm.Cond.selects "SpeaksInTurn$New" ({ cls := "SpeaksInTurn$Knows", name := "knows", desc := "(I)I" } : Jvm.MethodName) ({ cls := "SpeaksInTurn$New", name := "knows", desc := "(I)I" } : Jvm.MethodName)) ∈ lw_all := lw_g (lw_at lw_m5 233 rfl) rfl
theorem q1303 : (Jvm.Cond.unhidden "SpeaksInTurn$New" "knows" "(I)I") ∈ lw_tbl := lw_at lw_m5 234 rfl
theorem q1304 : (Jvm.Cond.instanceMethod ({ cls := "SpeaksInTurn$New", name := "knows", desc := "(I)I" } : Jvm.MethodName)) ∈ lw_all := lw_g (lw_at lw_m5 235 rfl) rfl
theorem q1305 : (Jvm.Cond.publicMethod ({ cls := "SpeaksInTurn$New", name := "knows", desc := "(I)I" } : Jvm.MethodName)) ∈ lw_tbl := lw_at lw_m5 236 rfl
theorem q1306 : (Jvm.Cond.code ({ cls := "SpeaksInTurn$New", name := "knows", desc := "(I)I" } : Jvm.MethodName) prog_18_method_3_code (2 : Nat) (Option.some Jvm.ClassFile.FieldType.int)) ∈ lw_all := lw_g (lw_at lw_m5 237 rfl) rfl
theorem q1307 : (Jvm.Cond.methodLinkNest "SpeaksInTurn$New" (13 : Nat) ({ cls := "SpeaksInTurn", name := "ran", desc := "(I)V" } : Jvm.MethodName) "SpeaksInTurn") ∈ lw_tbl := lw_at lw_m5 238 rfl
theorem q1308 : (Jvm.Cond.methodLink "SpeaksInTurn$New" (19 : Nat) ({ cls := "SpeaksInTurn$Plain", name := "knows", desc := "(I)I" } : Jvm.MethodName)) ∈ lw_all := lw_g (lw_at lw_m5 239 rfl) rfl
theorem q1348 : (Jvm.Cond.selects "SpeaksInTurn$New" ({ cls := "SpeaksInTurn$Plain", name := "speaks", desc := "(I)I" } : Jvm.MethodName) ({ cls := "SpeaksInTurn$Plain", name := "speaks", desc := "(I)I" } : Jvm.MethodName)) ∈ lw_all := lw_g (lw_at lw_m6 39 rfl) rfl
theorem q1385 : (Jvm.Cond.castable "SpeaksInTurn$New" "SpeaksInTurn$Tells") ∈ lw_tbl := lw_at lw_m6 76 rfl
theorem q1386 : (Jvm.Cond.selects "SpeaksInTurn$New" ({ cls := "SpeaksInTurn$Tells", name := "tells", desc := "(I)I" } : Jvm.MethodName) ({ cls := "SpeaksInTurn$Plain", name := "tells", desc := "(I)I" } : Jvm.MethodName)) ∈ lw_all := lw_g (lw_at lw_m6 77 rfl) rfl
theorem q1387 : (Jvm.Cond.unhidden "SpeaksInTurn$New" "tells" "(I)I") ∈ lw_tbl := lw_at lw_m6 78 rfl
theorem q1592 : (Jvm.Cond.selects "SpeaksInTurn$New" ({ cls := "SpeaksInTurn$Plain", name := "isUnder", desc := "(I)Z" } : Jvm.MethodName) ({ cls := "SpeaksInTurn$Plain", name := "isUnder", desc := "(I)Z" } : Jvm.MethodName)) ∈ lw_all := lw_g (lw_at lw_m7 43 rfl) rfl
theorem q1611 : (Jvm.Cond.selects "SpeaksInTurn$New" ({ cls := "SpeaksInTurn$Plain", name := "kind", desc := "()I" } : Jvm.MethodName) ({ cls := "SpeaksInTurn$New", name := "kind", desc := "()I" } : Jvm.MethodName)) ∈ lw_all := lw_g (lw_at lw_m7 62 rfl) rfl
theorem q1612 : (Jvm.Cond.instanceMethod ({ cls := "SpeaksInTurn$New", name := "kind", desc := "()I" } : Jvm.MethodName)) ∈ lw_all := lw_g (lw_at lw_m7 63 rfl) rfl
theorem q1613 : (Jvm.Cond.code ({ cls := "SpeaksInTurn$New", name := "kind", desc := "()I" } : Jvm.MethodName) prog_18_method_2_code (1 : Nat) (Option.some Jvm.ClassFile.FieldType.int)) ∈ lw_all := lw_g (lw_at lw_m7 64 rfl) rfl
theorem q2285 : (Jvm.Cond.selects "SpeaksInTurn$New" ({ cls := "SpeaksInTurn$Plain", name := "knows", desc := "(I)I" } : Jvm.MethodName) ({ cls := "SpeaksInTurn$New", name := "knows", desc := "(I)I" } : Jvm.MethodName)) ∈ lw_all := lw_g (lw_at lw_m10 16 rfl) rfl
theorem q2293 : (Jvm.Cond.selects "SpeaksInTurn$New" ({ cls := "SpeaksInTurn$Plain", name := "stops", desc := "(I)I" } : Jvm.MethodName) ({ cls := "SpeaksInTurn$Plain", name := "stops", desc := "(I)I" } : Jvm.MethodName)) ∈ lw_all := lw_g (lw_at lw_m10 24 rfl) rfl
theorem q2308 : (Jvm.Cond.castable "SpeaksInTurn$New" "SpeaksInTurn$Plain") ∈ lw_tbl := lw_at lw_m10 39 rfl
theorem q2313 : (Jvm.Cond.castable "SpeaksInTurn$New" "SpeaksInTurn$Held") ∈ lw_tbl := lw_at lw_m10 44 rfl
theorem q143 : (Jvm.Cond.initialized "SpeaksInTurn$Shared") ∈ lw_all := lw_g (lw_at lw_m1 34 rfl) rfl
theorem q1191 : (Jvm.Cond.instantiable "SpeaksInTurn$Shared" (3 : Nat)) ∈ lw_all := lw_g (lw_at lw_m5 122 rfl) rfl
theorem q1193 : (Jvm.Cond.instanceMethod ({ cls := "SpeaksInTurn$Shared", name := "<init>", desc := "(LSpeaksInTurn;I)V" } : Jvm.MethodName)) ∈ lw_all := lw_g (lw_at lw_m5 124 rfl) rfl
theorem q1194 : (Jvm.Cond.code ({ cls := "SpeaksInTurn$Shared", name := "<init>", desc := "(LSpeaksInTurn;I)V" } : Jvm.MethodName) prog_25_method_1_code (3 : Nat) (Option.none : Option Jvm.ClassFile.FieldType)) ∈ lw_all := lw_g (lw_at lw_m5 125 rfl) rfl
theorem q1195 : (Jvm.Cond.methodLink "SpeaksInTurn$Shared" (7 : Nat) ({ cls := "SpeaksInTurn$Plain", name := "<init>", desc := "(LSpeaksInTurn;I)V" } : Jvm.MethodName)) ∈ lw_all := lw_g (lw_at lw_m5 126 rfl) rfl
theorem q1196 : (Jvm.Cond.fieldLink "SpeaksInTurn$Shared" (1 : Nat) "SpeaksInTurn$Shared" "this$0" "LSpeaksInTurn;") ∈ lw_all := lw_g (lw_at lw_m5 127 rfl) rfl
theorem q1197 : (Jvm.Cond.laysFinal "SpeaksInTurn$Shared" "SpeaksInTurn$Shared" "this$0" "LSpeaksInTurn;") ∈ lw_all := lw_g (lw_at lw_m5 128 rfl) rfl
theorem q1198 : (Jvm.Cond.soleField "SpeaksInTurn$Shared" "this$0") ∈ lw_all := lw_g (lw_at lw_m5 129 rfl) rfl
theorem q1199 : (Jvm.Cond.laysFinal "SpeaksInTurn$Shared" "SpeaksInTurn$Plain" "number" "I") ∈ lw_all := lw_g (lw_at lw_m5 130 rfl) rfl
theorem q1200 : (Jvm.Cond.laysFinal "SpeaksInTurn$Shared" "SpeaksInTurn$Plain" "this$0" "LSpeaksInTurn;") ∈ lw_all := lw_g (lw_at lw_m5 131 rfl) rfl
theorem q1201 : (Jvm.Cond.superclass "SpeaksInTurn$Shared" "SpeaksInTurn$Plain") ∈ lw_all := lw_g (lw_at lw_m5 132 rfl) rfl
theorem q1312 : (Jvm.Cond.castable "SpeaksInTurn$Shared" "SpeaksInTurn$Knows") ∈ lw_tbl := lw_at lw_m6 3 rfl
theorem q1313 : (Jvm.Cond.selects "SpeaksInTurn$Shared" ({ cls := "SpeaksInTurn$Knows", name := "knows", desc := "(I)I" } : Jvm.MethodName) ({ cls := "SpeaksInTurn$Plain", name := "knows", desc := "(I)I" } : Jvm.MethodName)) ∈ lw_all := lw_g (lw_at lw_m6 4 rfl) rfl
theorem q1314 : (Jvm.Cond.unhidden "SpeaksInTurn$Shared" "knows" "(I)I") ∈ lw_tbl := lw_at lw_m6 5 rfl
theorem q1343 : (Jvm.Cond.instanceMethod ({ cls := "SpeaksInTurn$Shared", name := "speaks", desc := "(I)I" } : Jvm.MethodName)) ∈ lw_all := lw_g (lw_at lw_m6 34 rfl) rfl
theorem q1344 : (Jvm.Cond.code ({ cls := "SpeaksInTurn$Shared", name := "speaks", desc := "(I)I" } : Jvm.MethodName) prog_25_method_4_code (2 : Nat) (Option.some Jvm.ClassFile.FieldType.int)) ∈ lw_all := lw_g (lw_at lw_m6 35 rfl) rfl
theorem q1345 : (Jvm.Cond.methodLinkNest "SpeaksInTurn$Shared" (17 : Nat) ({ cls := "SpeaksInTurn", name := "ran", desc := "(I)V" } : Jvm.MethodName) "SpeaksInTurn") ∈ lw_tbl := lw_at lw_m6 36 rfl
theorem q1346 : (Jvm.Cond.methodLink "SpeaksInTurn$Shared" (23 : Nat) ({ cls := "SpeaksInTurn$Plain", name := "speaks", desc := "(I)I" } : Jvm.MethodName)) ∈ lw_all := lw_g (lw_at lw_m6 37 rfl) rfl
theorem q1349 : (Jvm.Cond.selects "SpeaksInTurn$Shared" ({ cls := "SpeaksInTurn$Plain", name := "speaks", desc := "(I)I" } : Jvm.MethodName) ({ cls := "SpeaksInTurn$Shared", name := "speaks", desc := "(I)I" } : Jvm.MethodName)) ∈ lw_all := lw_g (lw_at lw_m6 40 rfl) rfl
theorem q1380 : (Jvm.Cond.sameMethod "SpeaksInTurn$Shared" "SpeaksInTurn$Plain" "stops" "(I)I") ∈ lw_all := lw_g (lw_at lw_m6 71 rfl) rfl
theorem q1391 : (Jvm.Cond.castable "SpeaksInTurn$Shared" "SpeaksInTurn$Tells") ∈ lw_tbl := lw_at lw_m6 82 rfl
theorem q1392 : (Jvm.Cond.selects "SpeaksInTurn$Shared" ({ cls := "SpeaksInTurn$Tells", name := "tells", desc := "(I)I" } : Jvm.MethodName) ({ cls := "SpeaksInTurn$Plain", name := "tells", desc := "(I)I" } : Jvm.MethodName)) ∈ lw_all := lw_g (lw_at lw_m6 83 rfl) rfl
theorem q1393 : (Jvm.Cond.unhidden "SpeaksInTurn$Shared" "tells" "(I)I") ∈ lw_tbl := lw_at lw_m6 84 rfl
theorem q1588 : (Jvm.Cond.instanceMethod ({ cls := "SpeaksInTurn$Shared", name := "isUnder", desc := "(I)Z" } : Jvm.MethodName)) ∈ lw_all := lw_g (lw_at lw_m7 39 rfl) rfl
theorem q1589 : (Jvm.Cond.code ({ cls := "SpeaksInTurn$Shared", name := "isUnder", desc := "(I)Z" } : Jvm.MethodName) prog_25_method_3_code (2 : Nat) (Option.some Jvm.ClassFile.FieldType.boolean)) ∈ lw_all := lw_g (lw_at lw_m7 40 rfl) rfl
theorem q1590 : (Jvm.Cond.methodLink "SpeaksInTurn$Shared" (13 : Nat) ({ cls := "SpeaksInTurn$Plain", name := "isUnder", desc := "(I)Z" } : Jvm.MethodName)) ∈ lw_all := lw_g (lw_at lw_m7 41 rfl) rfl
theorem q1593 : (Jvm.Cond.selects "SpeaksInTurn$Shared" ({ cls := "SpeaksInTurn$Plain", name := "isUnder", desc := "(I)Z" } : Jvm.MethodName) ({ cls := "SpeaksInTurn$Shared", name := "isUnder", desc := "(I)Z" } : Jvm.MethodName)) ∈ lw_all := lw_g (lw_at lw_m7 44 rfl) rfl
theorem q1614 : (Jvm.Cond.selects "SpeaksInTurn$Shared" ({ cls := "SpeaksInTurn$Plain", name := "kind", desc := "()I" } : Jvm.MethodName) ({ cls := "SpeaksInTurn$Shared", name := "kind", desc := "()I" } : Jvm.MethodName)) ∈ lw_all := lw_g (lw_at lw_m7 65 rfl) rfl
theorem q1615 : (Jvm.Cond.instanceMethod ({ cls := "SpeaksInTurn$Shared", name := "kind", desc := "()I" } : Jvm.MethodName)) ∈ lw_all := lw_g (lw_at lw_m7 66 rfl) rfl
theorem q1616 : (Jvm.Cond.code ({ cls := "SpeaksInTurn$Shared", name := "kind", desc := "()I" } : Jvm.MethodName) prog_25_method_2_code (1 : Nat) (Option.some Jvm.ClassFile.FieldType.int)) ∈ lw_all := lw_g (lw_at lw_m7 67 rfl) rfl
theorem q2281 : (Jvm.Cond.sameMethod "SpeaksInTurn$Shared" "SpeaksInTurn$Shared" "speaks" "(I)I") ∈ lw_all := lw_g (lw_at lw_m10 12 rfl) rfl
theorem q2287 : (Jvm.Cond.selects "SpeaksInTurn$Shared" ({ cls := "SpeaksInTurn$Plain", name := "knows", desc := "(I)I" } : Jvm.MethodName) ({ cls := "SpeaksInTurn$Plain", name := "knows", desc := "(I)I" } : Jvm.MethodName)) ∈ lw_all := lw_g (lw_at lw_m10 18 rfl) rfl
theorem q2295 : (Jvm.Cond.selects "SpeaksInTurn$Shared" ({ cls := "SpeaksInTurn$Plain", name := "stops", desc := "(I)I" } : Jvm.MethodName) ({ cls := "SpeaksInTurn$Plain", name := "stops", desc := "(I)I" } : Jvm.MethodName)) ∈ lw_all := lw_g (lw_at lw_m10 26 rfl) rfl
theorem q2299 : (Jvm.Cond.sameMethod "SpeaksInTurn$Shared" "SpeaksInTurn$Shared" "isUnder" "(I)Z") ∈ lw_all := lw_g (lw_at lw_m10 30 rfl) rfl
theorem q2309 : (Jvm.Cond.castable "SpeaksInTurn$Shared" "SpeaksInTurn$Plain") ∈ lw_tbl := lw_at lw_m10 40 rfl
theorem q2314 : (Jvm.Cond.castable "SpeaksInTurn$Shared" "SpeaksInTurn$Held") ∈ lw_tbl := lw_at lw_m10 45 rfl
theorem q112 : (Jvm.Cond.initialized "SpeaksInTurn$Meeting") ∈ lw_all := lw_g (lw_at lw_m1 3 rfl) rfl
theorem q188 : (Jvm.Cond.instantiable "SpeaksInTurn$Meeting" (22 : Nat)) ∈ lw_all := lw_g (lw_at lw_m1 79 rfl) rfl
theorem q190 : (Jvm.Cond.instanceMethod ({ cls := "SpeaksInTurn$Meeting", name := "<init>", desc := "(LSpeaksInTurn;)V" } : Jvm.MethodName)) ∈ lw_all := lw_g (lw_at lw_m1 81 rfl) rfl
theorem q191 : (Jvm.Cond.code ({ cls := "SpeaksInTurn$Meeting", name := "<init>", desc := "(LSpeaksInTurn;)V" } : Jvm.MethodName) prog_16_method_1_code (2 : Nat) (Option.none : Option Jvm.ClassFile.FieldType)) ∈ lw_all := lw_g (lw_at lw_m1 82 rfl) rfl
theorem q192 : (Jvm.Cond.methodLink "SpeaksInTurn$Meeting" (9 : Nat) ({ cls := "java/lang/Object", name := "<init>", desc := "()V" } : Jvm.MethodName)) ∈ lw_all := lw_g (lw_at lw_m1 83 rfl) rfl
theorem q193 : (Jvm.Cond.fieldLink "SpeaksInTurn$Meeting" (15 : Nat) "SpeaksInTurn$Meeting" "took" "[I") ∈ lw_all := lw_g (lw_at lw_m1 84 rfl) rfl
theorem q195 : (Jvm.Cond.fieldLink "SpeaksInTurn$Meeting" (19 : Nat) "SpeaksInTurn$Meeting" "begins" "[I") ∈ lw_all := lw_g (lw_at lw_m1 86 rfl) rfl
theorem q197 : (Jvm.Cond.fieldLink "SpeaksInTurn$Meeting" (22 : Nat) "SpeaksInTurn$Meeting" "who" "[I") ∈ lw_all := lw_g (lw_at lw_m1 88 rfl) rfl
theorem q199 : (Jvm.Cond.fieldLink "SpeaksInTurn$Meeting" (25 : Nat) "SpeaksInTurn$Meeting" "on" "[I") ∈ lw_all := lw_g (lw_at lw_m1 90 rfl) rfl
theorem q201 : (Jvm.Cond.fieldLink "SpeaksInTurn$Meeting" (28 : Nat) "SpeaksInTurn$Meeting" "lasts" "[I") ∈ lw_all := lw_g (lw_at lw_m1 92 rfl) rfl
theorem q203 : (Jvm.Cond.fieldLink "SpeaksInTurn$Meeting" (31 : Nat) "SpeaksInTurn$Meeting" "news" "[I") ∈ lw_all := lw_g (lw_at lw_m1 94 rfl) rfl
theorem q205 : (Jvm.Cond.fieldLink "SpeaksInTurn$Meeting" (34 : Nat) "SpeaksInTurn$Meeting" "again" "[I") ∈ lw_all := lw_g (lw_at lw_m1 96 rfl) rfl
theorem q207 : (Jvm.Cond.fieldLink "SpeaksInTurn$Meeting" (37 : Nat) "SpeaksInTurn$Meeting" "stopped" "[I") ∈ lw_all := lw_g (lw_at lw_m1 98 rfl) rfl
theorem q209 : (Jvm.Cond.fieldLink "SpeaksInTurn$Meeting" (40 : Nat) "SpeaksInTurn$Meeting" "firstBy" "[I") ∈ lw_all := lw_g (lw_at lw_m1 100 rfl) rfl
theorem q211 : (Jvm.Cond.fieldLink "SpeaksInTurn$Meeting" (43 : Nat) "SpeaksInTurn$Meeting" "firstIn" "[I") ∈ lw_all := lw_g (lw_at lw_m1 102 rfl) rfl
theorem q213 : (Jvm.Cond.fieldLink "SpeaksInTurn$Meeting" (46 : Nat) "SpeaksInTurn$Meeting" "spoke" "[I") ∈ lw_all := lw_g (lw_at lw_m1 104 rfl) rfl
theorem q215 : (Jvm.Cond.fieldLink "SpeaksInTurn$Meeting" (49 : Nat) "SpeaksInTurn$Meeting" "stops" "[I") ∈ lw_all := lw_g (lw_at lw_m1 106 rfl) rfl
theorem q217 : (Jvm.Cond.fieldLink "SpeaksInTurn$Meeting" (52 : Nat) "SpeaksInTurn$Meeting" "taken" "[I") ∈ lw_all := lw_g (lw_at lw_m1 108 rfl) rfl
theorem q219 : (Jvm.Cond.fieldLink "SpeaksInTurn$Meeting" (55 : Nat) "SpeaksInTurn$Meeting" "lastStopper" "[I") ∈ lw_all := lw_g (lw_at lw_m1 110 rfl) rfl
theorem q220 : (Jvm.Cond.fieldLink "SpeaksInTurn$Meeting" (58 : Nat) "SpeaksInTurn$Meeting" "often" "[I") ∈ lw_all := lw_g (lw_at lw_m1 111 rfl) rfl
theorem q221 : (Jvm.Cond.fieldLink "SpeaksInTurn$Meeting" (61 : Nat) "SpeaksInTurn$Meeting" "wishes" "[I") ∈ lw_all := lw_g (lw_at lw_m1 112 rfl) rfl
theorem q222 : (Jvm.Cond.fieldLink "SpeaksInTurn$Meeting" (77 : Nat) "SpeaksInTurn$Meeting" "minute" "I") ∈ lw_all := lw_g (lw_at lw_m1 113 rfl) rfl
theorem q224 : (Jvm.Cond.fieldLink "SpeaksInTurn$Meeting" (80 : Nat) "SpeaksInTurn$Meeting" "many" "I") ∈ lw_all := lw_g (lw_at lw_m1 115 rfl) rfl
theorem q226 : (Jvm.Cond.fieldLink "SpeaksInTurn$Meeting" (83 : Nat) "SpeaksInTurn$Meeting" "said" "I") ∈ lw_all := lw_g (lw_at lw_m1 117 rfl) rfl
theorem q228 : (Jvm.Cond.fieldLink "SpeaksInTurn$Meeting" (86 : Nat) "SpeaksInTurn$Meeting" "last" "I") ∈ lw_all := lw_g (lw_at lw_m1 119 rfl) rfl
theorem q229 : (Jvm.Cond.fieldLink "SpeaksInTurn$Meeting" (64 : Nat) "SpeaksInTurn$Meeting" "without" "I") ∈ lw_all := lw_g (lw_at lw_m1 120 rfl) rfl
theorem q230 : (Jvm.Cond.fieldLink "SpeaksInTurn$Meeting" (3 : Nat) "SpeaksInTurn$Meeting" "this$0" "LSpeaksInTurn;") ∈ lw_all := lw_g (lw_at lw_m1 121 rfl) rfl
theorem q231 : (Jvm.Cond.laysFinal "SpeaksInTurn$Meeting" "SpeaksInTurn$Meeting" "took" "[I") ∈ lw_all := lw_g (lw_at lw_m1 122 rfl) rfl
theorem q232 : (Jvm.Cond.soleField "SpeaksInTurn$Meeting" "took") ∈ lw_all := lw_g (lw_at lw_m1 123 rfl) rfl
theorem q233 : (Jvm.Cond.laysFinal "SpeaksInTurn$Meeting" "SpeaksInTurn$Meeting" "begins" "[I") ∈ lw_all := lw_g (lw_at lw_m1 124 rfl) rfl
theorem q234 : (Jvm.Cond.soleField "SpeaksInTurn$Meeting" "begins") ∈ lw_all := lw_g (lw_at lw_m1 125 rfl) rfl
theorem q235 : (Jvm.Cond.laysFinal "SpeaksInTurn$Meeting" "SpeaksInTurn$Meeting" "who" "[I") ∈ lw_all := lw_g (lw_at lw_m1 126 rfl) rfl
theorem q236 : (Jvm.Cond.soleField "SpeaksInTurn$Meeting" "who") ∈ lw_all := lw_g (lw_at lw_m1 127 rfl) rfl
theorem q237 : (Jvm.Cond.laysFinal "SpeaksInTurn$Meeting" "SpeaksInTurn$Meeting" "on" "[I") ∈ lw_all := lw_g (lw_at lw_m1 128 rfl) rfl
theorem q238 : (Jvm.Cond.soleField "SpeaksInTurn$Meeting" "on") ∈ lw_all := lw_g (lw_at lw_m1 129 rfl) rfl
theorem q239 : (Jvm.Cond.laysFinal "SpeaksInTurn$Meeting" "SpeaksInTurn$Meeting" "lasts" "[I") ∈ lw_all := lw_g (lw_at lw_m1 130 rfl) rfl
theorem q240 : (Jvm.Cond.soleField "SpeaksInTurn$Meeting" "lasts") ∈ lw_all := lw_g (lw_at lw_m1 131 rfl) rfl
theorem q241 : (Jvm.Cond.laysFinal "SpeaksInTurn$Meeting" "SpeaksInTurn$Meeting" "news" "[I") ∈ lw_all := lw_g (lw_at lw_m1 132 rfl) rfl
theorem q242 : (Jvm.Cond.soleField "SpeaksInTurn$Meeting" "news") ∈ lw_all := lw_g (lw_at lw_m1 133 rfl) rfl
theorem q243 : (Jvm.Cond.laysFinal "SpeaksInTurn$Meeting" "SpeaksInTurn$Meeting" "again" "[I") ∈ lw_all := lw_g (lw_at lw_m1 134 rfl) rfl
theorem q244 : (Jvm.Cond.soleField "SpeaksInTurn$Meeting" "again") ∈ lw_all := lw_g (lw_at lw_m1 135 rfl) rfl
theorem q245 : (Jvm.Cond.laysFinal "SpeaksInTurn$Meeting" "SpeaksInTurn$Meeting" "stopped" "[I") ∈ lw_all := lw_g (lw_at lw_m1 136 rfl) rfl
theorem q246 : (Jvm.Cond.soleField "SpeaksInTurn$Meeting" "stopped") ∈ lw_all := lw_g (lw_at lw_m1 137 rfl) rfl
theorem q247 : (Jvm.Cond.laysFinal "SpeaksInTurn$Meeting" "SpeaksInTurn$Meeting" "firstBy" "[I") ∈ lw_all := lw_g (lw_at lw_m1 138 rfl) rfl
theorem q248 : (Jvm.Cond.soleField "SpeaksInTurn$Meeting" "firstBy") ∈ lw_all := lw_g (lw_at lw_m1 139 rfl) rfl
theorem q249 : (Jvm.Cond.laysFinal "SpeaksInTurn$Meeting" "SpeaksInTurn$Meeting" "firstIn" "[I") ∈ lw_all := lw_g (lw_at lw_m1 140 rfl) rfl
theorem q250 : (Jvm.Cond.soleField "SpeaksInTurn$Meeting" "firstIn") ∈ lw_all := lw_g (lw_at lw_m1 141 rfl) rfl
theorem q251 : (Jvm.Cond.laysFinal "SpeaksInTurn$Meeting" "SpeaksInTurn$Meeting" "spoke" "[I") ∈ lw_all := lw_g (lw_at lw_m1 142 rfl) rfl
theorem q252 : (Jvm.Cond.soleField "SpeaksInTurn$Meeting" "spoke") ∈ lw_all := lw_g (lw_at lw_m1 143 rfl) rfl
theorem q253 : (Jvm.Cond.laysFinal "SpeaksInTurn$Meeting" "SpeaksInTurn$Meeting" "stops" "[I") ∈ lw_all := lw_g (lw_at lw_m1 144 rfl) rfl
theorem q254 : (Jvm.Cond.soleField "SpeaksInTurn$Meeting" "stops") ∈ lw_all := lw_g (lw_at lw_m1 145 rfl) rfl
theorem q255 : (Jvm.Cond.laysFinal "SpeaksInTurn$Meeting" "SpeaksInTurn$Meeting" "taken" "[I") ∈ lw_all := lw_g (lw_at lw_m1 146 rfl) rfl
theorem q256 : (Jvm.Cond.soleField "SpeaksInTurn$Meeting" "taken") ∈ lw_all := lw_g (lw_at lw_m1 147 rfl) rfl
theorem q257 : (Jvm.Cond.laysFinal "SpeaksInTurn$Meeting" "SpeaksInTurn$Meeting" "lastStopper" "[I") ∈ lw_all := lw_g (lw_at lw_m1 148 rfl) rfl
theorem q258 : (Jvm.Cond.soleField "SpeaksInTurn$Meeting" "lastStopper") ∈ lw_all := lw_g (lw_at lw_m1 149 rfl) rfl
theorem q259 : (Jvm.Cond.laysFinal "SpeaksInTurn$Meeting" "SpeaksInTurn$Meeting" "often" "[I") ∈ lw_all := lw_g (lw_at lw_m1 150 rfl) rfl
theorem q260 : (Jvm.Cond.soleField "SpeaksInTurn$Meeting" "often") ∈ lw_all := lw_g (lw_at lw_m1 151 rfl) rfl
theorem q261 : (Jvm.Cond.laysFinal "SpeaksInTurn$Meeting" "SpeaksInTurn$Meeting" "wishes" "[I") ∈ lw_all := lw_g (lw_at lw_m1 152 rfl) rfl
theorem q262 : (Jvm.Cond.soleField "SpeaksInTurn$Meeting" "wishes") ∈ lw_all := lw_g (lw_at lw_m1 153 rfl) rfl
theorem q263 : (Jvm.Cond.lays "SpeaksInTurn$Meeting" "SpeaksInTurn$Meeting" "minute" "I") ∈ lw_all := lw_g (lw_at lw_m1 154 rfl) rfl
theorem q264 : (Jvm.Cond.soleField "SpeaksInTurn$Meeting" "minute") ∈ lw_all := lw_g (lw_at lw_m1 155 rfl) rfl
theorem q265 : (Jvm.Cond.lays "SpeaksInTurn$Meeting" "SpeaksInTurn$Meeting" "many" "I") ∈ lw_all := lw_g (lw_at lw_m1 156 rfl) rfl
theorem q266 : (Jvm.Cond.soleField "SpeaksInTurn$Meeting" "many") ∈ lw_all := lw_g (lw_at lw_m1 157 rfl) rfl
theorem q267 : (Jvm.Cond.lays "SpeaksInTurn$Meeting" "SpeaksInTurn$Meeting" "said" "I") ∈ lw_all := lw_g (lw_at lw_m1 158 rfl) rfl
theorem q268 : (Jvm.Cond.soleField "SpeaksInTurn$Meeting" "said") ∈ lw_all := lw_g (lw_at lw_m1 159 rfl) rfl
theorem q269 : (Jvm.Cond.lays "SpeaksInTurn$Meeting" "SpeaksInTurn$Meeting" "last" "I") ∈ lw_all := lw_g (lw_at lw_m1 160 rfl) rfl
theorem q270 : (Jvm.Cond.soleField "SpeaksInTurn$Meeting" "last") ∈ lw_all := lw_g (lw_at lw_m1 161 rfl) rfl
theorem q271 : (Jvm.Cond.lays "SpeaksInTurn$Meeting" "SpeaksInTurn$Meeting" "without" "I") ∈ lw_all := lw_g (lw_at lw_m1 162 rfl) rfl
theorem q272 : (Jvm.Cond.soleField "SpeaksInTurn$Meeting" "without") ∈ lw_all := lw_g (lw_at lw_m1 163 rfl) rfl
theorem q273 : (Jvm.Cond.laysFinal "SpeaksInTurn$Meeting" "SpeaksInTurn$Meeting" "this$0" "LSpeaksInTurn;") ∈ lw_all := lw_g (lw_at lw_m1 164 rfl) rfl
theorem q274 : (Jvm.Cond.soleField "SpeaksInTurn$Meeting" "this$0") ∈ lw_all := lw_g (lw_at lw_m1 165 rfl) rfl
theorem q275 : (Jvm.Cond.superclass "SpeaksInTurn$Meeting" "java/lang/Object") ∈ lw_all := lw_g (lw_at lw_m1 166 rfl) rfl
theorem q281 : (Jvm.Cond.fieldLinkNest "SpeaksInTurn$Meeting" (68 : Nat) "SpeaksInTurn" "people" "[LSpeaksInTurn$Person;" "SpeaksInTurn") ∈ lw_tbl := lw_at lw_m1 172 rfl
theorem q283 : (Jvm.Cond.fieldLinkNest "SpeaksInTurn$Meeting" (180 : Nat) "SpeaksInTurn" "things" "[LSpeaksInTurn$Thing;" "SpeaksInTurn") ∈ lw_tbl := lw_at lw_m1 174 rfl
theorem q285 : (Jvm.Cond.fieldLinkNest "SpeaksInTurn$Meeting" (111 : Nat) "SpeaksInTurn" "cards" "[LSpeaksInTurn$Card;" "SpeaksInTurn") ∈ lw_tbl := lw_at lw_m1 176 rfl
theorem q287 : (Jvm.Cond.fieldLinkNest "SpeaksInTurn$Meeting" (96 : Nat) "SpeaksInTurn" "personMany" "I" "SpeaksInTurn") ∈ lw_tbl := lw_at lw_m1 178 rfl
theorem q288 : (Jvm.Cond.fieldLinkNest "SpeaksInTurn$Meeting" (89 : Nat) "SpeaksInTurn" "thingMany" "I" "SpeaksInTurn") ∈ lw_tbl := lw_at lw_m1 179 rfl
theorem q290 : (Jvm.Cond.fieldLinkNest "SpeaksInTurn$Meeting" (108 : Nat) "SpeaksInTurn" "cardMany" "I" "SpeaksInTurn") ∈ lw_tbl := lw_at lw_m1 181 rfl
theorem q294 : (Jvm.Cond.fieldLinkNest "SpeaksInTurn$Meeting" (174 : Nat) "SpeaksInTurn" "standing" "I" "SpeaksInTurn") ∈ lw_tbl := lw_at lw_m1 185 rfl
theorem q406 : (Jvm.Cond.fieldLinkNest "SpeaksInTurn$Meeting" (195 : Nat) "SpeaksInTurn$Person" "wage" "I" "SpeaksInTurn") ∈ lw_tbl := lw_at lw_m2 57 rfl
theorem q409 : (Jvm.Cond.fieldLinkNest "SpeaksInTurn$Meeting" (157 : Nat) "SpeaksInTurn$Person" "rank" "I" "SpeaksInTurn") ∈ lw_tbl := lw_at lw_m2 60 rfl
theorem q412 : (Jvm.Cond.fieldLinkNest "SpeaksInTurn$Meeting" (165 : Nat) "SpeaksInTurn$Person" "voice" "I" "SpeaksInTurn") ∈ lw_tbl := lw_at lw_m2 63 rfl
theorem q414 : (Jvm.Cond.fieldLinkNest "SpeaksInTurn$Meeting" (72 : Nat) "SpeaksInTurn$Person" "late" "I" "SpeaksInTurn") ∈ lw_tbl := lw_at lw_m2 65 rfl
theorem q436 : (Jvm.Cond.fieldLinkNest "SpeaksInTurn$Meeting" (184 : Nat) "SpeaksInTurn$Thing" "worth" "I" "SpeaksInTurn") ∈ lw_tbl := lw_at lw_m2 87 rfl
theorem q466 : (Jvm.Cond.fieldLinkNest "SpeaksInTurn$Meeting" (115 : Nat) "SpeaksInTurn$Card" "thing" "I" "SpeaksInTurn") ∈ lw_tbl := lw_at lw_m2 117 rfl
theorem q470 : (Jvm.Cond.fieldLinkNest "SpeaksInTurn$Meeting" (189 : Nat) "SpeaksInTurn$Card" "counts" "I" "SpeaksInTurn") ∈ lw_tbl := lw_at lw_m2 121 rfl
theorem q941 : (Jvm.Cond.instanceMethod ({ cls := "SpeaksInTurn$Meeting", name := "go", desc := "([IIII)V" } : Jvm.MethodName)) ∈ lw_all := lw_g (lw_at lw_m4 112 rfl) rfl
theorem q942 : (Jvm.Cond.selects "SpeaksInTurn$Meeting" ({ cls := "SpeaksInTurn$Meeting", name := "go", desc := "([IIII)V" } : Jvm.MethodName) ({ cls := "SpeaksInTurn$Meeting", name := "go", desc := "([IIII)V" } : Jvm.MethodName)) ∈ lw_all := lw_g (lw_at lw_m4 113 rfl) rfl
theorem q943 : (Jvm.Cond.code ({ cls := "SpeaksInTurn$Meeting", name := "go", desc := "([IIII)V" } : Jvm.MethodName) prog_16_method_3_code (6 : Nat) (Option.none : Option Jvm.ClassFile.FieldType)) ∈ lw_all := lw_g (lw_at lw_m4 114 rfl) rfl
theorem q944 : (Jvm.Cond.methodLink "SpeaksInTurn$Meeting" (92 : Nat) ({ cls := "SpeaksInTurn$Meeting", name := "talk", desc := "(III)V" } : Jvm.MethodName)) ∈ lw_all := lw_g (lw_at lw_m4 115 rfl) rfl
theorem q945 : (Jvm.Cond.privateMethod ({ cls := "SpeaksInTurn$Meeting", name := "talk", desc := "(III)V" } : Jvm.MethodName)) ∈ lw_tbl := lw_at lw_m4 116 rfl
theorem q946 : (Jvm.Cond.instanceMethod ({ cls := "SpeaksInTurn$Meeting", name := "talk", desc := "(III)V" } : Jvm.MethodName)) ∈ lw_all := lw_g (lw_at lw_m4 117 rfl) rfl
theorem q947 : (Jvm.Cond.code ({ cls := "SpeaksInTurn$Meeting", name := "talk", desc := "(III)V" } : Jvm.MethodName) prog_16_method_8_code (5 : Nat) (Option.none : Option Jvm.ClassFile.FieldType)) ∈ lw_all := lw_g (lw_at lw_m4 118 rfl) rfl
theorem q948 : (Jvm.Cond.methodLink "SpeaksInTurn$Meeting" (130 : Nat) ({ cls := "SpeaksInTurn$Meeting", name := "layPaper", desc := "(I)V" } : Jvm.MethodName)) ∈ lw_all := lw_g (lw_at lw_m4 119 rfl) rfl
theorem q949 : (Jvm.Cond.privateMethod ({ cls := "SpeaksInTurn$Meeting", name := "layPaper", desc := "(I)V" } : Jvm.MethodName)) ∈ lw_tbl := lw_at lw_m4 120 rfl
theorem q950 : (Jvm.Cond.instanceMethod ({ cls := "SpeaksInTurn$Meeting", name := "layPaper", desc := "(I)V" } : Jvm.MethodName)) ∈ lw_all := lw_g (lw_at lw_m4 121 rfl) rfl
theorem q951 : (Jvm.Cond.code ({ cls := "SpeaksInTurn$Meeting", name := "layPaper", desc := "(I)V" } : Jvm.MethodName) prog_16_method_5_code (3 : Nat) (Option.none : Option Jvm.ClassFile.FieldType)) ∈ lw_all := lw_g (lw_at lw_m4 122 rfl) rfl
theorem q952 : (Jvm.Cond.methodLink "SpeaksInTurn$Meeting" (118 : Nat) ({ cls := "SpeaksInTurn$Meeting", name := "isKnownHere", desc := "(LSpeaksInTurn$Card;)Z" } : Jvm.MethodName)) ∈ lw_all := lw_g (lw_at lw_m4 123 rfl) rfl
theorem q953 : (Jvm.Cond.privateMethod ({ cls := "SpeaksInTurn$Meeting", name := "isKnownHere", desc := "(LSpeaksInTurn$Card;)Z" } : Jvm.MethodName)) ∈ lw_tbl := lw_at lw_m4 124 rfl
theorem q954 : (Jvm.Cond.instanceMethod ({ cls := "SpeaksInTurn$Meeting", name := "isKnownHere", desc := "(LSpeaksInTurn$Card;)Z" } : Jvm.MethodName)) ∈ lw_all := lw_g (lw_at lw_m4 125 rfl) rfl
theorem q955 : (Jvm.Cond.code ({ cls := "SpeaksInTurn$Meeting", name := "isKnownHere", desc := "(LSpeaksInTurn$Card;)Z" } : Jvm.MethodName) prog_16_method_4_code (3 : Nat) (Option.some Jvm.ClassFile.FieldType.boolean)) ∈ lw_all := lw_g (lw_at lw_m4 126 rfl) rfl
theorem q956 : (Jvm.Cond.methodLink "SpeaksInTurn$Meeting" (99 : Nat) ({ cls := "SpeaksInTurn$Meeting", name := "isThere", desc := "(I)Z" } : Jvm.MethodName)) ∈ lw_all := lw_g (lw_at lw_m4 127 rfl) rfl
theorem q957 : (Jvm.Cond.instanceMethod ({ cls := "SpeaksInTurn$Meeting", name := "isThere", desc := "(I)Z" } : Jvm.MethodName)) ∈ lw_all := lw_g (lw_at lw_m4 128 rfl) rfl
theorem q958 : (Jvm.Cond.selects "SpeaksInTurn$Meeting" ({ cls := "SpeaksInTurn$Meeting", name := "isThere", desc := "(I)Z" } : Jvm.MethodName) ({ cls := "SpeaksInTurn$Meeting", name := "isThere", desc := "(I)Z" } : Jvm.MethodName)) ∈ lw_all := lw_g (lw_at lw_m4 129 rfl) rfl
theorem q959 : (Jvm.Cond.code ({ cls := "SpeaksInTurn$Meeting", name := "isThere", desc := "(I)Z" } : Jvm.MethodName) prog_16_method_2_code (2 : Nat) (Option.some Jvm.ClassFile.FieldType.boolean)) ∈ lw_all := lw_g (lw_at lw_m4 130 rfl) rfl
theorem q960 : (Jvm.Cond.methodLink "SpeaksInTurn$Meeting" (103 : Nat) ({ cls := "SpeaksInTurn$Card", name := "isOf", desc := "(I)Z" } : Jvm.MethodName)) ∈ lw_all := lw_g (lw_at lw_m4 131 rfl) rfl
theorem q964 : (Jvm.Cond.methodLink "SpeaksInTurn$Meeting" (134 : Nat) ({ cls := "SpeaksInTurn$Meeting", name := "findWishes", desc := "(I)V" } : Jvm.MethodName)) ∈ lw_all := lw_g (lw_at lw_m4 135 rfl) rfl
theorem q965 : (Jvm.Cond.privateMethod ({ cls := "SpeaksInTurn$Meeting", name := "findWishes", desc := "(I)V" } : Jvm.MethodName)) ∈ lw_tbl := lw_at lw_m4 136 rfl
theorem q966 : (Jvm.Cond.instanceMethod ({ cls := "SpeaksInTurn$Meeting", name := "findWishes", desc := "(I)V" } : Jvm.MethodName)) ∈ lw_all := lw_g (lw_at lw_m4 137 rfl) rfl
theorem q967 : (Jvm.Cond.code ({ cls := "SpeaksInTurn$Meeting", name := "findWishes", desc := "(I)V" } : Jvm.MethodName) prog_16_method_7_code (3 : Nat) (Option.none : Option Jvm.ClassFile.FieldType)) ∈ lw_all := lw_g (lw_at lw_m4 138 rfl) rfl
theorem q968 : (Jvm.Cond.methodLink "SpeaksInTurn$Meeting" (122 : Nat) ({ cls := "SpeaksInTurn$Meeting", name := "unsaid", desc := "(II)I" } : Jvm.MethodName)) ∈ lw_all := lw_g (lw_at lw_m4 139 rfl) rfl
theorem q969 : (Jvm.Cond.privateMethod ({ cls := "SpeaksInTurn$Meeting", name := "unsaid", desc := "(II)I" } : Jvm.MethodName)) ∈ lw_tbl := lw_at lw_m4 140 rfl
theorem q970 : (Jvm.Cond.instanceMethod ({ cls := "SpeaksInTurn$Meeting", name := "unsaid", desc := "(II)I" } : Jvm.MethodName)) ∈ lw_all := lw_g (lw_at lw_m4 141 rfl) rfl
theorem q971 : (Jvm.Cond.code ({ cls := "SpeaksInTurn$Meeting", name := "unsaid", desc := "(II)I" } : Jvm.MethodName) prog_16_method_6_code (5 : Nat) (Option.some Jvm.ClassFile.FieldType.int)) ∈ lw_all := lw_g (lw_at lw_m4 142 rfl) rfl
theorem q972 : (Jvm.Cond.methodLinkNest "SpeaksInTurn$Meeting" (126 : Nat) ({ cls := "SpeaksInTurn", name := "wishOf", desc := "(IIIIII)I" } : Jvm.MethodName) "SpeaksInTurn") ∈ lw_tbl := lw_at lw_m4 143 rfl
theorem q1008 : (Jvm.Cond.methodLink "SpeaksInTurn$Meeting" (137 : Nat) ({ cls := "SpeaksInTurn$Meeting", name := "next", desc := "(I)I" } : Jvm.MethodName)) ∈ lw_all := lw_g (lw_at lw_m4 179 rfl) rfl
theorem q1009 : (Jvm.Cond.privateMethod ({ cls := "SpeaksInTurn$Meeting", name := "next", desc := "(I)I" } : Jvm.MethodName)) ∈ lw_tbl := lw_at lw_m4 180 rfl
theorem q1010 : (Jvm.Cond.instanceMethod ({ cls := "SpeaksInTurn$Meeting", name := "next", desc := "(I)I" } : Jvm.MethodName)) ∈ lw_all := lw_g (lw_at lw_m4 181 rfl) rfl
theorem q1011 : (Jvm.Cond.code ({ cls := "SpeaksInTurn$Meeting", name := "next", desc := "(I)I" } : Jvm.MethodName) prog_16_method_9_code (2 : Nat) (Option.some Jvm.ClassFile.FieldType.int)) ∈ lw_all := lw_g (lw_at lw_m4 182 rfl) rfl
theorem q1012 : (Jvm.Cond.methodLink "SpeaksInTurn$Meeting" (144 : Nat) ({ cls := "SpeaksInTurn$Meeting", name := "inTurn", desc := "()I" } : Jvm.MethodName)) ∈ lw_all := lw_g (lw_at lw_m4 183 rfl) rfl
theorem q1013 : (Jvm.Cond.privateMethod ({ cls := "SpeaksInTurn$Meeting", name := "inTurn", desc := "()I" } : Jvm.MethodName)) ∈ lw_tbl := lw_at lw_m4 184 rfl
theorem q1014 : (Jvm.Cond.instanceMethod ({ cls := "SpeaksInTurn$Meeting", name := "inTurn", desc := "()I" } : Jvm.MethodName)) ∈ lw_all := lw_g (lw_at lw_m4 185 rfl) rfl
theorem q1015 : (Jvm.Cond.code ({ cls := "SpeaksInTurn$Meeting", name := "inTurn", desc := "()I" } : Jvm.MethodName) prog_16_method_10_code (3 : Nat) (Option.some Jvm.ClassFile.FieldType.int)) ∈ lw_all := lw_g (lw_at lw_m4 186 rfl) rfl
theorem q1016 : (Jvm.Cond.methodLink "SpeaksInTurn$Meeting" (148 : Nat) ({ cls := "SpeaksInTurn$Meeting", name := "leastOften", desc := "()I" } : Jvm.MethodName)) ∈ lw_all := lw_g (lw_at lw_m4 187 rfl) rfl
theorem q1017 : (Jvm.Cond.privateMethod ({ cls := "SpeaksInTurn$Meeting", name := "leastOften", desc := "()I" } : Jvm.MethodName)) ∈ lw_tbl := lw_at lw_m4 188 rfl
theorem q1018 : (Jvm.Cond.instanceMethod ({ cls := "SpeaksInTurn$Meeting", name := "leastOften", desc := "()I" } : Jvm.MethodName)) ∈ lw_all := lw_g (lw_at lw_m4 189 rfl) rfl
theorem q1019 : (Jvm.Cond.code ({ cls := "SpeaksInTurn$Meeting", name := "leastOften", desc := "()I" } : Jvm.MethodName) prog_16_method_11_code (3 : Nat) (Option.some Jvm.ClassFile.FieldType.int)) ∈ lw_all := lw_g (lw_at lw_m4 190 rfl) rfl
theorem q1020 : (Jvm.Cond.methodLink "SpeaksInTurn$Meeting" (151 : Nat) ({ cls := "SpeaksInTurn$Meeting", name := "chiefLast", desc := "()I" } : Jvm.MethodName)) ∈ lw_all := lw_g (lw_at lw_m4 191 rfl) rfl
theorem q1021 : (Jvm.Cond.privateMethod ({ cls := "SpeaksInTurn$Meeting", name := "chiefLast", desc := "()I" } : Jvm.MethodName)) ∈ lw_tbl := lw_at lw_m4 192 rfl
theorem q1022 : (Jvm.Cond.instanceMethod ({ cls := "SpeaksInTurn$Meeting", name := "chiefLast", desc := "()I" } : Jvm.MethodName)) ∈ lw_all := lw_g (lw_at lw_m4 193 rfl) rfl
theorem q1023 : (Jvm.Cond.code ({ cls := "SpeaksInTurn$Meeting", name := "chiefLast", desc := "()I" } : Jvm.MethodName) prog_16_method_13_code (3 : Nat) (Option.some Jvm.ClassFile.FieldType.int)) ∈ lw_all := lw_g (lw_at lw_m4 194 rfl) rfl
theorem q1024 : (Jvm.Cond.methodLink "SpeaksInTurn$Meeting" (160 : Nat) ({ cls := "java/lang/Math", name := "max", desc := "(II)I" } : Jvm.MethodName)) ∈ lw_all := lw_g (lw_at lw_m4 195 rfl) rfl
theorem q1025 : (Jvm.Cond.methodLink "SpeaksInTurn$Meeting" (154 : Nat) ({ cls := "SpeaksInTurn$Meeting", name := "mostWishing", desc := "(I)I" } : Jvm.MethodName)) ∈ lw_all := lw_g (lw_at lw_m4 196 rfl) rfl
theorem q1026 : (Jvm.Cond.privateMethod ({ cls := "SpeaksInTurn$Meeting", name := "mostWishing", desc := "(I)I" } : Jvm.MethodName)) ∈ lw_tbl := lw_at lw_m4 197 rfl
theorem q1027 : (Jvm.Cond.instanceMethod ({ cls := "SpeaksInTurn$Meeting", name := "mostWishing", desc := "(I)I" } : Jvm.MethodName)) ∈ lw_all := lw_g (lw_at lw_m4 198 rfl) rfl
theorem q1028 : (Jvm.Cond.code ({ cls := "SpeaksInTurn$Meeting", name := "mostWishing", desc := "(I)I" } : Jvm.MethodName) prog_16_method_12_code (4 : Nat) (Option.some Jvm.ClassFile.FieldType.int)) ∈ lw_all := lw_g (lw_at lw_m4 199 rfl) rfl
theorem q1029 : (Jvm.Cond.methodLink "SpeaksInTurn$Meeting" (141 : Nat) ({ cls := "SpeaksInTurn$Meeting", name := "speak", desc := "(III)V" } : Jvm.MethodName)) ∈ lw_all := lw_g (lw_at lw_m4 200 rfl) rfl
theorem q1030 : (Jvm.Cond.privateMethod ({ cls := "SpeaksInTurn$Meeting", name := "speak", desc := "(III)V" } : Jvm.MethodName)) ∈ lw_tbl := lw_at lw_m4 201 rfl
theorem q1031 : (Jvm.Cond.instanceMethod ({ cls := "SpeaksInTurn$Meeting", name := "speak", desc := "(III)V" } : Jvm.MethodName)) ∈ lw_all := lw_g (lw_at lw_m4 202 rfl) rfl
theorem q1032 : (Jvm.Cond.code ({ cls := "SpeaksInTurn$Meeting", name := "speak", desc := "(III)V" } : Jvm.MethodName) prog_16_method_15_code (9 : Nat) (Option.none : Option Jvm.ClassFile.FieldType)) ∈ lw_all := lw_g (lw_at lw_m4 203 rfl) rfl
theorem q1033 : (Jvm.Cond.methodLink "SpeaksInTurn$Meeting" (168 : Nat) ({ cls := "SpeaksInTurn$Meeting", name := "stopperOf", desc := "(I)I" } : Jvm.MethodName)) ∈ lw_all := lw_g (lw_at lw_m4 204 rfl) rfl
theorem q1034 : (Jvm.Cond.privateMethod ({ cls := "SpeaksInTurn$Meeting", name := "stopperOf", desc := "(I)I" } : Jvm.MethodName)) ∈ lw_tbl := lw_at lw_m4 205 rfl
theorem q1035 : (Jvm.Cond.instanceMethod ({ cls := "SpeaksInTurn$Meeting", name := "stopperOf", desc := "(I)I" } : Jvm.MethodName)) ∈ lw_all := lw_g (lw_at lw_m4 206 rfl) rfl
theorem q1036 : (Jvm.Cond.code ({ cls := "SpeaksInTurn$Meeting", name := "stopperOf", desc := "(I)I" } : Jvm.MethodName) prog_16_method_14_code (3 : Nat) (Option.some Jvm.ClassFile.FieldType.int)) ∈ lw_all := lw_g (lw_at lw_m4 207 rfl) rfl
theorem q1037 : (Jvm.Cond.methodLink "SpeaksInTurn$Meeting" (171 : Nat) ({ cls := "java/lang/Math", name := "min", desc := "(II)I" } : Jvm.MethodName)) ∈ lw_all := lw_g (lw_at lw_m4 208 rfl) rfl
theorem q1038 : (Jvm.Cond.methodLink "SpeaksInTurn$Meeting" (177 : Nat) ({ cls := "SpeaksInTurn$Meeting", name := "againOf", desc := "(II)I" } : Jvm.MethodName)) ∈ lw_all := lw_g (lw_at lw_m4 209 rfl) rfl
theorem q1039 : (Jvm.Cond.privateMethod ({ cls := "SpeaksInTurn$Meeting", name := "againOf", desc := "(II)I" } : Jvm.MethodName)) ∈ lw_tbl := lw_at lw_m4 210 rfl
theorem q1040 : (Jvm.Cond.instanceMethod ({ cls := "SpeaksInTurn$Meeting", name := "againOf", desc := "(II)I" } : Jvm.MethodName)) ∈ lw_all := lw_g (lw_at lw_m4 211 rfl) rfl
theorem q1041 : (Jvm.Cond.code ({ cls := "SpeaksInTurn$Meeting", name := "againOf", desc := "(II)I" } : Jvm.MethodName) prog_16_method_16_code (4 : Nat) (Option.some Jvm.ClassFile.FieldType.int)) ∈ lw_all := lw_g (lw_at lw_m4 212 rfl) rfl
theorem q1043 : (Jvm.Cond.instanceMethod ({ cls := "SpeaksInTurn$Meeting", name := "decided", desc := "()I" } : Jvm.MethodName)) ∈ lw_all := lw_g (lw_at lw_m4 214 rfl) rfl
theorem q1044 : (Jvm.Cond.selects "SpeaksInTurn$Meeting" ({ cls := "SpeaksInTurn$Meeting", name := "decided", desc := "()I" } : Jvm.MethodName) ({ cls := "SpeaksInTurn$Meeting", name := "decided", desc := "()I" } : Jvm.MethodName)) ∈ lw_all := lw_g (lw_at lw_m4 215 rfl) rfl
theorem q1045 : (Jvm.Cond.code ({ cls := "SpeaksInTurn$Meeting", name := "decided", desc := "()I" } : Jvm.MethodName) prog_16_method_18_code (3 : Nat) (Option.some Jvm.ClassFile.FieldType.int)) ∈ lw_all := lw_g (lw_at lw_m4 216 rfl) rfl
theorem q1046 : (Jvm.Cond.methodLink "SpeaksInTurn$Meeting" (192 : Nat) ({ cls := "SpeaksInTurn$Meeting", name := "sumOf", desc := "(I)I" } : Jvm.MethodName)) ∈ lw_all := lw_g (lw_at lw_m4 217 rfl) rfl
theorem q1047 : (Jvm.Cond.instanceMethod ({ cls := "SpeaksInTurn$Meeting", name := "sumOf", desc := "(I)I" } : Jvm.MethodName)) ∈ lw_all := lw_g (lw_at lw_m4 218 rfl) rfl
theorem q1048 : (Jvm.Cond.selects "SpeaksInTurn$Meeting" ({ cls := "SpeaksInTurn$Meeting", name := "sumOf", desc := "(I)I" } : Jvm.MethodName) ({ cls := "SpeaksInTurn$Meeting", name := "sumOf", desc := "(I)I" } : Jvm.MethodName)) ∈ lw_all := lw_g (lw_at lw_m4 219 rfl) rfl
theorem q1049 : (Jvm.Cond.code ({ cls := "SpeaksInTurn$Meeting", name := "sumOf", desc := "(I)I" } : Jvm.MethodName) prog_16_method_17_code (4 : Nat) (Option.some Jvm.ClassFile.FieldType.int)) ∈ lw_all := lw_g (lw_at lw_m4 220 rfl) rfl
theorem q1051 : (Jvm.Cond.instanceMethod ({ cls := "SpeaksInTurn$Meeting", name := "heldBack", desc := "()I" } : Jvm.MethodName)) ∈ lw_all := lw_g (lw_at lw_m4 222 rfl) rfl
theorem q1052 : (Jvm.Cond.selects "SpeaksInTurn$Meeting" ({ cls := "SpeaksInTurn$Meeting", name := "heldBack", desc := "()I" } : Jvm.MethodName) ({ cls := "SpeaksInTurn$Meeting", name := "heldBack", desc := "()I" } : Jvm.MethodName)) ∈ lw_all := lw_g (lw_at lw_m4 223 rfl) rfl
theorem q1053 : (Jvm.Cond.code ({ cls := "SpeaksInTurn$Meeting", name := "heldBack", desc := "()I" } : Jvm.MethodName) prog_16_method_19_code (3 : Nat) (Option.some Jvm.ClassFile.FieldType.int)) ∈ lw_all := lw_g (lw_at lw_m4 224 rfl) rfl
theorem q1073 : (Jvm.Cond.instanceMethod ({ cls := "SpeaksInTurn$Meeting", name := "cost", desc := "()I" } : Jvm.MethodName)) ∈ lw_all := lw_g (lw_at lw_m5 4 rfl) rfl
theorem q1074 : (Jvm.Cond.selects "SpeaksInTurn$Meeting" ({ cls := "SpeaksInTurn$Meeting", name := "cost", desc := "()I" } : Jvm.MethodName) ({ cls := "SpeaksInTurn$Meeting", name := "cost", desc := "()I" } : Jvm.MethodName)) ∈ lw_all := lw_g (lw_at lw_m5 5 rfl) rfl
theorem q1075 : (Jvm.Cond.code ({ cls := "SpeaksInTurn$Meeting", name := "cost", desc := "()I" } : Jvm.MethodName) prog_16_method_21_code (3 : Nat) (Option.some Jvm.ClassFile.FieldType.int)) ∈ lw_all := lw_g (lw_at lw_m5 6 rfl) rfl
theorem q1076 : (Jvm.Cond.methodLink "SpeaksInTurn$Meeting" (198 : Nat) ({ cls := "SpeaksInTurn$Meeting", name := "thereFor", desc := "(I)I" } : Jvm.MethodName)) ∈ lw_all := lw_g (lw_at lw_m5 7 rfl) rfl
theorem q1077 : (Jvm.Cond.instanceMethod ({ cls := "SpeaksInTurn$Meeting", name := "thereFor", desc := "(I)I" } : Jvm.MethodName)) ∈ lw_all := lw_g (lw_at lw_m5 8 rfl) rfl
theorem q1078 : (Jvm.Cond.selects "SpeaksInTurn$Meeting" ({ cls := "SpeaksInTurn$Meeting", name := "thereFor", desc := "(I)I" } : Jvm.MethodName) ({ cls := "SpeaksInTurn$Meeting", name := "thereFor", desc := "(I)I" } : Jvm.MethodName)) ∈ lw_all := lw_g (lw_at lw_m5 9 rfl) rfl
theorem q1079 : (Jvm.Cond.code ({ cls := "SpeaksInTurn$Meeting", name := "thereFor", desc := "(I)I" } : Jvm.MethodName) prog_16_method_20_code (2 : Nat) (Option.some Jvm.ClassFile.FieldType.int)) ∈ lw_all := lw_g (lw_at lw_m5 10 rfl) rfl
theorem q1081 : (Jvm.Cond.instanceMethod ({ cls := "SpeaksInTurn$Meeting", name := "shed", desc := "()I" } : Jvm.MethodName)) ∈ lw_all := lw_g (lw_at lw_m5 12 rfl) rfl
theorem q1082 : (Jvm.Cond.selects "SpeaksInTurn$Meeting" ({ cls := "SpeaksInTurn$Meeting", name := "shed", desc := "()I" } : Jvm.MethodName) ({ cls := "SpeaksInTurn$Meeting", name := "shed", desc := "()I" } : Jvm.MethodName)) ∈ lw_all := lw_g (lw_at lw_m5 13 rfl) rfl
theorem q1083 : (Jvm.Cond.code ({ cls := "SpeaksInTurn$Meeting", name := "shed", desc := "()I" } : Jvm.MethodName) prog_16_method_22_code (5 : Nat) (Option.some Jvm.ClassFile.FieldType.int)) ∈ lw_all := lw_g (lw_at lw_m5 14 rfl) rfl
theorem q1084 : (Jvm.Cond.methodLink "SpeaksInTurn$Meeting" (201 : Nat) ({ cls := "java/lang/Math", name := "abs", desc := "(I)I" } : Jvm.MethodName)) ∈ lw_all := lw_g (lw_at lw_m5 15 rfl) rfl
theorem q144 : (Jvm.Cond.initialized "SpeaksInTurn$Again") ∈ lw_all := lw_g (lw_at lw_m1 35 rfl) rfl
theorem q1203 : (Jvm.Cond.instantiable "SpeaksInTurn$Again" (4 : Nat)) ∈ lw_all := lw_g (lw_at lw_m5 134 rfl) rfl
theorem q1205 : (Jvm.Cond.instanceMethod ({ cls := "SpeaksInTurn$Again", name := "<init>", desc := "(LSpeaksInTurn;I)V" } : Jvm.MethodName)) ∈ lw_all := lw_g (lw_at lw_m5 136 rfl) rfl
theorem q1206 : (Jvm.Cond.code ({ cls := "SpeaksInTurn$Again", name := "<init>", desc := "(LSpeaksInTurn;I)V" } : Jvm.MethodName) prog_2_method_1_code (3 : Nat) (Option.none : Option Jvm.ClassFile.FieldType)) ∈ lw_all := lw_g (lw_at lw_m5 137 rfl) rfl
theorem q1207 : (Jvm.Cond.methodLink "SpeaksInTurn$Again" (7 : Nat) ({ cls := "SpeaksInTurn$Shared", name := "<init>", desc := "(LSpeaksInTurn;I)V" } : Jvm.MethodName)) ∈ lw_all := lw_g (lw_at lw_m5 138 rfl) rfl
theorem q1208 : (Jvm.Cond.fieldLink "SpeaksInTurn$Again" (1 : Nat) "SpeaksInTurn$Again" "this$0" "LSpeaksInTurn;") ∈ lw_all := lw_g (lw_at lw_m5 139 rfl) rfl
theorem q1209 : (Jvm.Cond.laysFinal "SpeaksInTurn$Again" "SpeaksInTurn$Again" "this$0" "LSpeaksInTurn;") ∈ lw_all := lw_g (lw_at lw_m5 140 rfl) rfl
theorem q1210 : (Jvm.Cond.soleField "SpeaksInTurn$Again" "this$0") ∈ lw_all := lw_g (lw_at lw_m5 141 rfl) rfl
theorem q1211 : (Jvm.Cond.laysFinal "SpeaksInTurn$Again" "SpeaksInTurn$Shared" "this$0" "LSpeaksInTurn;") ∈ lw_all := lw_g (lw_at lw_m5 142 rfl) rfl
theorem q1212 : (Jvm.Cond.laysFinal "SpeaksInTurn$Again" "SpeaksInTurn$Plain" "number" "I") ∈ lw_all := lw_g (lw_at lw_m5 143 rfl) rfl
theorem q1213 : (Jvm.Cond.laysFinal "SpeaksInTurn$Again" "SpeaksInTurn$Plain" "this$0" "LSpeaksInTurn;") ∈ lw_all := lw_g (lw_at lw_m5 144 rfl) rfl
theorem q1214 : (Jvm.Cond.superclass "SpeaksInTurn$Again" "SpeaksInTurn$Shared") ∈ lw_all := lw_g (lw_at lw_m5 145 rfl) rfl
theorem q1283 : (Jvm.Cond.castable "SpeaksInTurn$Again" "SpeaksInTurn$Knows") ∈ lw_tbl := lw_at lw_m5 214 rfl
theorem q1284 : (Jvm.Cond.selects "SpeaksInTurn$Again" ({ cls := "SpeaksInTurn$Knows", name := "knows", desc := "(I)I" } : Jvm.MethodName) ({ cls := "SpeaksInTurn$Plain", name := "knows", desc := "(I)I" } : Jvm.MethodName)) ∈ lw_all := lw_g (lw_at lw_m5 215 rfl) rfl
theorem q1285 : (Jvm.Cond.unhidden "SpeaksInTurn$Again" "knows" "(I)I") ∈ lw_tbl := lw_at lw_m5 216 rfl
theorem q1328 : (Jvm.Cond.castable "SpeaksInTurn$Again" "SpeaksInTurn$Tells") ∈ lw_tbl := lw_at lw_m6 19 rfl
theorem q1329 : (Jvm.Cond.selects "SpeaksInTurn$Again" ({ cls := "SpeaksInTurn$Tells", name := "tells", desc := "(I)I" } : Jvm.MethodName) ({ cls := "SpeaksInTurn$Plain", name := "tells", desc := "(I)I" } : Jvm.MethodName)) ∈ lw_all := lw_g (lw_at lw_m6 20 rfl) rfl
theorem q1330 : (Jvm.Cond.unhidden "SpeaksInTurn$Again" "tells" "(I)I") ∈ lw_tbl := lw_at lw_m6 21 rfl
theorem q1338 : (Jvm.Cond.selects "SpeaksInTurn$Again" ({ cls := "SpeaksInTurn$Plain", name := "speaks", desc := "(I)I" } : Jvm.MethodName) ({ cls := "SpeaksInTurn$Again", name := "speaks", desc := "(I)I" } : Jvm.MethodName)) ∈ lw_all := lw_g (lw_at lw_m6 29 rfl) rfl
theorem q1339 : (Jvm.Cond.instanceMethod ({ cls := "SpeaksInTurn$Again", name := "speaks", desc := "(I)I" } : Jvm.MethodName)) ∈ lw_all := lw_g (lw_at lw_m6 30 rfl) rfl
theorem q1340 : (Jvm.Cond.code ({ cls := "SpeaksInTurn$Again", name := "speaks", desc := "(I)I" } : Jvm.MethodName) prog_2_method_5_code (2 : Nat) (Option.some Jvm.ClassFile.FieldType.int)) ∈ lw_all := lw_g (lw_at lw_m6 31 rfl) rfl
theorem q1341 : (Jvm.Cond.methodLinkNest "SpeaksInTurn$Again" (17 : Nat) ({ cls := "SpeaksInTurn", name := "ran", desc := "(I)V" } : Jvm.MethodName) "SpeaksInTurn") ∈ lw_tbl := lw_at lw_m6 32 rfl
theorem q1342 : (Jvm.Cond.methodLink "SpeaksInTurn$Again" (27 : Nat) ({ cls := "SpeaksInTurn$Shared", name := "speaks", desc := "(I)I" } : Jvm.MethodName)) ∈ lw_all := lw_g (lw_at lw_m6 33 rfl) rfl
theorem q1377 : (Jvm.Cond.instanceMethod ({ cls := "SpeaksInTurn$Again", name := "stops", desc := "(I)I" } : Jvm.MethodName)) ∈ lw_all := lw_g (lw_at lw_m6 68 rfl) rfl
theorem q1378 : (Jvm.Cond.code ({ cls := "SpeaksInTurn$Again", name := "stops", desc := "(I)I" } : Jvm.MethodName) prog_2_method_4_code (2 : Nat) (Option.some Jvm.ClassFile.FieldType.int)) ∈ lw_all := lw_g (lw_at lw_m6 69 rfl) rfl
theorem q1379 : (Jvm.Cond.methodLink "SpeaksInTurn$Again" (23 : Nat) ({ cls := "SpeaksInTurn$Shared", name := "stops", desc := "(I)I" } : Jvm.MethodName)) ∈ lw_all := lw_g (lw_at lw_m6 70 rfl) rfl
theorem q1405 : (Jvm.Cond.sameMethod "SpeaksInTurn$Again" "SpeaksInTurn$Plain" "tells" "(I)I") ∈ lw_all := lw_g (lw_at lw_m6 96 rfl) rfl
theorem q1584 : (Jvm.Cond.selects "SpeaksInTurn$Again" ({ cls := "SpeaksInTurn$Plain", name := "isUnder", desc := "(I)Z" } : Jvm.MethodName) ({ cls := "SpeaksInTurn$Again", name := "isUnder", desc := "(I)Z" } : Jvm.MethodName)) ∈ lw_all := lw_g (lw_at lw_m7 35 rfl) rfl
theorem q1585 : (Jvm.Cond.instanceMethod ({ cls := "SpeaksInTurn$Again", name := "isUnder", desc := "(I)Z" } : Jvm.MethodName)) ∈ lw_all := lw_g (lw_at lw_m7 36 rfl) rfl
theorem q1586 : (Jvm.Cond.code ({ cls := "SpeaksInTurn$Again", name := "isUnder", desc := "(I)Z" } : Jvm.MethodName) prog_2_method_3_code (2 : Nat) (Option.some Jvm.ClassFile.FieldType.boolean)) ∈ lw_all := lw_g (lw_at lw_m7 37 rfl) rfl
theorem q1587 : (Jvm.Cond.methodLink "SpeaksInTurn$Again" (13 : Nat) ({ cls := "SpeaksInTurn$Shared", name := "isUnder", desc := "(I)Z" } : Jvm.MethodName)) ∈ lw_all := lw_g (lw_at lw_m7 38 rfl) rfl
theorem q1605 : (Jvm.Cond.selects "SpeaksInTurn$Again" ({ cls := "SpeaksInTurn$Plain", name := "kind", desc := "()I" } : Jvm.MethodName) ({ cls := "SpeaksInTurn$Again", name := "kind", desc := "()I" } : Jvm.MethodName)) ∈ lw_all := lw_g (lw_at lw_m7 56 rfl) rfl
theorem q1606 : (Jvm.Cond.instanceMethod ({ cls := "SpeaksInTurn$Again", name := "kind", desc := "()I" } : Jvm.MethodName)) ∈ lw_all := lw_g (lw_at lw_m7 57 rfl) rfl
theorem q1607 : (Jvm.Cond.code ({ cls := "SpeaksInTurn$Again", name := "kind", desc := "()I" } : Jvm.MethodName) prog_2_method_2_code (1 : Nat) (Option.some Jvm.ClassFile.FieldType.int)) ∈ lw_all := lw_g (lw_at lw_m7 58 rfl) rfl
theorem q2283 : (Jvm.Cond.selects "SpeaksInTurn$Again" ({ cls := "SpeaksInTurn$Plain", name := "knows", desc := "(I)I" } : Jvm.MethodName) ({ cls := "SpeaksInTurn$Plain", name := "knows", desc := "(I)I" } : Jvm.MethodName)) ∈ lw_all := lw_g (lw_at lw_m10 14 rfl) rfl
theorem q2291 : (Jvm.Cond.selects "SpeaksInTurn$Again" ({ cls := "SpeaksInTurn$Plain", name := "stops", desc := "(I)I" } : Jvm.MethodName) ({ cls := "SpeaksInTurn$Again", name := "stops", desc := "(I)I" } : Jvm.MethodName)) ∈ lw_all := lw_g (lw_at lw_m10 22 rfl) rfl
theorem q2306 : (Jvm.Cond.castable "SpeaksInTurn$Again" "SpeaksInTurn$Plain") ∈ lw_tbl := lw_at lw_m10 37 rfl
theorem q2315 : (Jvm.Cond.castable "SpeaksInTurn$Again" "SpeaksInTurn$Held") ∈ lw_tbl := lw_at lw_m10 46 rfl
theorem q145 : (Jvm.Cond.initialized "SpeaksInTurn$Stopped") ∈ lw_all := lw_g (lw_at lw_m1 36 rfl) rfl
theorem q1216 : (Jvm.Cond.instantiable "SpeaksInTurn$Stopped" (3 : Nat)) ∈ lw_all := lw_g (lw_at lw_m5 147 rfl) rfl
theorem q1218 : (Jvm.Cond.instanceMethod ({ cls := "SpeaksInTurn$Stopped", name := "<init>", desc := "(LSpeaksInTurn;I)V" } : Jvm.MethodName)) ∈ lw_all := lw_g (lw_at lw_m5 149 rfl) rfl
theorem q1219 : (Jvm.Cond.code ({ cls := "SpeaksInTurn$Stopped", name := "<init>", desc := "(LSpeaksInTurn;I)V" } : Jvm.MethodName) prog_27_method_1_code (3 : Nat) (Option.none : Option Jvm.ClassFile.FieldType)) ∈ lw_all := lw_g (lw_at lw_m5 150 rfl) rfl
theorem q1220 : (Jvm.Cond.methodLink "SpeaksInTurn$Stopped" (7 : Nat) ({ cls := "SpeaksInTurn$Plain", name := "<init>", desc := "(LSpeaksInTurn;I)V" } : Jvm.MethodName)) ∈ lw_all := lw_g (lw_at lw_m5 151 rfl) rfl
theorem q1221 : (Jvm.Cond.fieldLink "SpeaksInTurn$Stopped" (1 : Nat) "SpeaksInTurn$Stopped" "this$0" "LSpeaksInTurn;") ∈ lw_all := lw_g (lw_at lw_m5 152 rfl) rfl
theorem q1222 : (Jvm.Cond.laysFinal "SpeaksInTurn$Stopped" "SpeaksInTurn$Stopped" "this$0" "LSpeaksInTurn;") ∈ lw_all := lw_g (lw_at lw_m5 153 rfl) rfl
theorem q1223 : (Jvm.Cond.soleField "SpeaksInTurn$Stopped" "this$0") ∈ lw_all := lw_g (lw_at lw_m5 154 rfl) rfl
theorem q1224 : (Jvm.Cond.laysFinal "SpeaksInTurn$Stopped" "SpeaksInTurn$Plain" "number" "I") ∈ lw_all := lw_g (lw_at lw_m5 155 rfl) rfl
theorem q1225 : (Jvm.Cond.laysFinal "SpeaksInTurn$Stopped" "SpeaksInTurn$Plain" "this$0" "LSpeaksInTurn;") ∈ lw_all := lw_g (lw_at lw_m5 156 rfl) rfl
theorem q1226 : (Jvm.Cond.superclass "SpeaksInTurn$Stopped" "SpeaksInTurn$Plain") ∈ lw_all := lw_g (lw_at lw_m5 157 rfl) rfl
theorem q1315 : (Jvm.Cond.castable "SpeaksInTurn$Stopped" "SpeaksInTurn$Knows") ∈ lw_tbl := lw_at lw_m6 6 rfl
theorem q1316 : (Jvm.Cond.selects "SpeaksInTurn$Stopped" ({ cls := "SpeaksInTurn$Knows", name := "knows", desc := "(I)I" } : Jvm.MethodName) ({ cls := "SpeaksInTurn$Plain", name := "knows", desc := "(I)I" } : Jvm.MethodName)) ∈ lw_all := lw_g (lw_at lw_m6 7 rfl) rfl
theorem q1317 : (Jvm.Cond.unhidden "SpeaksInTurn$Stopped" "knows" "(I)I") ∈ lw_tbl := lw_at lw_m6 8 rfl
theorem q1350 : (Jvm.Cond.selects "SpeaksInTurn$Stopped" ({ cls := "SpeaksInTurn$Plain", name := "speaks", desc := "(I)I" } : Jvm.MethodName) ({ cls := "SpeaksInTurn$Plain", name := "speaks", desc := "(I)I" } : Jvm.MethodName)) ∈ lw_all := lw_g (lw_at lw_m6 41 rfl) rfl
theorem q1357 : (Jvm.Cond.sameMethod "SpeaksInTurn$Stopped" "SpeaksInTurn$Plain" "speaks" "(I)I") ∈ lw_all := lw_g (lw_at lw_m6 48 rfl) rfl
theorem q1361 : (Jvm.Cond.declares ({ cls := "SpeaksInTurn$Stopped", name := "stops", desc := "(I)I" } : Jvm.MethodName)) ∈ lw_tbl := lw_at lw_m6 52 rfl
theorem q1363 : (Jvm.Cond.instanceMethod ({ cls := "SpeaksInTurn$Stopped", name := "stops", desc := "(I)I" } : Jvm.MethodName)) ∈ lw_all := lw_g (lw_at lw_m6 54 rfl) rfl
theorem q1364 : (Jvm.Cond.code ({ cls := "SpeaksInTurn$Stopped", name := "stops", desc := "(I)I" } : Jvm.MethodName) prog_27_method_4_code (3 : Nat) (Option.some Jvm.ClassFile.FieldType.int)) ∈ lw_all := lw_g (lw_at lw_m6 55 rfl) rfl
theorem q1365 : (Jvm.Cond.methodLinkNest "SpeaksInTurn$Stopped" (17 : Nat) ({ cls := "SpeaksInTurn", name := "ran", desc := "(I)V" } : Jvm.MethodName) "SpeaksInTurn") ∈ lw_tbl := lw_at lw_m6 56 rfl
theorem q1366 : (Jvm.Cond.methodLink "SpeaksInTurn$Stopped" (23 : Nat) ({ cls := "SpeaksInTurn$Plain", name := "stops", desc := "(I)I" } : Jvm.MethodName)) ∈ lw_all := lw_g (lw_at lw_m6 57 rfl) rfl
theorem q1369 : (Jvm.Cond.methodLink "SpeaksInTurn$Stopped" (27 : Nat) ({ cls := "SpeaksInTurn$Stopped", name := "knows", desc := "(I)I" } : Jvm.MethodName)) ∈ lw_all := lw_g (lw_at lw_m6 60 rfl) rfl
theorem q1370 : (Jvm.Cond.sameMethod "SpeaksInTurn$Stopped" "SpeaksInTurn$Plain" "knows" "(I)I") ∈ lw_all := lw_g (lw_at lw_m6 61 rfl) rfl
theorem q1372 : (Jvm.Cond.selects "SpeaksInTurn$Stopped" ({ cls := "SpeaksInTurn$Stopped", name := "knows", desc := "(I)I" } : Jvm.MethodName) ({ cls := "SpeaksInTurn$Plain", name := "knows", desc := "(I)I" } : Jvm.MethodName)) ∈ lw_all := lw_g (lw_at lw_m6 63 rfl) rfl
theorem q1394 : (Jvm.Cond.castable "SpeaksInTurn$Stopped" "SpeaksInTurn$Tells") ∈ lw_tbl := lw_at lw_m6 85 rfl
theorem q1395 : (Jvm.Cond.selects "SpeaksInTurn$Stopped" ({ cls := "SpeaksInTurn$Tells", name := "tells", desc := "(I)I" } : Jvm.MethodName) ({ cls := "SpeaksInTurn$Plain", name := "tells", desc := "(I)I" } : Jvm.MethodName)) ∈ lw_all := lw_g (lw_at lw_m6 86 rfl) rfl
theorem q1396 : (Jvm.Cond.unhidden "SpeaksInTurn$Stopped" "tells" "(I)I") ∈ lw_tbl := lw_at lw_m6 87 rfl
theorem q1414 : (Jvm.Cond.sameMethod "SpeaksInTurn$Stopped" "SpeaksInTurn$Plain" "tells" "(I)I") ∈ lw_all := lw_g (lw_at lw_m6 105 rfl) rfl
theorem q1594 : (Jvm.Cond.selects "SpeaksInTurn$Stopped" ({ cls := "SpeaksInTurn$Plain", name := "isUnder", desc := "(I)Z" } : Jvm.MethodName) ({ cls := "SpeaksInTurn$Stopped", name := "isUnder", desc := "(I)Z" } : Jvm.MethodName)) ∈ lw_all := lw_g (lw_at lw_m7 45 rfl) rfl
theorem q1595 : (Jvm.Cond.instanceMethod ({ cls := "SpeaksInTurn$Stopped", name := "isUnder", desc := "(I)Z" } : Jvm.MethodName)) ∈ lw_all := lw_g (lw_at lw_m7 46 rfl) rfl
theorem q1596 : (Jvm.Cond.code ({ cls := "SpeaksInTurn$Stopped", name := "isUnder", desc := "(I)Z" } : Jvm.MethodName) prog_27_method_3_code (2 : Nat) (Option.some Jvm.ClassFile.FieldType.boolean)) ∈ lw_all := lw_g (lw_at lw_m7 47 rfl) rfl
theorem q1597 : (Jvm.Cond.methodLink "SpeaksInTurn$Stopped" (13 : Nat) ({ cls := "SpeaksInTurn$Plain", name := "isUnder", desc := "(I)Z" } : Jvm.MethodName)) ∈ lw_all := lw_g (lw_at lw_m7 48 rfl) rfl
theorem q1617 : (Jvm.Cond.selects "SpeaksInTurn$Stopped" ({ cls := "SpeaksInTurn$Plain", name := "kind", desc := "()I" } : Jvm.MethodName) ({ cls := "SpeaksInTurn$Stopped", name := "kind", desc := "()I" } : Jvm.MethodName)) ∈ lw_all := lw_g (lw_at lw_m7 68 rfl) rfl
theorem q1618 : (Jvm.Cond.instanceMethod ({ cls := "SpeaksInTurn$Stopped", name := "kind", desc := "()I" } : Jvm.MethodName)) ∈ lw_all := lw_g (lw_at lw_m7 69 rfl) rfl
theorem q1619 : (Jvm.Cond.code ({ cls := "SpeaksInTurn$Stopped", name := "kind", desc := "()I" } : Jvm.MethodName) prog_27_method_2_code (1 : Nat) (Option.some Jvm.ClassFile.FieldType.int)) ∈ lw_all := lw_g (lw_at lw_m7 70 rfl) rfl
theorem q2288 : (Jvm.Cond.selects "SpeaksInTurn$Stopped" ({ cls := "SpeaksInTurn$Plain", name := "knows", desc := "(I)I" } : Jvm.MethodName) ({ cls := "SpeaksInTurn$Plain", name := "knows", desc := "(I)I" } : Jvm.MethodName)) ∈ lw_all := lw_g (lw_at lw_m10 19 rfl) rfl
theorem q2296 : (Jvm.Cond.selects "SpeaksInTurn$Stopped" ({ cls := "SpeaksInTurn$Plain", name := "stops", desc := "(I)I" } : Jvm.MethodName) ({ cls := "SpeaksInTurn$Stopped", name := "stops", desc := "(I)I" } : Jvm.MethodName)) ∈ lw_all := lw_g (lw_at lw_m10 27 rfl) rfl
theorem q2310 : (Jvm.Cond.castable "SpeaksInTurn$Stopped" "SpeaksInTurn$Plain") ∈ lw_tbl := lw_at lw_m10 41 rfl
theorem q2316 : (Jvm.Cond.castable "SpeaksInTurn$Stopped" "SpeaksInTurn$Held") ∈ lw_tbl := lw_at lw_m10 47 rfl
theorem q146 : (Jvm.Cond.initialized "SpeaksInTurn$Taken") ∈ lw_all := lw_g (lw_at lw_m1 37 rfl) rfl
theorem q1228 : (Jvm.Cond.instantiable "SpeaksInTurn$Taken" (5 : Nat)) ∈ lw_all := lw_g (lw_at lw_m5 159 rfl) rfl
theorem q1230 : (Jvm.Cond.instanceMethod ({ cls := "SpeaksInTurn$Taken", name := "<init>", desc := "(LSpeaksInTurn;I)V" } : Jvm.MethodName)) ∈ lw_all := lw_g (lw_at lw_m5 161 rfl) rfl
theorem q1231 : (Jvm.Cond.code ({ cls := "SpeaksInTurn$Taken", name := "<init>", desc := "(LSpeaksInTurn;I)V" } : Jvm.MethodName) prog_28_method_1_code (3 : Nat) (Option.none : Option Jvm.ClassFile.FieldType)) ∈ lw_all := lw_g (lw_at lw_m5 162 rfl) rfl
theorem q1232 : (Jvm.Cond.methodLink "SpeaksInTurn$Taken" (7 : Nat) ({ cls := "SpeaksInTurn$Again", name := "<init>", desc := "(LSpeaksInTurn;I)V" } : Jvm.MethodName)) ∈ lw_all := lw_g (lw_at lw_m5 163 rfl) rfl
theorem q1233 : (Jvm.Cond.fieldLink "SpeaksInTurn$Taken" (1 : Nat) "SpeaksInTurn$Taken" "this$0" "LSpeaksInTurn;") ∈ lw_all := lw_g (lw_at lw_m5 164 rfl) rfl
theorem q1234 : (Jvm.Cond.laysFinal "SpeaksInTurn$Taken" "SpeaksInTurn$Taken" "this$0" "LSpeaksInTurn;") ∈ lw_all := lw_g (lw_at lw_m5 165 rfl) rfl
theorem q1235 : (Jvm.Cond.soleField "SpeaksInTurn$Taken" "this$0") ∈ lw_all := lw_g (lw_at lw_m5 166 rfl) rfl
theorem q1236 : (Jvm.Cond.laysFinal "SpeaksInTurn$Taken" "SpeaksInTurn$Again" "this$0" "LSpeaksInTurn;") ∈ lw_all := lw_g (lw_at lw_m5 167 rfl) rfl
theorem q1237 : (Jvm.Cond.laysFinal "SpeaksInTurn$Taken" "SpeaksInTurn$Shared" "this$0" "LSpeaksInTurn;") ∈ lw_all := lw_g (lw_at lw_m5 168 rfl) rfl
theorem q1238 : (Jvm.Cond.laysFinal "SpeaksInTurn$Taken" "SpeaksInTurn$Plain" "number" "I") ∈ lw_all := lw_g (lw_at lw_m5 169 rfl) rfl
theorem q1239 : (Jvm.Cond.laysFinal "SpeaksInTurn$Taken" "SpeaksInTurn$Plain" "this$0" "LSpeaksInTurn;") ∈ lw_all := lw_g (lw_at lw_m5 170 rfl) rfl
theorem q1240 : (Jvm.Cond.superclass "SpeaksInTurn$Taken" "SpeaksInTurn$Again") ∈ lw_all := lw_g (lw_at lw_m5 171 rfl) rfl
theorem q1318 : (Jvm.Cond.castable "SpeaksInTurn$Taken" "SpeaksInTurn$Knows") ∈ lw_tbl := lw_at lw_m6 9 rfl
theorem q1319 : (Jvm.Cond.selects "SpeaksInTurn$Taken" ({ cls := "SpeaksInTurn$Knows", name := "knows", desc := "(I)I" } : Jvm.MethodName) ({ cls := "SpeaksInTurn$Plain", name := "knows", desc := "(I)I" } : Jvm.MethodName)) ∈ lw_all := lw_g (lw_at lw_m6 10 rfl) rfl
theorem q1320 : (Jvm.Cond.unhidden "SpeaksInTurn$Taken" "knows" "(I)I") ∈ lw_tbl := lw_at lw_m6 11 rfl
theorem q1351 : (Jvm.Cond.selects "SpeaksInTurn$Taken" ({ cls := "SpeaksInTurn$Plain", name := "speaks", desc := "(I)I" } : Jvm.MethodName) ({ cls := "SpeaksInTurn$Again", name := "speaks", desc := "(I)I" } : Jvm.MethodName)) ∈ lw_all := lw_g (lw_at lw_m6 42 rfl) rfl
theorem q1397 : (Jvm.Cond.castable "SpeaksInTurn$Taken" "SpeaksInTurn$Tells") ∈ lw_tbl := lw_at lw_m6 88 rfl
theorem q1398 : (Jvm.Cond.selects "SpeaksInTurn$Taken" ({ cls := "SpeaksInTurn$Tells", name := "tells", desc := "(I)I" } : Jvm.MethodName) ({ cls := "SpeaksInTurn$Taken", name := "tells", desc := "(I)I" } : Jvm.MethodName)) ∈ lw_all := lw_g (lw_at lw_m6 89 rfl) rfl
theorem q1399 : (Jvm.Cond.unhidden "SpeaksInTurn$Taken" "tells" "(I)I") ∈ lw_tbl := lw_at lw_m6 90 rfl
theorem q1400 : (Jvm.Cond.instanceMethod ({ cls := "SpeaksInTurn$Taken", name := "tells", desc := "(I)I" } : Jvm.MethodName)) ∈ lw_all := lw_g (lw_at lw_m6 91 rfl) rfl
theorem q1401 : (Jvm.Cond.publicMethod ({ cls := "SpeaksInTurn$Taken", name := "tells", desc := "(I)I" } : Jvm.MethodName)) ∈ lw_tbl := lw_at lw_m6 92 rfl
theorem q1402 : (Jvm.Cond.code ({ cls := "SpeaksInTurn$Taken", name := "tells", desc := "(I)I" } : Jvm.MethodName) prog_28_method_3_code (2 : Nat) (Option.some Jvm.ClassFile.FieldType.int)) ∈ lw_all := lw_g (lw_at lw_m6 93 rfl) rfl
theorem q1403 : (Jvm.Cond.methodLinkNest "SpeaksInTurn$Taken" (13 : Nat) ({ cls := "SpeaksInTurn", name := "ran", desc := "(I)V" } : Jvm.MethodName) "SpeaksInTurn") ∈ lw_tbl := lw_at lw_m6 94 rfl
theorem q1404 : (Jvm.Cond.methodLink "SpeaksInTurn$Taken" (19 : Nat) ({ cls := "SpeaksInTurn$Again", name := "tells", desc := "(I)I" } : Jvm.MethodName)) ∈ lw_all := lw_g (lw_at lw_m6 95 rfl) rfl
theorem q1598 : (Jvm.Cond.selects "SpeaksInTurn$Taken" ({ cls := "SpeaksInTurn$Plain", name := "isUnder", desc := "(I)Z" } : Jvm.MethodName) ({ cls := "SpeaksInTurn$Again", name := "isUnder", desc := "(I)Z" } : Jvm.MethodName)) ∈ lw_all := lw_g (lw_at lw_m7 49 rfl) rfl
theorem q1620 : (Jvm.Cond.selects "SpeaksInTurn$Taken" ({ cls := "SpeaksInTurn$Plain", name := "kind", desc := "()I" } : Jvm.MethodName) ({ cls := "SpeaksInTurn$Taken", name := "kind", desc := "()I" } : Jvm.MethodName)) ∈ lw_all := lw_g (lw_at lw_m7 71 rfl) rfl
theorem q1621 : (Jvm.Cond.instanceMethod ({ cls := "SpeaksInTurn$Taken", name := "kind", desc := "()I" } : Jvm.MethodName)) ∈ lw_all := lw_g (lw_at lw_m7 72 rfl) rfl
theorem q1622 : (Jvm.Cond.code ({ cls := "SpeaksInTurn$Taken", name := "kind", desc := "()I" } : Jvm.MethodName) prog_28_method_2_code (1 : Nat) (Option.some Jvm.ClassFile.FieldType.int)) ∈ lw_all := lw_g (lw_at lw_m7 73 rfl) rfl
theorem q2289 : (Jvm.Cond.selects "SpeaksInTurn$Taken" ({ cls := "SpeaksInTurn$Plain", name := "knows", desc := "(I)I" } : Jvm.MethodName) ({ cls := "SpeaksInTurn$Plain", name := "knows", desc := "(I)I" } : Jvm.MethodName)) ∈ lw_all := lw_g (lw_at lw_m10 20 rfl) rfl
theorem q2297 : (Jvm.Cond.selects "SpeaksInTurn$Taken" ({ cls := "SpeaksInTurn$Plain", name := "stops", desc := "(I)I" } : Jvm.MethodName) ({ cls := "SpeaksInTurn$Again", name := "stops", desc := "(I)I" } : Jvm.MethodName)) ∈ lw_all := lw_g (lw_at lw_m10 28 rfl) rfl
theorem q2311 : (Jvm.Cond.castable "SpeaksInTurn$Taken" "SpeaksInTurn$Plain") ∈ lw_tbl := lw_at lw_m10 42 rfl
theorem q2317 : (Jvm.Cond.castable "SpeaksInTurn$Taken" "SpeaksInTurn$Held") ∈ lw_tbl := lw_at lw_m10 48 rfl
theorem q147 : (Jvm.Cond.initialized "SpeaksInTurn$Easy") ∈ lw_all := lw_g (lw_at lw_m1 38 rfl) rfl
theorem q1242 : (Jvm.Cond.instantiable "SpeaksInTurn$Easy" (3 : Nat)) ∈ lw_all := lw_g (lw_at lw_m5 173 rfl) rfl
theorem q1244 : (Jvm.Cond.instanceMethod ({ cls := "SpeaksInTurn$Easy", name := "<init>", desc := "(LSpeaksInTurn;I)V" } : Jvm.MethodName)) ∈ lw_all := lw_g (lw_at lw_m5 175 rfl) rfl
theorem q1245 : (Jvm.Cond.code ({ cls := "SpeaksInTurn$Easy", name := "<init>", desc := "(LSpeaksInTurn;I)V" } : Jvm.MethodName) prog_8_method_1_code (3 : Nat) (Option.none : Option Jvm.ClassFile.FieldType)) ∈ lw_all := lw_g (lw_at lw_m5 176 rfl) rfl
theorem q1246 : (Jvm.Cond.methodLink "SpeaksInTurn$Easy" (7 : Nat) ({ cls := "SpeaksInTurn$Plain", name := "<init>", desc := "(LSpeaksInTurn;I)V" } : Jvm.MethodName)) ∈ lw_all := lw_g (lw_at lw_m5 177 rfl) rfl
theorem q1247 : (Jvm.Cond.fieldLink "SpeaksInTurn$Easy" (1 : Nat) "SpeaksInTurn$Easy" "this$0" "LSpeaksInTurn;") ∈ lw_all := lw_g (lw_at lw_m5 178 rfl) rfl
theorem q1248 : (Jvm.Cond.laysFinal "SpeaksInTurn$Easy" "SpeaksInTurn$Easy" "this$0" "LSpeaksInTurn;") ∈ lw_all := lw_g (lw_at lw_m5 179 rfl) rfl
theorem q1249 : (Jvm.Cond.soleField "SpeaksInTurn$Easy" "this$0") ∈ lw_all := lw_g (lw_at lw_m5 180 rfl) rfl
theorem q1250 : (Jvm.Cond.laysFinal "SpeaksInTurn$Easy" "SpeaksInTurn$Plain" "number" "I") ∈ lw_all := lw_g (lw_at lw_m5 181 rfl) rfl
theorem q1251 : (Jvm.Cond.laysFinal "SpeaksInTurn$Easy" "SpeaksInTurn$Plain" "this$0" "LSpeaksInTurn;") ∈ lw_all := lw_g (lw_at lw_m5 182 rfl) rfl
theorem q1252 : (Jvm.Cond.superclass "SpeaksInTurn$Easy" "SpeaksInTurn$Plain") ∈ lw_all := lw_g (lw_at lw_m5 183 rfl) rfl
theorem q1293 : (Jvm.Cond.castable "SpeaksInTurn$Easy" "SpeaksInTurn$Knows") ∈ lw_tbl := lw_at lw_m5 224 rfl
theorem q1294 : (Jvm.Cond.selects "SpeaksInTurn$Easy" ({ cls := "SpeaksInTurn$Knows", name := "knows", desc := "(I)I" } : Jvm.MethodName) ({ cls := "SpeaksInTurn$Easy", name := "knows", desc := "(I)I" } : Jvm.MethodName)) ∈ lw_all := lw_g (lw_at lw_m5 225 rfl) rfl
theorem q1295 : (Jvm.Cond.unhidden "SpeaksInTurn$Easy" "knows" "(I)I") ∈ lw_tbl := lw_at lw_m5 226 rfl
theorem q1296 : (Jvm.Cond.instanceMethod ({ cls := "SpeaksInTurn$Easy", name := "knows", desc := "(I)I" } : Jvm.MethodName)) ∈ lw_all := lw_g (lw_at lw_m5 227 rfl) rfl
theorem q1297 : (Jvm.Cond.publicMethod ({ cls := "SpeaksInTurn$Easy", name := "knows", desc := "(I)I" } : Jvm.MethodName)) ∈ lw_tbl := lw_at lw_m5 228 rfl
theorem q1298 : (Jvm.Cond.code ({ cls := "SpeaksInTurn$Easy", name := "knows", desc := "(I)I" } : Jvm.MethodName) prog_8_method_3_code (2 : Nat) (Option.some Jvm.ClassFile.FieldType.int)) ∈ lw_all := lw_g (lw_at lw_m5 229 rfl) rfl
theorem q1299 : (Jvm.Cond.methodLinkNest "SpeaksInTurn$Easy" (13 : Nat) ({ cls := "SpeaksInTurn", name := "ran", desc := "(I)V" } : Jvm.MethodName) "SpeaksInTurn") ∈ lw_tbl := lw_at lw_m5 230 rfl
theorem q1300 : (Jvm.Cond.methodLink "SpeaksInTurn$Easy" (19 : Nat) ({ cls := "SpeaksInTurn$Plain", name := "knows", desc := "(I)I" } : Jvm.MethodName)) ∈ lw_all := lw_g (lw_at lw_m5 231 rfl) rfl
theorem q1347 : (Jvm.Cond.selects "SpeaksInTurn$Easy" ({ cls := "SpeaksInTurn$Plain", name := "speaks", desc := "(I)I" } : Jvm.MethodName) ({ cls := "SpeaksInTurn$Plain", name := "speaks", desc := "(I)I" } : Jvm.MethodName)) ∈ lw_all := lw_g (lw_at lw_m6 38 rfl) rfl
theorem q1382 : (Jvm.Cond.castable "SpeaksInTurn$Easy" "SpeaksInTurn$Tells") ∈ lw_tbl := lw_at lw_m6 73 rfl
theorem q1383 : (Jvm.Cond.selects "SpeaksInTurn$Easy" ({ cls := "SpeaksInTurn$Tells", name := "tells", desc := "(I)I" } : Jvm.MethodName) ({ cls := "SpeaksInTurn$Plain", name := "tells", desc := "(I)I" } : Jvm.MethodName)) ∈ lw_all := lw_g (lw_at lw_m6 74 rfl) rfl
theorem q1384 : (Jvm.Cond.unhidden "SpeaksInTurn$Easy" "tells" "(I)I") ∈ lw_tbl := lw_at lw_m6 75 rfl
theorem q1591 : (Jvm.Cond.selects "SpeaksInTurn$Easy" ({ cls := "SpeaksInTurn$Plain", name := "isUnder", desc := "(I)Z" } : Jvm.MethodName) ({ cls := "SpeaksInTurn$Plain", name := "isUnder", desc := "(I)Z" } : Jvm.MethodName)) ∈ lw_all := lw_g (lw_at lw_m7 42 rfl) rfl
theorem q1608 : (Jvm.Cond.selects "SpeaksInTurn$Easy" ({ cls := "SpeaksInTurn$Plain", name := "kind", desc := "()I" } : Jvm.MethodName) ({ cls := "SpeaksInTurn$Easy", name := "kind", desc := "()I" } : Jvm.MethodName)) ∈ lw_all := lw_g (lw_at lw_m7 59 rfl) rfl
theorem q1609 : (Jvm.Cond.instanceMethod ({ cls := "SpeaksInTurn$Easy", name := "kind", desc := "()I" } : Jvm.MethodName)) ∈ lw_all := lw_g (lw_at lw_m7 60 rfl) rfl
theorem q1610 : (Jvm.Cond.code ({ cls := "SpeaksInTurn$Easy", name := "kind", desc := "()I" } : Jvm.MethodName) prog_8_method_2_code (1 : Nat) (Option.some Jvm.ClassFile.FieldType.int)) ∈ lw_all := lw_g (lw_at lw_m7 61 rfl) rfl
theorem q2284 : (Jvm.Cond.selects "SpeaksInTurn$Easy" ({ cls := "SpeaksInTurn$Plain", name := "knows", desc := "(I)I" } : Jvm.MethodName) ({ cls := "SpeaksInTurn$Easy", name := "knows", desc := "(I)I" } : Jvm.MethodName)) ∈ lw_all := lw_g (lw_at lw_m10 15 rfl) rfl
theorem q2292 : (Jvm.Cond.selects "SpeaksInTurn$Easy" ({ cls := "SpeaksInTurn$Plain", name := "stops", desc := "(I)I" } : Jvm.MethodName) ({ cls := "SpeaksInTurn$Plain", name := "stops", desc := "(I)I" } : Jvm.MethodName)) ∈ lw_all := lw_g (lw_at lw_m10 23 rfl) rfl
theorem q2307 : (Jvm.Cond.castable "SpeaksInTurn$Easy" "SpeaksInTurn$Plain") ∈ lw_tbl := lw_at lw_m10 38 rfl
theorem q2318 : (Jvm.Cond.castable "SpeaksInTurn$Easy" "SpeaksInTurn$Held") ∈ lw_tbl := lw_at lw_m10 49 rfl
theorem q148 : (Jvm.Cond.initialized "SpeaksInTurn$Unheard") ∈ lw_all := lw_g (lw_at lw_m1 39 rfl) rfl
theorem q1254 : (Jvm.Cond.instantiable "SpeaksInTurn$Unheard" (4 : Nat)) ∈ lw_all := lw_g (lw_at lw_m5 185 rfl) rfl
theorem q1256 : (Jvm.Cond.instanceMethod ({ cls := "SpeaksInTurn$Unheard", name := "<init>", desc := "(LSpeaksInTurn;I)V" } : Jvm.MethodName)) ∈ lw_all := lw_g (lw_at lw_m5 187 rfl) rfl
theorem q1257 : (Jvm.Cond.code ({ cls := "SpeaksInTurn$Unheard", name := "<init>", desc := "(LSpeaksInTurn;I)V" } : Jvm.MethodName) prog_32_method_1_code (3 : Nat) (Option.none : Option Jvm.ClassFile.FieldType)) ∈ lw_all := lw_g (lw_at lw_m5 188 rfl) rfl
theorem q1258 : (Jvm.Cond.methodLink "SpeaksInTurn$Unheard" (7 : Nat) ({ cls := "SpeaksInTurn$Stopped", name := "<init>", desc := "(LSpeaksInTurn;I)V" } : Jvm.MethodName)) ∈ lw_all := lw_g (lw_at lw_m5 189 rfl) rfl
theorem q1259 : (Jvm.Cond.fieldLink "SpeaksInTurn$Unheard" (1 : Nat) "SpeaksInTurn$Unheard" "this$0" "LSpeaksInTurn;") ∈ lw_all := lw_g (lw_at lw_m5 190 rfl) rfl
theorem q1260 : (Jvm.Cond.laysFinal "SpeaksInTurn$Unheard" "SpeaksInTurn$Unheard" "this$0" "LSpeaksInTurn;") ∈ lw_all := lw_g (lw_at lw_m5 191 rfl) rfl
theorem q1261 : (Jvm.Cond.soleField "SpeaksInTurn$Unheard" "this$0") ∈ lw_all := lw_g (lw_at lw_m5 192 rfl) rfl
theorem q1262 : (Jvm.Cond.laysFinal "SpeaksInTurn$Unheard" "SpeaksInTurn$Stopped" "this$0" "LSpeaksInTurn;") ∈ lw_all := lw_g (lw_at lw_m5 193 rfl) rfl
theorem q1263 : (Jvm.Cond.laysFinal "SpeaksInTurn$Unheard" "SpeaksInTurn$Plain" "number" "I") ∈ lw_all := lw_g (lw_at lw_m5 194 rfl) rfl
theorem q1264 : (Jvm.Cond.laysFinal "SpeaksInTurn$Unheard" "SpeaksInTurn$Plain" "this$0" "LSpeaksInTurn;") ∈ lw_all := lw_g (lw_at lw_m5 195 rfl) rfl
theorem q1265 : (Jvm.Cond.superclass "SpeaksInTurn$Unheard" "SpeaksInTurn$Stopped") ∈ lw_all := lw_g (lw_at lw_m5 196 rfl) rfl
theorem q1321 : (Jvm.Cond.castable "SpeaksInTurn$Unheard" "SpeaksInTurn$Knows") ∈ lw_tbl := lw_at lw_m6 12 rfl
theorem q1322 : (Jvm.Cond.selects "SpeaksInTurn$Unheard" ({ cls := "SpeaksInTurn$Knows", name := "knows", desc := "(I)I" } : Jvm.MethodName) ({ cls := "SpeaksInTurn$Plain", name := "knows", desc := "(I)I" } : Jvm.MethodName)) ∈ lw_all := lw_g (lw_at lw_m6 13 rfl) rfl
theorem q1323 : (Jvm.Cond.unhidden "SpeaksInTurn$Unheard" "knows" "(I)I") ∈ lw_tbl := lw_at lw_m6 14 rfl
theorem q1352 : (Jvm.Cond.selects "SpeaksInTurn$Unheard" ({ cls := "SpeaksInTurn$Plain", name := "speaks", desc := "(I)I" } : Jvm.MethodName) ({ cls := "SpeaksInTurn$Unheard", name := "speaks", desc := "(I)I" } : Jvm.MethodName)) ∈ lw_all := lw_g (lw_at lw_m6 43 rfl) rfl
theorem q1353 : (Jvm.Cond.instanceMethod ({ cls := "SpeaksInTurn$Unheard", name := "speaks", desc := "(I)I" } : Jvm.MethodName)) ∈ lw_all := lw_g (lw_at lw_m6 44 rfl) rfl
theorem q1354 : (Jvm.Cond.code ({ cls := "SpeaksInTurn$Unheard", name := "speaks", desc := "(I)I" } : Jvm.MethodName) prog_32_method_3_code (3 : Nat) (Option.some Jvm.ClassFile.FieldType.int)) ∈ lw_all := lw_g (lw_at lw_m6 45 rfl) rfl
theorem q1355 : (Jvm.Cond.methodLinkNest "SpeaksInTurn$Unheard" (13 : Nat) ({ cls := "SpeaksInTurn", name := "ran", desc := "(I)V" } : Jvm.MethodName) "SpeaksInTurn") ∈ lw_tbl := lw_at lw_m6 46 rfl
theorem q1356 : (Jvm.Cond.methodLink "SpeaksInTurn$Unheard" (19 : Nat) ({ cls := "SpeaksInTurn$Stopped", name := "speaks", desc := "(I)I" } : Jvm.MethodName)) ∈ lw_all := lw_g (lw_at lw_m6 47 rfl) rfl
theorem q1359 : (Jvm.Cond.methodLink "SpeaksInTurn$Unheard" (23 : Nat) ({ cls := "SpeaksInTurn$Unheard", name := "stops", desc := "(I)I" } : Jvm.MethodName)) ∈ lw_all := lw_g (lw_at lw_m6 50 rfl) rfl
theorem q1360 : (Jvm.Cond.sameMethod "SpeaksInTurn$Unheard" "SpeaksInTurn$Stopped" "stops" "(I)I") ∈ lw_all := lw_g (lw_at lw_m6 51 rfl) rfl
theorem q1362 : (Jvm.Cond.selects "SpeaksInTurn$Unheard" ({ cls := "SpeaksInTurn$Unheard", name := "stops", desc := "(I)I" } : Jvm.MethodName) ({ cls := "SpeaksInTurn$Stopped", name := "stops", desc := "(I)I" } : Jvm.MethodName)) ∈ lw_all := lw_g (lw_at lw_m6 53 rfl) rfl
theorem q1373 : (Jvm.Cond.selects "SpeaksInTurn$Unheard" ({ cls := "SpeaksInTurn$Stopped", name := "knows", desc := "(I)I" } : Jvm.MethodName) ({ cls := "SpeaksInTurn$Plain", name := "knows", desc := "(I)I" } : Jvm.MethodName)) ∈ lw_all := lw_g (lw_at lw_m6 64 rfl) rfl
theorem q1407 : (Jvm.Cond.castable "SpeaksInTurn$Unheard" "SpeaksInTurn$Tells") ∈ lw_tbl := lw_at lw_m6 98 rfl
theorem q1408 : (Jvm.Cond.selects "SpeaksInTurn$Unheard" ({ cls := "SpeaksInTurn$Tells", name := "tells", desc := "(I)I" } : Jvm.MethodName) ({ cls := "SpeaksInTurn$Unheard", name := "tells", desc := "(I)I" } : Jvm.MethodName)) ∈ lw_all := lw_g (lw_at lw_m6 99 rfl) rfl
theorem q1409 : (Jvm.Cond.unhidden "SpeaksInTurn$Unheard" "tells" "(I)I") ∈ lw_tbl := lw_at lw_m6 100 rfl
theorem q1410 : (Jvm.Cond.instanceMethod ({ cls := "SpeaksInTurn$Unheard", name := "tells", desc := "(I)I" } : Jvm.MethodName)) ∈ lw_all := lw_g (lw_at lw_m6 101 rfl) rfl
theorem q1411 : (Jvm.Cond.publicMethod ({ cls := "SpeaksInTurn$Unheard", name := "tells", desc := "(I)I" } : Jvm.MethodName)) ∈ lw_tbl := lw_at lw_m6 102 rfl
theorem q1412 : (Jvm.Cond.code ({ cls := "SpeaksInTurn$Unheard", name := "tells", desc := "(I)I" } : Jvm.MethodName) prog_32_method_4_code (2 : Nat) (Option.some Jvm.ClassFile.FieldType.int)) ∈ lw_all := lw_g (lw_at lw_m6 103 rfl) rfl
theorem q1413 : (Jvm.Cond.methodLink "SpeaksInTurn$Unheard" (26 : Nat) ({ cls := "SpeaksInTurn$Stopped", name := "tells", desc := "(I)I" } : Jvm.MethodName)) ∈ lw_all := lw_g (lw_at lw_m6 104 rfl) rfl
theorem q1599 : (Jvm.Cond.selects "SpeaksInTurn$Unheard" ({ cls := "SpeaksInTurn$Plain", name := "isUnder", desc := "(I)Z" } : Jvm.MethodName) ({ cls := "SpeaksInTurn$Stopped", name := "isUnder", desc := "(I)Z" } : Jvm.MethodName)) ∈ lw_all := lw_g (lw_at lw_m7 50 rfl) rfl
theorem q1623 : (Jvm.Cond.selects "SpeaksInTurn$Unheard" ({ cls := "SpeaksInTurn$Plain", name := "kind", desc := "()I" } : Jvm.MethodName) ({ cls := "SpeaksInTurn$Unheard", name := "kind", desc := "()I" } : Jvm.MethodName)) ∈ lw_all := lw_g (lw_at lw_m7 74 rfl) rfl
theorem q1624 : (Jvm.Cond.instanceMethod ({ cls := "SpeaksInTurn$Unheard", name := "kind", desc := "()I" } : Jvm.MethodName)) ∈ lw_all := lw_g (lw_at lw_m7 75 rfl) rfl
theorem q1625 : (Jvm.Cond.code ({ cls := "SpeaksInTurn$Unheard", name := "kind", desc := "()I" } : Jvm.MethodName) prog_32_method_2_code (1 : Nat) (Option.some Jvm.ClassFile.FieldType.int)) ∈ lw_all := lw_g (lw_at lw_m7 76 rfl) rfl
theorem q2290 : (Jvm.Cond.selects "SpeaksInTurn$Unheard" ({ cls := "SpeaksInTurn$Plain", name := "knows", desc := "(I)I" } : Jvm.MethodName) ({ cls := "SpeaksInTurn$Plain", name := "knows", desc := "(I)I" } : Jvm.MethodName)) ∈ lw_all := lw_g (lw_at lw_m10 21 rfl) rfl
theorem q2298 : (Jvm.Cond.selects "SpeaksInTurn$Unheard" ({ cls := "SpeaksInTurn$Plain", name := "stops", desc := "(I)I" } : Jvm.MethodName) ({ cls := "SpeaksInTurn$Stopped", name := "stops", desc := "(I)I" } : Jvm.MethodName)) ∈ lw_all := lw_g (lw_at lw_m10 29 rfl) rfl
theorem q2312 : (Jvm.Cond.castable "SpeaksInTurn$Unheard" "SpeaksInTurn$Plain") ∈ lw_tbl := lw_at lw_m10 43 rfl
theorem q2319 : (Jvm.Cond.castable "SpeaksInTurn$Unheard" "SpeaksInTurn$Held") ∈ lw_tbl := lw_at lw_m10 50 rfl
theorem q150 : (Jvm.Cond.initialized "SpeaksInTurn$Row") ∈ lw_all := lw_g (lw_at lw_m1 41 rfl) rfl
theorem q1451 : (Jvm.Cond.instanceMethod ({ cls := "SpeaksInTurn$Row", name := "<init>", desc := "()V" } : Jvm.MethodName)) ∈ lw_all := lw_g (lw_at lw_m6 142 rfl) rfl
theorem q1452 : (Jvm.Cond.code ({ cls := "SpeaksInTurn$Row", name := "<init>", desc := "()V" } : Jvm.MethodName) prog_24_method_1_code (1 : Nat) (Option.none : Option Jvm.ClassFile.FieldType)) ∈ lw_all := lw_g (lw_at lw_m6 143 rfl) rfl
theorem q1453 : (Jvm.Cond.methodLinkNest "SpeaksInTurn$Row" (1 : Nat) ({ cls := "SpeaksInTurn$Held", name := "<init>", desc := "()V" } : Jvm.MethodName) "SpeaksInTurn") ∈ lw_tbl := lw_at lw_m6 144 rfl
theorem q1506 : (Jvm.Cond.declares ({ cls := "SpeaksInTurn$Row", name := "put", desc := "(IJ)Z" } : Jvm.MethodName)) ∈ lw_tbl := lw_at lw_m6 197 rfl
theorem q1507 : (Jvm.Cond.sameMethod "SpeaksInTurn$Row" "SpeaksInTurn$Row" "put" "(IJ)Z") ∈ lw_all := lw_g (lw_at lw_m6 198 rfl) rfl
theorem q1529 : (Jvm.Cond.declares ({ cls := "SpeaksInTurn$Row", name := "at", desc := "(I)J" } : Jvm.MethodName)) ∈ lw_tbl := lw_at lw_m6 220 rfl
theorem q1530 : (Jvm.Cond.sameMethod "SpeaksInTurn$Row" "SpeaksInTurn$Row" "at" "(I)J") ∈ lw_all := lw_g (lw_at lw_m6 221 rfl) rfl
theorem q1547 : (Jvm.Cond.declares ({ cls := "SpeaksInTurn$Row", name := "copy", desc := "(ILSpeaksInTurn$Row;II)V" } : Jvm.MethodName)) ∈ lw_tbl := lw_at lw_m6 238 rfl
theorem q1548 : (Jvm.Cond.sameMethod "SpeaksInTurn$Row" "SpeaksInTurn$Row" "copy" "(ILSpeaksInTurn$Row;II)V") ∈ lw_all := lw_g (lw_at lw_m6 239 rfl) rfl
theorem q151 : (Jvm.Cond.initialized "SpeaksInTurn$ByteRow") ∈ lw_all := lw_g (lw_at lw_m1 42 rfl) rfl
theorem q1143 : (Jvm.Cond.instanceMethod ({ cls := "SpeaksInTurn$ByteRow", name := "size", desc := "()I" } : Jvm.MethodName)) ∈ lw_all := lw_g (lw_at lw_m5 74 rfl) rfl
theorem q1144 : (Jvm.Cond.selects "SpeaksInTurn$ByteRow" ({ cls := "SpeaksInTurn$ByteRow", name := "size", desc := "()I" } : Jvm.MethodName) ({ cls := "SpeaksInTurn$ByteRow", name := "size", desc := "()I" } : Jvm.MethodName)) ∈ lw_all := lw_g (lw_at lw_m5 75 rfl) rfl
theorem q1145 : (Jvm.Cond.code ({ cls := "SpeaksInTurn$ByteRow", name := "size", desc := "()I" } : Jvm.MethodName) prog_4_method_3_code (1 : Nat) (Option.some Jvm.ClassFile.FieldType.int)) ∈ lw_all := lw_g (lw_at lw_m5 76 rfl) rfl
theorem q1151 : (Jvm.Cond.instanceMethod ({ cls := "SpeaksInTurn$ByteRow", name := "at", desc := "(I)J" } : Jvm.MethodName)) ∈ lw_all := lw_g (lw_at lw_m5 82 rfl) rfl
theorem q1152 : (Jvm.Cond.selects "SpeaksInTurn$ByteRow" ({ cls := "SpeaksInTurn$ByteRow", name := "at", desc := "(I)J" } : Jvm.MethodName) ({ cls := "SpeaksInTurn$ByteRow", name := "at", desc := "(I)J" } : Jvm.MethodName)) ∈ lw_all := lw_g (lw_at lw_m5 83 rfl) rfl
theorem q1153 : (Jvm.Cond.code ({ cls := "SpeaksInTurn$ByteRow", name := "at", desc := "(I)J" } : Jvm.MethodName) prog_4_method_4_code (2 : Nat) (Option.some Jvm.ClassFile.FieldType.long)) ∈ lw_all := lw_g (lw_at lw_m5 84 rfl) rfl
theorem q1446 : (Jvm.Cond.instantiable "SpeaksInTurn$ByteRow" (1 : Nat)) ∈ lw_all := lw_g (lw_at lw_m6 137 rfl) rfl
theorem q1448 : (Jvm.Cond.instanceMethod ({ cls := "SpeaksInTurn$ByteRow", name := "<init>", desc := "(I)V" } : Jvm.MethodName)) ∈ lw_all := lw_g (lw_at lw_m6 139 rfl) rfl
theorem q1449 : (Jvm.Cond.code ({ cls := "SpeaksInTurn$ByteRow", name := "<init>", desc := "(I)V" } : Jvm.MethodName) prog_4_method_1_code (2 : Nat) (Option.none : Option Jvm.ClassFile.FieldType)) ∈ lw_all := lw_g (lw_at lw_m6 140 rfl) rfl
theorem q1450 : (Jvm.Cond.methodLinkNest "SpeaksInTurn$ByteRow" (1 : Nat) ({ cls := "SpeaksInTurn$Row", name := "<init>", desc := "()V" } : Jvm.MethodName) "SpeaksInTurn") ∈ lw_tbl := lw_at lw_m6 141 rfl
theorem q1454 : (Jvm.Cond.fieldLink "SpeaksInTurn$ByteRow" (7 : Nat) "SpeaksInTurn$ByteRow" "items" "[B") ∈ lw_all := lw_g (lw_at lw_m6 145 rfl) rfl
theorem q1455 : (Jvm.Cond.laysFinal "SpeaksInTurn$ByteRow" "SpeaksInTurn$ByteRow" "items" "[B") ∈ lw_all := lw_g (lw_at lw_m6 146 rfl) rfl
theorem q1456 : (Jvm.Cond.soleField "SpeaksInTurn$ByteRow" "items") ∈ lw_all := lw_g (lw_at lw_m6 147 rfl) rfl
theorem q1457 : (Jvm.Cond.superclass "SpeaksInTurn$ByteRow" "SpeaksInTurn$Row") ∈ lw_all := lw_g (lw_at lw_m6 148 rfl) rfl
theorem q1511 : (Jvm.Cond.selects "SpeaksInTurn$ByteRow" ({ cls := "SpeaksInTurn$Row", name := "put", desc := "(IJ)Z" } : Jvm.MethodName) ({ cls := "SpeaksInTurn$ByteRow", name := "put", desc := "(IJ)Z" } : Jvm.MethodName)) ∈ lw_all := lw_g (lw_at lw_m6 202 rfl) rfl
theorem q1512 : (Jvm.Cond.instanceMethod ({ cls := "SpeaksInTurn$ByteRow", name := "put", desc := "(IJ)Z" } : Jvm.MethodName)) ∈ lw_all := lw_g (lw_at lw_m6 203 rfl) rfl
theorem q1513 : (Jvm.Cond.code ({ cls := "SpeaksInTurn$ByteRow", name := "put", desc := "(IJ)Z" } : Jvm.MethodName) prog_4_method_5_code (4 : Nat) (Option.some Jvm.ClassFile.FieldType.boolean)) ∈ lw_all := lw_g (lw_at lw_m6 204 rfl) rfl
theorem q1534 : (Jvm.Cond.selects "SpeaksInTurn$ByteRow" ({ cls := "SpeaksInTurn$Row", name := "at", desc := "(I)J" } : Jvm.MethodName) ({ cls := "SpeaksInTurn$ByteRow", name := "at", desc := "(I)J" } : Jvm.MethodName)) ∈ lw_all := lw_g (lw_at lw_m6 225 rfl) rfl
theorem q1556 : (Jvm.Cond.selects "SpeaksInTurn$ByteRow" ({ cls := "SpeaksInTurn$Row", name := "copy", desc := "(ILSpeaksInTurn$Row;II)V" } : Jvm.MethodName) ({ cls := "SpeaksInTurn$ByteRow", name := "copy", desc := "(ILSpeaksInTurn$Row;II)V" } : Jvm.MethodName)) ∈ lw_all := lw_g (lw_at lw_m7 7 rfl) rfl
theorem q1557 : (Jvm.Cond.instanceMethod ({ cls := "SpeaksInTurn$ByteRow", name := "copy", desc := "(ILSpeaksInTurn$Row;II)V" } : Jvm.MethodName)) ∈ lw_all := lw_g (lw_at lw_m7 8 rfl) rfl
theorem q1558 : (Jvm.Cond.code ({ cls := "SpeaksInTurn$ByteRow", name := "copy", desc := "(ILSpeaksInTurn$Row;II)V" } : Jvm.MethodName) prog_4_method_6_code (5 : Nat) (Option.none : Option Jvm.ClassFile.FieldType)) ∈ lw_all := lw_g (lw_at lw_m7 9 rfl) rfl
theorem q1559 : (Jvm.Cond.classLink "SpeaksInTurn$ByteRow" (8 : Nat) "SpeaksInTurn$ByteRow") ∈ lw_all := lw_g (lw_at lw_m7 10 rfl) rfl
theorem q1560 : (Jvm.Cond.methodLink "SpeaksInTurn$ByteRow" (13 : Nat) ({ cls := "java/lang/System", name := "arraycopy", desc := "(Ljava/lang/Object;ILjava/lang/Object;II)V" } : Jvm.MethodName)) ∈ lw_all := lw_g (lw_at lw_m7 11 rfl) rfl
theorem q2302 : (Jvm.Cond.castable "SpeaksInTurn$ByteRow" "SpeaksInTurn$Row") ∈ lw_tbl := lw_at lw_m10 33 rfl
theorem q2321 : (Jvm.Cond.castable "SpeaksInTurn$ByteRow" "SpeaksInTurn$Held") ∈ lw_tbl := lw_at lw_m10 52 rfl
theorem q152 : (Jvm.Cond.initialized "SpeaksInTurn$ShortRow") ∈ lw_all := lw_g (lw_at lw_m1 43 rfl) rfl
theorem q617 : (Jvm.Cond.instanceMethod ({ cls := "SpeaksInTurn$ShortRow", name := "at", desc := "(I)J" } : Jvm.MethodName)) ∈ lw_all := lw_g (lw_at lw_m3 28 rfl) rfl
theorem q618 : (Jvm.Cond.selects "SpeaksInTurn$ShortRow" ({ cls := "SpeaksInTurn$ShortRow", name := "at", desc := "(I)J" } : Jvm.MethodName) ({ cls := "SpeaksInTurn$ShortRow", name := "at", desc := "(I)J" } : Jvm.MethodName)) ∈ lw_all := lw_g (lw_at lw_m3 29 rfl) rfl
theorem q619 : (Jvm.Cond.code ({ cls := "SpeaksInTurn$ShortRow", name := "at", desc := "(I)J" } : Jvm.MethodName) prog_26_method_4_code (2 : Nat) (Option.some Jvm.ClassFile.FieldType.long)) ∈ lw_all := lw_g (lw_at lw_m3 30 rfl) rfl
theorem q1458 : (Jvm.Cond.instantiable "SpeaksInTurn$ShortRow" (1 : Nat)) ∈ lw_all := lw_g (lw_at lw_m6 149 rfl) rfl
theorem q1460 : (Jvm.Cond.instanceMethod ({ cls := "SpeaksInTurn$ShortRow", name := "<init>", desc := "(I)V" } : Jvm.MethodName)) ∈ lw_all := lw_g (lw_at lw_m6 151 rfl) rfl
theorem q1461 : (Jvm.Cond.code ({ cls := "SpeaksInTurn$ShortRow", name := "<init>", desc := "(I)V" } : Jvm.MethodName) prog_26_method_1_code (2 : Nat) (Option.none : Option Jvm.ClassFile.FieldType)) ∈ lw_all := lw_g (lw_at lw_m6 152 rfl) rfl
theorem q1462 : (Jvm.Cond.methodLinkNest "SpeaksInTurn$ShortRow" (1 : Nat) ({ cls := "SpeaksInTurn$Row", name := "<init>", desc := "()V" } : Jvm.MethodName) "SpeaksInTurn") ∈ lw_tbl := lw_at lw_m6 153 rfl
theorem q1463 : (Jvm.Cond.fieldLink "SpeaksInTurn$ShortRow" (7 : Nat) "SpeaksInTurn$ShortRow" "items" "[S") ∈ lw_all := lw_g (lw_at lw_m6 154 rfl) rfl
theorem q1464 : (Jvm.Cond.laysFinal "SpeaksInTurn$ShortRow" "SpeaksInTurn$ShortRow" "items" "[S") ∈ lw_all := lw_g (lw_at lw_m6 155 rfl) rfl
theorem q1465 : (Jvm.Cond.soleField "SpeaksInTurn$ShortRow" "items") ∈ lw_all := lw_g (lw_at lw_m6 156 rfl) rfl
theorem q1466 : (Jvm.Cond.superclass "SpeaksInTurn$ShortRow" "SpeaksInTurn$Row") ∈ lw_all := lw_g (lw_at lw_m6 157 rfl) rfl
theorem q1520 : (Jvm.Cond.selects "SpeaksInTurn$ShortRow" ({ cls := "SpeaksInTurn$Row", name := "put", desc := "(IJ)Z" } : Jvm.MethodName) ({ cls := "SpeaksInTurn$ShortRow", name := "put", desc := "(IJ)Z" } : Jvm.MethodName)) ∈ lw_all := lw_g (lw_at lw_m6 211 rfl) rfl
theorem q1521 : (Jvm.Cond.instanceMethod ({ cls := "SpeaksInTurn$ShortRow", name := "put", desc := "(IJ)Z" } : Jvm.MethodName)) ∈ lw_all := lw_g (lw_at lw_m6 212 rfl) rfl
theorem q1522 : (Jvm.Cond.code ({ cls := "SpeaksInTurn$ShortRow", name := "put", desc := "(IJ)Z" } : Jvm.MethodName) prog_26_method_5_code (4 : Nat) (Option.some Jvm.ClassFile.FieldType.boolean)) ∈ lw_all := lw_g (lw_at lw_m6 213 rfl) rfl
theorem q1541 : (Jvm.Cond.selects "SpeaksInTurn$ShortRow" ({ cls := "SpeaksInTurn$Row", name := "at", desc := "(I)J" } : Jvm.MethodName) ({ cls := "SpeaksInTurn$ShortRow", name := "at", desc := "(I)J" } : Jvm.MethodName)) ∈ lw_all := lw_g (lw_at lw_m6 232 rfl) rfl
theorem q1571 : (Jvm.Cond.selects "SpeaksInTurn$ShortRow" ({ cls := "SpeaksInTurn$Row", name := "copy", desc := "(ILSpeaksInTurn$Row;II)V" } : Jvm.MethodName) ({ cls := "SpeaksInTurn$ShortRow", name := "copy", desc := "(ILSpeaksInTurn$Row;II)V" } : Jvm.MethodName)) ∈ lw_all := lw_g (lw_at lw_m7 22 rfl) rfl
theorem q1572 : (Jvm.Cond.instanceMethod ({ cls := "SpeaksInTurn$ShortRow", name := "copy", desc := "(ILSpeaksInTurn$Row;II)V" } : Jvm.MethodName)) ∈ lw_all := lw_g (lw_at lw_m7 23 rfl) rfl
theorem q1573 : (Jvm.Cond.code ({ cls := "SpeaksInTurn$ShortRow", name := "copy", desc := "(ILSpeaksInTurn$Row;II)V" } : Jvm.MethodName) prog_26_method_6_code (5 : Nat) (Option.none : Option Jvm.ClassFile.FieldType)) ∈ lw_all := lw_g (lw_at lw_m7 24 rfl) rfl
theorem q1574 : (Jvm.Cond.classLink "SpeaksInTurn$ShortRow" (8 : Nat) "SpeaksInTurn$ShortRow") ∈ lw_all := lw_g (lw_at lw_m7 25 rfl) rfl
theorem q1575 : (Jvm.Cond.methodLink "SpeaksInTurn$ShortRow" (13 : Nat) ({ cls := "java/lang/System", name := "arraycopy", desc := "(Ljava/lang/Object;ILjava/lang/Object;II)V" } : Jvm.MethodName)) ∈ lw_all := lw_g (lw_at lw_m7 26 rfl) rfl
theorem q2305 : (Jvm.Cond.castable "SpeaksInTurn$ShortRow" "SpeaksInTurn$Row") ∈ lw_tbl := lw_at lw_m10 36 rfl
theorem q2322 : (Jvm.Cond.castable "SpeaksInTurn$ShortRow" "SpeaksInTurn$Held") ∈ lw_tbl := lw_at lw_m10 53 rfl
theorem q153 : (Jvm.Cond.initialized "SpeaksInTurn$IntRow") ∈ lw_all := lw_g (lw_at lw_m1 44 rfl) rfl
theorem q1469 : (Jvm.Cond.instantiable "SpeaksInTurn$IntRow" (1 : Nat)) ∈ lw_all := lw_g (lw_at lw_m6 160 rfl) rfl
theorem q1471 : (Jvm.Cond.instanceMethod ({ cls := "SpeaksInTurn$IntRow", name := "<init>", desc := "(I)V" } : Jvm.MethodName)) ∈ lw_all := lw_g (lw_at lw_m6 162 rfl) rfl
theorem q1472 : (Jvm.Cond.code ({ cls := "SpeaksInTurn$IntRow", name := "<init>", desc := "(I)V" } : Jvm.MethodName) prog_11_method_1_code (2 : Nat) (Option.none : Option Jvm.ClassFile.FieldType)) ∈ lw_all := lw_g (lw_at lw_m6 163 rfl) rfl
theorem q1473 : (Jvm.Cond.methodLinkNest "SpeaksInTurn$IntRow" (1 : Nat) ({ cls := "SpeaksInTurn$Row", name := "<init>", desc := "()V" } : Jvm.MethodName) "SpeaksInTurn") ∈ lw_tbl := lw_at lw_m6 164 rfl
theorem q1474 : (Jvm.Cond.fieldLink "SpeaksInTurn$IntRow" (7 : Nat) "SpeaksInTurn$IntRow" "items" "[I") ∈ lw_all := lw_g (lw_at lw_m6 165 rfl) rfl
theorem q1475 : (Jvm.Cond.laysFinal "SpeaksInTurn$IntRow" "SpeaksInTurn$IntRow" "items" "[I") ∈ lw_all := lw_g (lw_at lw_m6 166 rfl) rfl
theorem q1476 : (Jvm.Cond.soleField "SpeaksInTurn$IntRow" "items") ∈ lw_all := lw_g (lw_at lw_m6 167 rfl) rfl
theorem q1477 : (Jvm.Cond.superclass "SpeaksInTurn$IntRow" "SpeaksInTurn$Row") ∈ lw_all := lw_g (lw_at lw_m6 168 rfl) rfl
theorem q1514 : (Jvm.Cond.selects "SpeaksInTurn$IntRow" ({ cls := "SpeaksInTurn$Row", name := "put", desc := "(IJ)Z" } : Jvm.MethodName) ({ cls := "SpeaksInTurn$IntRow", name := "put", desc := "(IJ)Z" } : Jvm.MethodName)) ∈ lw_all := lw_g (lw_at lw_m6 205 rfl) rfl
theorem q1515 : (Jvm.Cond.instanceMethod ({ cls := "SpeaksInTurn$IntRow", name := "put", desc := "(IJ)Z" } : Jvm.MethodName)) ∈ lw_all := lw_g (lw_at lw_m6 206 rfl) rfl
theorem q1516 : (Jvm.Cond.code ({ cls := "SpeaksInTurn$IntRow", name := "put", desc := "(IJ)Z" } : Jvm.MethodName) prog_11_method_5_code (4 : Nat) (Option.some Jvm.ClassFile.FieldType.boolean)) ∈ lw_all := lw_g (lw_at lw_m6 207 rfl) rfl
theorem q1535 : (Jvm.Cond.selects "SpeaksInTurn$IntRow" ({ cls := "SpeaksInTurn$Row", name := "at", desc := "(I)J" } : Jvm.MethodName) ({ cls := "SpeaksInTurn$IntRow", name := "at", desc := "(I)J" } : Jvm.MethodName)) ∈ lw_all := lw_g (lw_at lw_m6 226 rfl) rfl
theorem q1536 : (Jvm.Cond.instanceMethod ({ cls := "SpeaksInTurn$IntRow", name := "at", desc := "(I)J" } : Jvm.MethodName)) ∈ lw_all := lw_g (lw_at lw_m6 227 rfl) rfl
theorem q1537 : (Jvm.Cond.code ({ cls := "SpeaksInTurn$IntRow", name := "at", desc := "(I)J" } : Jvm.MethodName) prog_11_method_4_code (2 : Nat) (Option.some Jvm.ClassFile.FieldType.long)) ∈ lw_all := lw_g (lw_at lw_m6 228 rfl) rfl
theorem q1561 : (Jvm.Cond.selects "SpeaksInTurn$IntRow" ({ cls := "SpeaksInTurn$Row", name := "copy", desc := "(ILSpeaksInTurn$Row;II)V" } : Jvm.MethodName) ({ cls := "SpeaksInTurn$IntRow", name := "copy", desc := "(ILSpeaksInTurn$Row;II)V" } : Jvm.MethodName)) ∈ lw_all := lw_g (lw_at lw_m7 12 rfl) rfl
theorem q1562 : (Jvm.Cond.instanceMethod ({ cls := "SpeaksInTurn$IntRow", name := "copy", desc := "(ILSpeaksInTurn$Row;II)V" } : Jvm.MethodName)) ∈ lw_all := lw_g (lw_at lw_m7 13 rfl) rfl
theorem q1563 : (Jvm.Cond.code ({ cls := "SpeaksInTurn$IntRow", name := "copy", desc := "(ILSpeaksInTurn$Row;II)V" } : Jvm.MethodName) prog_11_method_6_code (5 : Nat) (Option.none : Option Jvm.ClassFile.FieldType)) ∈ lw_all := lw_g (lw_at lw_m7 14 rfl) rfl
theorem q1564 : (Jvm.Cond.classLink "SpeaksInTurn$IntRow" (8 : Nat) "SpeaksInTurn$IntRow") ∈ lw_all := lw_g (lw_at lw_m7 15 rfl) rfl
theorem q1565 : (Jvm.Cond.methodLink "SpeaksInTurn$IntRow" (13 : Nat) ({ cls := "java/lang/System", name := "arraycopy", desc := "(Ljava/lang/Object;ILjava/lang/Object;II)V" } : Jvm.MethodName)) ∈ lw_all := lw_g (lw_at lw_m7 16 rfl) rfl
theorem q2303 : (Jvm.Cond.castable "SpeaksInTurn$IntRow" "SpeaksInTurn$Row") ∈ lw_tbl := lw_at lw_m10 34 rfl
theorem q2323 : (Jvm.Cond.castable "SpeaksInTurn$IntRow" "SpeaksInTurn$Held") ∈ lw_tbl := lw_at lw_m10 54 rfl
theorem q154 : (Jvm.Cond.initialized "SpeaksInTurn$LongRow") ∈ lw_all := lw_g (lw_at lw_m1 45 rfl) rfl
theorem q1479 : (Jvm.Cond.instantiable "SpeaksInTurn$LongRow" (1 : Nat)) ∈ lw_all := lw_g (lw_at lw_m6 170 rfl) rfl
theorem q1481 : (Jvm.Cond.instanceMethod ({ cls := "SpeaksInTurn$LongRow", name := "<init>", desc := "(I)V" } : Jvm.MethodName)) ∈ lw_all := lw_g (lw_at lw_m6 172 rfl) rfl
theorem q1482 : (Jvm.Cond.code ({ cls := "SpeaksInTurn$LongRow", name := "<init>", desc := "(I)V" } : Jvm.MethodName) prog_15_method_1_code (2 : Nat) (Option.none : Option Jvm.ClassFile.FieldType)) ∈ lw_all := lw_g (lw_at lw_m6 173 rfl) rfl
theorem q1483 : (Jvm.Cond.methodLinkNest "SpeaksInTurn$LongRow" (1 : Nat) ({ cls := "SpeaksInTurn$Row", name := "<init>", desc := "()V" } : Jvm.MethodName) "SpeaksInTurn") ∈ lw_tbl := lw_at lw_m6 174 rfl
theorem q1484 : (Jvm.Cond.fieldLink "SpeaksInTurn$LongRow" (7 : Nat) "SpeaksInTurn$LongRow" "items" "[J") ∈ lw_all := lw_g (lw_at lw_m6 175 rfl) rfl
theorem q1485 : (Jvm.Cond.laysFinal "SpeaksInTurn$LongRow" "SpeaksInTurn$LongRow" "items" "[J") ∈ lw_all := lw_g (lw_at lw_m6 176 rfl) rfl
theorem q1486 : (Jvm.Cond.soleField "SpeaksInTurn$LongRow" "items") ∈ lw_all := lw_g (lw_at lw_m6 177 rfl) rfl
theorem q1487 : (Jvm.Cond.superclass "SpeaksInTurn$LongRow" "SpeaksInTurn$Row") ∈ lw_all := lw_g (lw_at lw_m6 178 rfl) rfl
theorem q1517 : (Jvm.Cond.selects "SpeaksInTurn$LongRow" ({ cls := "SpeaksInTurn$Row", name := "put", desc := "(IJ)Z" } : Jvm.MethodName) ({ cls := "SpeaksInTurn$LongRow", name := "put", desc := "(IJ)Z" } : Jvm.MethodName)) ∈ lw_all := lw_g (lw_at lw_m6 208 rfl) rfl
theorem q1518 : (Jvm.Cond.instanceMethod ({ cls := "SpeaksInTurn$LongRow", name := "put", desc := "(IJ)Z" } : Jvm.MethodName)) ∈ lw_all := lw_g (lw_at lw_m6 209 rfl) rfl
theorem q1519 : (Jvm.Cond.code ({ cls := "SpeaksInTurn$LongRow", name := "put", desc := "(IJ)Z" } : Jvm.MethodName) prog_15_method_5_code (4 : Nat) (Option.some Jvm.ClassFile.FieldType.boolean)) ∈ lw_all := lw_g (lw_at lw_m6 210 rfl) rfl
theorem q1538 : (Jvm.Cond.selects "SpeaksInTurn$LongRow" ({ cls := "SpeaksInTurn$Row", name := "at", desc := "(I)J" } : Jvm.MethodName) ({ cls := "SpeaksInTurn$LongRow", name := "at", desc := "(I)J" } : Jvm.MethodName)) ∈ lw_all := lw_g (lw_at lw_m6 229 rfl) rfl
theorem q1539 : (Jvm.Cond.instanceMethod ({ cls := "SpeaksInTurn$LongRow", name := "at", desc := "(I)J" } : Jvm.MethodName)) ∈ lw_all := lw_g (lw_at lw_m6 230 rfl) rfl
theorem q1540 : (Jvm.Cond.code ({ cls := "SpeaksInTurn$LongRow", name := "at", desc := "(I)J" } : Jvm.MethodName) prog_15_method_4_code (2 : Nat) (Option.some Jvm.ClassFile.FieldType.long)) ∈ lw_all := lw_g (lw_at lw_m6 231 rfl) rfl
theorem q1566 : (Jvm.Cond.selects "SpeaksInTurn$LongRow" ({ cls := "SpeaksInTurn$Row", name := "copy", desc := "(ILSpeaksInTurn$Row;II)V" } : Jvm.MethodName) ({ cls := "SpeaksInTurn$LongRow", name := "copy", desc := "(ILSpeaksInTurn$Row;II)V" } : Jvm.MethodName)) ∈ lw_all := lw_g (lw_at lw_m7 17 rfl) rfl
theorem q1567 : (Jvm.Cond.instanceMethod ({ cls := "SpeaksInTurn$LongRow", name := "copy", desc := "(ILSpeaksInTurn$Row;II)V" } : Jvm.MethodName)) ∈ lw_all := lw_g (lw_at lw_m7 18 rfl) rfl
theorem q1568 : (Jvm.Cond.code ({ cls := "SpeaksInTurn$LongRow", name := "copy", desc := "(ILSpeaksInTurn$Row;II)V" } : Jvm.MethodName) prog_15_method_6_code (5 : Nat) (Option.none : Option Jvm.ClassFile.FieldType)) ∈ lw_all := lw_g (lw_at lw_m7 19 rfl) rfl
theorem q1569 : (Jvm.Cond.classLink "SpeaksInTurn$LongRow" (8 : Nat) "SpeaksInTurn$LongRow") ∈ lw_all := lw_g (lw_at lw_m7 20 rfl) rfl
theorem q1570 : (Jvm.Cond.methodLink "SpeaksInTurn$LongRow" (13 : Nat) ({ cls := "java/lang/System", name := "arraycopy", desc := "(Ljava/lang/Object;ILjava/lang/Object;II)V" } : Jvm.MethodName)) ∈ lw_all := lw_g (lw_at lw_m7 21 rfl) rfl
theorem q2304 : (Jvm.Cond.castable "SpeaksInTurn$LongRow" "SpeaksInTurn$Row") ∈ lw_tbl := lw_at lw_m10 35 rfl
theorem q2324 : (Jvm.Cond.castable "SpeaksInTurn$LongRow" "SpeaksInTurn$Held") ∈ lw_tbl := lw_at lw_m10 55 rfl
theorem q113 : (Jvm.Cond.initialized "SpeaksInTurnModel") ∈ lw_all := lw_g (lw_at lw_m1 4 rfl) rfl
theorem q1633 : (Jvm.Cond.instantiable "SpeaksInTurnModel" (76 : Nat)) ∈ lw_all := lw_g (lw_at lw_m7 84 rfl) rfl
theorem q1635 : (Jvm.Cond.instanceMethod ({ cls := "SpeaksInTurnModel", name := "<init>", desc := "()V" } : Jvm.MethodName)) ∈ lw_all := lw_g (lw_at lw_m7 86 rfl) rfl
theorem q1636 : (Jvm.Cond.code ({ cls := "SpeaksInTurnModel", name := "<init>", desc := "()V" } : Jvm.MethodName) prog_34_method_3_code (2 : Nat) (Option.none : Option Jvm.ClassFile.FieldType)) ∈ lw_all := lw_g (lw_at lw_m7 87 rfl) rfl
theorem q1637 : (Jvm.Cond.methodLink "SpeaksInTurnModel" (3 : Nat) ({ cls := "java/lang/Object", name := "<init>", desc := "()V" } : Jvm.MethodName)) ∈ lw_all := lw_g (lw_at lw_m7 88 rfl) rfl
theorem q1638 : (Jvm.Cond.fieldLink "SpeaksInTurnModel" (9 : Nat) "SpeaksInTurnModel" "may" "[I") ∈ lw_all := lw_g (lw_at lw_m7 89 rfl) rfl
theorem q1639 : (Jvm.Cond.fieldLink "SpeaksInTurnModel" (13 : Nat) "SpeaksInTurnModel" "changeAt" "[I") ∈ lw_all := lw_g (lw_at lw_m7 90 rfl) rfl
theorem q1640 : (Jvm.Cond.fieldLink "SpeaksInTurnModel" (16 : Nat) "SpeaksInTurnModel" "changeWas" "[I") ∈ lw_all := lw_g (lw_at lw_m7 91 rfl) rfl
theorem q1641 : (Jvm.Cond.fieldLink "SpeaksInTurnModel" (19 : Nat) "SpeaksInTurnModel" "changeIs" "[I") ∈ lw_all := lw_g (lw_at lw_m7 92 rfl) rfl
theorem q1642 : (Jvm.Cond.fieldLink "SpeaksInTurnModel" (156 : Nat) "SpeaksInTurnModel" "keptMany" "I") ∈ lw_all := lw_g (lw_at lw_m7 93 rfl) rfl
theorem q1643 : (Jvm.Cond.fieldLink "SpeaksInTurnModel" (153 : Nat) "SpeaksInTurnModel" "done" "I") ∈ lw_all := lw_g (lw_at lw_m7 94 rfl) rfl
theorem q1644 : (Jvm.Cond.fieldLink "SpeaksInTurnModel" (159 : Nat) "SpeaksInTurnModel" "people" "I") ∈ lw_all := lw_g (lw_at lw_m7 95 rfl) rfl
theorem q1645 : (Jvm.Cond.fieldLink "SpeaksInTurnModel" (22 : Nat) "SpeaksInTurnModel" "wage" "[I") ∈ lw_all := lw_g (lw_at lw_m7 96 rfl) rfl
theorem q1646 : (Jvm.Cond.fieldLink "SpeaksInTurnModel" (166 : Nat) "SpeaksInTurnModel" "things" "I") ∈ lw_all := lw_g (lw_at lw_m7 97 rfl) rfl
theorem q1647 : (Jvm.Cond.fieldLink "SpeaksInTurnModel" (169 : Nat) "SpeaksInTurnModel" "cards" "I") ∈ lw_all := lw_g (lw_at lw_m7 98 rfl) rfl
theorem q1648 : (Jvm.Cond.fieldLink "SpeaksInTurnModel" (25 : Nat) "SpeaksInTurnModel" "thingOf" "[I") ∈ lw_all := lw_g (lw_at lw_m7 99 rfl) rfl
theorem q1649 : (Jvm.Cond.fieldLink "SpeaksInTurnModel" (28 : Nat) "SpeaksInTurnModel" "counts" "[I") ∈ lw_all := lw_g (lw_at lw_m7 100 rfl) rfl
theorem q1650 : (Jvm.Cond.fieldLink "SpeaksInTurnModel" (31 : Nat) "SpeaksInTurnModel" "knownBy" "[I") ∈ lw_all := lw_g (lw_at lw_m7 101 rfl) rfl
theorem q1651 : (Jvm.Cond.fieldLink "SpeaksInTurnModel" (205 : Nat) "SpeaksInTurnModel" "rule" "I") ∈ lw_all := lw_g (lw_at lw_m7 102 rfl) rfl
theorem q1652 : (Jvm.Cond.fieldLink "SpeaksInTurnModel" (208 : Nat) "SpeaksInTurnModel" "standing" "I") ∈ lw_all := lw_g (lw_at lw_m7 103 rfl) rfl
theorem q1653 : (Jvm.Cond.fieldLink "SpeaksInTurnModel" (147 : Nat) "SpeaksInTurnModel" "timer" "I") ∈ lw_all := lw_g (lw_at lw_m7 104 rfl) rfl
theorem q1654 : (Jvm.Cond.fieldLink "SpeaksInTurnModel" (34 : Nat) "SpeaksInTurnModel" "tape" "[I") ∈ lw_all := lw_g (lw_at lw_m7 105 rfl) rfl
theorem q1655 : (Jvm.Cond.fieldLink "SpeaksInTurnModel" (227 : Nat) "SpeaksInTurnModel" "tapeMany" "I") ∈ lw_all := lw_g (lw_at lw_m7 106 rfl) rfl
theorem q1656 : (Jvm.Cond.fieldLink "SpeaksInTurnModel" (37 : Nat) "SpeaksInTurnModel" "text" "[I") ∈ lw_all := lw_g (lw_at lw_m7 107 rfl) rfl
theorem q1657 : (Jvm.Cond.fieldLink "SpeaksInTurnModel" (143 : Nat) "SpeaksInTurnModel" "textMany" "I") ∈ lw_all := lw_g (lw_at lw_m7 108 rfl) rfl
theorem q1658 : (Jvm.Cond.fieldLink "SpeaksInTurnModel" (236 : Nat) "SpeaksInTurnModel" "base" "I") ∈ lw_all := lw_g (lw_at lw_m7 109 rfl) rfl
theorem q1659 : (Jvm.Cond.fieldLink "SpeaksInTurnModel" (230 : Nat) "SpeaksInTurnModel" "at" "I") ∈ lw_all := lw_g (lw_at lw_m7 110 rfl) rfl
theorem q1660 : (Jvm.Cond.fieldLink "SpeaksInTurnModel" (233 : Nat) "SpeaksInTurnModel" "ends" "I") ∈ lw_all := lw_g (lw_at lw_m7 111 rfl) rfl
theorem q1661 : (Jvm.Cond.fieldLink "SpeaksInTurnModel" (239 : Nat) "SpeaksInTurnModel" "fault" "I") ∈ lw_all := lw_g (lw_at lw_m7 112 rfl) rfl
theorem q1662 : (Jvm.Cond.fieldLink "SpeaksInTurnModel" (264 : Nat) "SpeaksInTurnModel" "opened" "I") ∈ lw_all := lw_g (lw_at lw_m7 113 rfl) rfl
theorem q1663 : (Jvm.Cond.fieldLink "SpeaksInTurnModel" (40 : Nat) "SpeaksInTurnModel" "names" "[I") ∈ lw_all := lw_g (lw_at lw_m7 114 rfl) rfl
theorem q1664 : (Jvm.Cond.fieldLink "SpeaksInTurnModel" (280 : Nat) "SpeaksInTurnModel" "ruleNow" "I") ∈ lw_all := lw_g (lw_at lw_m7 115 rfl) rfl
theorem q1665 : (Jvm.Cond.fieldLink "SpeaksInTurnModel" (283 : Nat) "SpeaksInTurnModel" "timerNow" "I") ∈ lw_all := lw_g (lw_at lw_m7 116 rfl) rfl
theorem q1666 : (Jvm.Cond.fieldLink "SpeaksInTurnModel" (286 : Nat) "SpeaksInTurnModel" "never" "I") ∈ lw_all := lw_g (lw_at lw_m7 117 rfl) rfl
theorem q1667 : (Jvm.Cond.fieldLink "SpeaksInTurnModel" (289 : Nat) "SpeaksInTurnModel" "minute" "I") ∈ lw_all := lw_g (lw_at lw_m7 118 rfl) rfl
theorem q1668 : (Jvm.Cond.fieldLink "SpeaksInTurnModel" (321 : Nat) "SpeaksInTurnModel" "sayings" "I") ∈ lw_all := lw_g (lw_at lw_m7 119 rfl) rfl
theorem q1669 : (Jvm.Cond.fieldLink "SpeaksInTurnModel" (305 : Nat) "SpeaksInTurnModel" "last" "I") ∈ lw_all := lw_g (lw_at lw_m7 120 rfl) rfl
theorem q1670 : (Jvm.Cond.fieldLink "SpeaksInTurnModel" (43 : Nat) "SpeaksInTurnModel" "spoken" "[I") ∈ lw_all := lw_g (lw_at lw_m7 121 rfl) rfl
theorem q1671 : (Jvm.Cond.fieldLink "SpeaksInTurnModel" (46 : Nat) "SpeaksInTurnModel" "wish" "[I") ∈ lw_all := lw_g (lw_at lw_m7 122 rfl) rfl
theorem q1672 : (Jvm.Cond.fieldLink "SpeaksInTurnModel" (49 : Nat) "SpeaksInTurnModel" "stoppedBy" "[I") ∈ lw_all := lw_g (lw_at lw_m7 123 rfl) rfl
theorem q1673 : (Jvm.Cond.fieldLink "SpeaksInTurnModel" (52 : Nat) "SpeaksInTurnModel" "firstWho" "[I") ∈ lw_all := lw_g (lw_at lw_m7 124 rfl) rfl
theorem q1674 : (Jvm.Cond.fieldLink "SpeaksInTurnModel" (55 : Nat) "SpeaksInTurnModel" "firstIn" "[I") ∈ lw_all := lw_g (lw_at lw_m7 125 rfl) rfl
theorem q1675 : (Jvm.Cond.fieldLink "SpeaksInTurnModel" (58 : Nat) "SpeaksInTurnModel" "thingMinutes" "[I") ∈ lw_all := lw_g (lw_at lw_m7 126 rfl) rfl
theorem q1676 : (Jvm.Cond.fieldLink "SpeaksInTurnModel" (61 : Nat) "SpeaksInTurnModel" "order1" "[I") ∈ lw_all := lw_g (lw_at lw_m7 127 rfl) rfl
theorem q1677 : (Jvm.Cond.fieldLink "SpeaksInTurnModel" (64 : Nat) "SpeaksInTurnModel" "sayWho" "[I") ∈ lw_all := lw_g (lw_at lw_m7 128 rfl) rfl
theorem q1678 : (Jvm.Cond.fieldLink "SpeaksInTurnModel" (67 : Nat) "SpeaksInTurnModel" "sayThing" "[I") ∈ lw_all := lw_g (lw_at lw_m7 129 rfl) rfl
theorem q1679 : (Jvm.Cond.fieldLink "SpeaksInTurnModel" (70 : Nat) "SpeaksInTurnModel" "sayAt" "[I") ∈ lw_all := lw_g (lw_at lw_m7 130 rfl) rfl
theorem q1680 : (Jvm.Cond.fieldLink "SpeaksInTurnModel" (73 : Nat) "SpeaksInTurnModel" "sayLong" "[I") ∈ lw_all := lw_g (lw_at lw_m7 131 rfl) rfl
theorem q1681 : (Jvm.Cond.fieldLink "SpeaksInTurnModel" (76 : Nat) "SpeaksInTurnModel" "sayNew" "[I") ∈ lw_all := lw_g (lw_at lw_m7 132 rfl) rfl
theorem q1682 : (Jvm.Cond.fieldLink "SpeaksInTurnModel" (79 : Nat) "SpeaksInTurnModel" "sayAgain" "[I") ∈ lw_all := lw_g (lw_at lw_m7 133 rfl) rfl
theorem q1683 : (Jvm.Cond.fieldLink "SpeaksInTurnModel" (82 : Nat) "SpeaksInTurnModel" "sayStop" "[I") ∈ lw_all := lw_g (lw_at lw_m7 134 rfl) rfl
theorem q1684 : (Jvm.Cond.fieldLink "SpeaksInTurnModel" (150 : Nat) "SpeaksInTurnModel" "keptSayings" "I") ∈ lw_all := lw_g (lw_at lw_m7 135 rfl) rfl
theorem q1685 : (Jvm.Cond.fieldLink "SpeaksInTurnModel" (379 : Nat) "SpeaksInTurnModel" "keptPeople" "I") ∈ lw_all := lw_g (lw_at lw_m7 136 rfl) rfl
theorem q1686 : (Jvm.Cond.fieldLink "SpeaksInTurnModel" (382 : Nat) "SpeaksInTurnModel" "keptThings" "I") ∈ lw_all := lw_g (lw_at lw_m7 137 rfl) rfl
theorem q1687 : (Jvm.Cond.fieldLink "SpeaksInTurnModel" (385 : Nat) "SpeaksInTurnModel" "keptCards" "I") ∈ lw_all := lw_g (lw_at lw_m7 138 rfl) rfl
theorem q1688 : (Jvm.Cond.fieldLink "SpeaksInTurnModel" (85 : Nat) "SpeaksInTurnModel" "keptTold" "[I") ∈ lw_all := lw_g (lw_at lw_m7 139 rfl) rfl
theorem q1689 : (Jvm.Cond.fieldLink "SpeaksInTurnModel" (88 : Nat) "SpeaksInTurnModel" "keptWho" "[I") ∈ lw_all := lw_g (lw_at lw_m7 140 rfl) rfl
theorem q1690 : (Jvm.Cond.fieldLink "SpeaksInTurnModel" (91 : Nat) "SpeaksInTurnModel" "keptThing" "[I") ∈ lw_all := lw_g (lw_at lw_m7 141 rfl) rfl
theorem q1691 : (Jvm.Cond.fieldLink "SpeaksInTurnModel" (94 : Nat) "SpeaksInTurnModel" "keptAt" "[I") ∈ lw_all := lw_g (lw_at lw_m7 142 rfl) rfl
theorem q1692 : (Jvm.Cond.fieldLink "SpeaksInTurnModel" (97 : Nat) "SpeaksInTurnModel" "keptLong" "[I") ∈ lw_all := lw_g (lw_at lw_m7 143 rfl) rfl
theorem q1693 : (Jvm.Cond.fieldLink "SpeaksInTurnModel" (100 : Nat) "SpeaksInTurnModel" "keptNew" "[I") ∈ lw_all := lw_g (lw_at lw_m7 144 rfl) rfl
theorem q1694 : (Jvm.Cond.fieldLink "SpeaksInTurnModel" (103 : Nat) "SpeaksInTurnModel" "keptAgain" "[I") ∈ lw_all := lw_g (lw_at lw_m7 145 rfl) rfl
theorem q1695 : (Jvm.Cond.fieldLink "SpeaksInTurnModel" (106 : Nat) "SpeaksInTurnModel" "keptStop" "[I") ∈ lw_all := lw_g (lw_at lw_m7 146 rfl) rfl
theorem q1696 : (Jvm.Cond.fieldLink "SpeaksInTurnModel" (109 : Nat) "SpeaksInTurnModel" "keptMinutes" "[I") ∈ lw_all := lw_g (lw_at lw_m7 147 rfl) rfl
theorem q1697 : (Jvm.Cond.fieldLink "SpeaksInTurnModel" (112 : Nat) "SpeaksInTurnModel" "keptComes" "[I") ∈ lw_all := lw_g (lw_at lw_m7 148 rfl) rfl
theorem q1698 : (Jvm.Cond.fieldLink "SpeaksInTurnModel" (115 : Nat) "SpeaksInTurnModel" "keptFirst" "[I") ∈ lw_all := lw_g (lw_at lw_m7 149 rfl) rfl
theorem q1699 : (Jvm.Cond.fieldLink "SpeaksInTurnModel" (118 : Nat) "SpeaksInTurnModel" "keptIn" "[I") ∈ lw_all := lw_g (lw_at lw_m7 150 rfl) rfl
theorem q1700 : (Jvm.Cond.fieldLink "SpeaksInTurnModel" (121 : Nat) "SpeaksInTurnModel" "keptThere" "[I") ∈ lw_all := lw_g (lw_at lw_m7 151 rfl) rfl
theorem q1701 : (Jvm.Cond.fieldLink "SpeaksInTurnModel" (424 : Nat) "SpeaksInTurnModel" "bestOne" "I") ∈ lw_all := lw_g (lw_at lw_m7 152 rfl) rfl
theorem q1702 : (Jvm.Cond.fieldLink "SpeaksInTurnModel" (427 : Nat) "SpeaksInTurnModel" "bestWrong" "I") ∈ lw_all := lw_g (lw_at lw_m7 153 rfl) rfl
theorem q1703 : (Jvm.Cond.fieldLink "SpeaksInTurnModel" (430 : Nat) "SpeaksInTurnModel" "bestCost" "I") ∈ lw_all := lw_g (lw_at lw_m7 154 rfl) rfl
theorem q1704 : (Jvm.Cond.fieldLink "SpeaksInTurnModel" (444 : Nat) "SpeaksInTurnModel" "bodies" "I") ∈ lw_all := lw_g (lw_at lw_m7 155 rfl) rfl
theorem q1705 : (Jvm.Cond.fieldLink "SpeaksInTurnModel" (124 : Nat) "SpeaksInTurnModel" "bodyKind" "[I") ∈ lw_all := lw_g (lw_at lw_m7 156 rfl) rfl
theorem q1706 : (Jvm.Cond.fieldLink "SpeaksInTurnModel" (127 : Nat) "SpeaksInTurnModel" "trace" "[I") ∈ lw_all := lw_g (lw_at lw_m7 157 rfl) rfl
theorem q1707 : (Jvm.Cond.fieldLink "SpeaksInTurnModel" (449 : Nat) "SpeaksInTurnModel" "ran" "I") ∈ lw_all := lw_g (lw_at lw_m7 158 rfl) rfl
theorem q1708 : (Jvm.Cond.fieldLink "SpeaksInTurnModel" (464 : Nat) "SpeaksInTurnModel" "ownKind" "I") ∈ lw_all := lw_g (lw_at lw_m7 159 rfl) rfl
theorem q1709 : (Jvm.Cond.fieldLink "SpeaksInTurnModel" (458 : Nat) "SpeaksInTurnModel" "ownNumber" "I") ∈ lw_all := lw_g (lw_at lw_m7 160 rfl) rfl
theorem q1710 : (Jvm.Cond.fieldLink "SpeaksInTurnModel" (130 : Nat) "SpeaksInTurnModel" "shelf" "[I") ∈ lw_all := lw_g (lw_at lw_m7 161 rfl) rfl
theorem q1711 : (Jvm.Cond.fieldLink "SpeaksInTurnModel" (133 : Nat) "SpeaksInTurnModel" "many" "[I") ∈ lw_all := lw_g (lw_at lw_m7 162 rfl) rfl
theorem q1712 : (Jvm.Cond.fieldLink "SpeaksInTurnModel" (136 : Nat) "SpeaksInTurnModel" "items" "[J") ∈ lw_all := lw_g (lw_at lw_m7 163 rfl) rfl
theorem q1713 : (Jvm.Cond.fieldLink "SpeaksInTurnModel" (140 : Nat) "SpeaksInTurnModel" "carried" "[J") ∈ lw_all := lw_g (lw_at lw_m7 164 rfl) rfl
theorem q1714 : (Jvm.Cond.laysFinal "SpeaksInTurnModel" "SpeaksInTurnModel" "may" "[I") ∈ lw_all := lw_g (lw_at lw_m7 165 rfl) rfl
theorem q1715 : (Jvm.Cond.soleField "SpeaksInTurnModel" "may") ∈ lw_all := lw_g (lw_at lw_m7 166 rfl) rfl
theorem q1716 : (Jvm.Cond.laysFinal "SpeaksInTurnModel" "SpeaksInTurnModel" "changeAt" "[I") ∈ lw_all := lw_g (lw_at lw_m7 167 rfl) rfl
theorem q1717 : (Jvm.Cond.soleField "SpeaksInTurnModel" "changeAt") ∈ lw_all := lw_g (lw_at lw_m7 168 rfl) rfl
theorem q1718 : (Jvm.Cond.laysFinal "SpeaksInTurnModel" "SpeaksInTurnModel" "changeWas" "[I") ∈ lw_all := lw_g (lw_at lw_m7 169 rfl) rfl
theorem q1719 : (Jvm.Cond.soleField "SpeaksInTurnModel" "changeWas") ∈ lw_all := lw_g (lw_at lw_m7 170 rfl) rfl
theorem q1720 : (Jvm.Cond.laysFinal "SpeaksInTurnModel" "SpeaksInTurnModel" "changeIs" "[I") ∈ lw_all := lw_g (lw_at lw_m7 171 rfl) rfl
theorem q1721 : (Jvm.Cond.soleField "SpeaksInTurnModel" "changeIs") ∈ lw_all := lw_g (lw_at lw_m7 172 rfl) rfl
theorem q1722 : (Jvm.Cond.lays "SpeaksInTurnModel" "SpeaksInTurnModel" "keptMany" "I") ∈ lw_all := lw_g (lw_at lw_m7 173 rfl) rfl
theorem q1723 : (Jvm.Cond.soleField "SpeaksInTurnModel" "keptMany") ∈ lw_all := lw_g (lw_at lw_m7 174 rfl) rfl
theorem q1724 : (Jvm.Cond.lays "SpeaksInTurnModel" "SpeaksInTurnModel" "done" "I") ∈ lw_all := lw_g (lw_at lw_m7 175 rfl) rfl
theorem q1725 : (Jvm.Cond.soleField "SpeaksInTurnModel" "done") ∈ lw_all := lw_g (lw_at lw_m7 176 rfl) rfl
theorem q1726 : (Jvm.Cond.lays "SpeaksInTurnModel" "SpeaksInTurnModel" "people" "I") ∈ lw_all := lw_g (lw_at lw_m7 177 rfl) rfl
theorem q1727 : (Jvm.Cond.soleField "SpeaksInTurnModel" "people") ∈ lw_all := lw_g (lw_at lw_m7 178 rfl) rfl
theorem q1728 : (Jvm.Cond.laysFinal "SpeaksInTurnModel" "SpeaksInTurnModel" "wage" "[I") ∈ lw_all := lw_g (lw_at lw_m7 179 rfl) rfl
theorem q1729 : (Jvm.Cond.soleField "SpeaksInTurnModel" "wage") ∈ lw_all := lw_g (lw_at lw_m7 180 rfl) rfl
theorem q1730 : (Jvm.Cond.lays "SpeaksInTurnModel" "SpeaksInTurnModel" "things" "I") ∈ lw_all := lw_g (lw_at lw_m7 181 rfl) rfl
theorem q1731 : (Jvm.Cond.soleField "SpeaksInTurnModel" "things") ∈ lw_all := lw_g (lw_at lw_m7 182 rfl) rfl
theorem q1732 : (Jvm.Cond.lays "SpeaksInTurnModel" "SpeaksInTurnModel" "cards" "I") ∈ lw_all := lw_g (lw_at lw_m7 183 rfl) rfl
theorem q1733 : (Jvm.Cond.soleField "SpeaksInTurnModel" "cards") ∈ lw_all := lw_g (lw_at lw_m7 184 rfl) rfl
theorem q1734 : (Jvm.Cond.laysFinal "SpeaksInTurnModel" "SpeaksInTurnModel" "thingOf" "[I") ∈ lw_all := lw_g (lw_at lw_m7 185 rfl) rfl
theorem q1735 : (Jvm.Cond.soleField "SpeaksInTurnModel" "thingOf") ∈ lw_all := lw_g (lw_at lw_m7 186 rfl) rfl
theorem q1736 : (Jvm.Cond.laysFinal "SpeaksInTurnModel" "SpeaksInTurnModel" "counts" "[I") ∈ lw_all := lw_g (lw_at lw_m7 187 rfl) rfl
theorem q1737 : (Jvm.Cond.soleField "SpeaksInTurnModel" "counts") ∈ lw_all := lw_g (lw_at lw_m7 188 rfl) rfl
theorem q1738 : (Jvm.Cond.laysFinal "SpeaksInTurnModel" "SpeaksInTurnModel" "knownBy" "[I") ∈ lw_all := lw_g (lw_at lw_m7 189 rfl) rfl
theorem q1739 : (Jvm.Cond.soleField "SpeaksInTurnModel" "knownBy") ∈ lw_all := lw_g (lw_at lw_m7 190 rfl) rfl
theorem q1740 : (Jvm.Cond.lays "SpeaksInTurnModel" "SpeaksInTurnModel" "rule" "I") ∈ lw_all := lw_g (lw_at lw_m7 191 rfl) rfl
theorem q1741 : (Jvm.Cond.soleField "SpeaksInTurnModel" "rule") ∈ lw_all := lw_g (lw_at lw_m7 192 rfl) rfl
theorem q1742 : (Jvm.Cond.lays "SpeaksInTurnModel" "SpeaksInTurnModel" "standing" "I") ∈ lw_all := lw_g (lw_at lw_m7 193 rfl) rfl
theorem q1743 : (Jvm.Cond.soleField "SpeaksInTurnModel" "standing") ∈ lw_all := lw_g (lw_at lw_m7 194 rfl) rfl
theorem q1744 : (Jvm.Cond.lays "SpeaksInTurnModel" "SpeaksInTurnModel" "timer" "I") ∈ lw_all := lw_g (lw_at lw_m7 195 rfl) rfl
theorem q1745 : (Jvm.Cond.soleField "SpeaksInTurnModel" "timer") ∈ lw_all := lw_g (lw_at lw_m7 196 rfl) rfl
theorem q1746 : (Jvm.Cond.laysFinal "SpeaksInTurnModel" "SpeaksInTurnModel" "tape" "[I") ∈ lw_all := lw_g (lw_at lw_m7 197 rfl) rfl
theorem q1747 : (Jvm.Cond.soleField "SpeaksInTurnModel" "tape") ∈ lw_all := lw_g (lw_at lw_m7 198 rfl) rfl
theorem q1748 : (Jvm.Cond.lays "SpeaksInTurnModel" "SpeaksInTurnModel" "tapeMany" "I") ∈ lw_all := lw_g (lw_at lw_m7 199 rfl) rfl
theorem q1749 : (Jvm.Cond.soleField "SpeaksInTurnModel" "tapeMany") ∈ lw_all := lw_g (lw_at lw_m7 200 rfl) rfl
theorem q1750 : (Jvm.Cond.laysFinal "SpeaksInTurnModel" "SpeaksInTurnModel" "text" "[I") ∈ lw_all := lw_g (lw_at lw_m7 201 rfl) rfl
theorem q1751 : (Jvm.Cond.soleField "SpeaksInTurnModel" "text") ∈ lw_all := lw_g (lw_at lw_m7 202 rfl) rfl
theorem q1752 : (Jvm.Cond.lays "SpeaksInTurnModel" "SpeaksInTurnModel" "textMany" "I") ∈ lw_all := lw_g (lw_at lw_m7 203 rfl) rfl
theorem q1753 : (Jvm.Cond.soleField "SpeaksInTurnModel" "textMany") ∈ lw_all := lw_g (lw_at lw_m7 204 rfl) rfl
theorem q1754 : (Jvm.Cond.lays "SpeaksInTurnModel" "SpeaksInTurnModel" "base" "I") ∈ lw_all := lw_g (lw_at lw_m7 205 rfl) rfl
theorem q1755 : (Jvm.Cond.soleField "SpeaksInTurnModel" "base") ∈ lw_all := lw_g (lw_at lw_m7 206 rfl) rfl
theorem q1756 : (Jvm.Cond.lays "SpeaksInTurnModel" "SpeaksInTurnModel" "at" "I") ∈ lw_all := lw_g (lw_at lw_m7 207 rfl) rfl
theorem q1757 : (Jvm.Cond.soleField "SpeaksInTurnModel" "at") ∈ lw_all := lw_g (lw_at lw_m7 208 rfl) rfl
theorem q1758 : (Jvm.Cond.lays "SpeaksInTurnModel" "SpeaksInTurnModel" "ends" "I") ∈ lw_all := lw_g (lw_at lw_m7 209 rfl) rfl
theorem q1759 : (Jvm.Cond.soleField "SpeaksInTurnModel" "ends") ∈ lw_all := lw_g (lw_at lw_m7 210 rfl) rfl
theorem q1760 : (Jvm.Cond.lays "SpeaksInTurnModel" "SpeaksInTurnModel" "fault" "I") ∈ lw_all := lw_g (lw_at lw_m7 211 rfl) rfl
theorem q1761 : (Jvm.Cond.soleField "SpeaksInTurnModel" "fault") ∈ lw_all := lw_g (lw_at lw_m7 212 rfl) rfl
theorem q1762 : (Jvm.Cond.lays "SpeaksInTurnModel" "SpeaksInTurnModel" "opened" "I") ∈ lw_all := lw_g (lw_at lw_m7 213 rfl) rfl
theorem q1763 : (Jvm.Cond.soleField "SpeaksInTurnModel" "opened") ∈ lw_all := lw_g (lw_at lw_m7 214 rfl) rfl
theorem q1764 : (Jvm.Cond.laysFinal "SpeaksInTurnModel" "SpeaksInTurnModel" "names" "[I") ∈ lw_all := lw_g (lw_at lw_m7 215 rfl) rfl
theorem q1765 : (Jvm.Cond.soleField "SpeaksInTurnModel" "names") ∈ lw_all := lw_g (lw_at lw_m7 216 rfl) rfl
theorem q1766 : (Jvm.Cond.lays "SpeaksInTurnModel" "SpeaksInTurnModel" "ruleNow" "I") ∈ lw_all := lw_g (lw_at lw_m7 217 rfl) rfl
theorem q1767 : (Jvm.Cond.soleField "SpeaksInTurnModel" "ruleNow") ∈ lw_all := lw_g (lw_at lw_m7 218 rfl) rfl
theorem q1768 : (Jvm.Cond.lays "SpeaksInTurnModel" "SpeaksInTurnModel" "timerNow" "I") ∈ lw_all := lw_g (lw_at lw_m7 219 rfl) rfl
theorem q1769 : (Jvm.Cond.soleField "SpeaksInTurnModel" "timerNow") ∈ lw_all := lw_g (lw_at lw_m7 220 rfl) rfl
theorem q1770 : (Jvm.Cond.lays "SpeaksInTurnModel" "SpeaksInTurnModel" "never" "I") ∈ lw_all := lw_g (lw_at lw_m7 221 rfl) rfl
theorem q1771 : (Jvm.Cond.soleField "SpeaksInTurnModel" "never") ∈ lw_all := lw_g (lw_at lw_m7 222 rfl) rfl
theorem q1772 : (Jvm.Cond.lays "SpeaksInTurnModel" "SpeaksInTurnModel" "minute" "I") ∈ lw_all := lw_g (lw_at lw_m7 223 rfl) rfl
theorem q1773 : (Jvm.Cond.soleField "SpeaksInTurnModel" "minute") ∈ lw_all := lw_g (lw_at lw_m7 224 rfl) rfl
theorem q1774 : (Jvm.Cond.lays "SpeaksInTurnModel" "SpeaksInTurnModel" "sayings" "I") ∈ lw_all := lw_g (lw_at lw_m7 225 rfl) rfl
theorem q1775 : (Jvm.Cond.soleField "SpeaksInTurnModel" "sayings") ∈ lw_all := lw_g (lw_at lw_m7 226 rfl) rfl
theorem q1776 : (Jvm.Cond.lays "SpeaksInTurnModel" "SpeaksInTurnModel" "last" "I") ∈ lw_all := lw_g (lw_at lw_m7 227 rfl) rfl
theorem q1777 : (Jvm.Cond.soleField "SpeaksInTurnModel" "last") ∈ lw_all := lw_g (lw_at lw_m7 228 rfl) rfl
theorem q1778 : (Jvm.Cond.laysFinal "SpeaksInTurnModel" "SpeaksInTurnModel" "spoken" "[I") ∈ lw_all := lw_g (lw_at lw_m7 229 rfl) rfl
theorem q1779 : (Jvm.Cond.soleField "SpeaksInTurnModel" "spoken") ∈ lw_all := lw_g (lw_at lw_m7 230 rfl) rfl
theorem q1780 : (Jvm.Cond.laysFinal "SpeaksInTurnModel" "SpeaksInTurnModel" "wish" "[I") ∈ lw_all := lw_g (lw_at lw_m7 231 rfl) rfl
theorem q1781 : (Jvm.Cond.soleField "SpeaksInTurnModel" "wish") ∈ lw_all := lw_g (lw_at lw_m7 232 rfl) rfl
theorem q1782 : (Jvm.Cond.laysFinal "SpeaksInTurnModel" "SpeaksInTurnModel" "stoppedBy" "[I") ∈ lw_all := lw_g (lw_at lw_m7 233 rfl) rfl
theorem q1783 : (Jvm.Cond.soleField "SpeaksInTurnModel" "stoppedBy") ∈ lw_all := lw_g (lw_at lw_m7 234 rfl) rfl
theorem q1784 : (Jvm.Cond.laysFinal "SpeaksInTurnModel" "SpeaksInTurnModel" "firstWho" "[I") ∈ lw_all := lw_g (lw_at lw_m7 235 rfl) rfl
theorem q1785 : (Jvm.Cond.soleField "SpeaksInTurnModel" "firstWho") ∈ lw_all := lw_g (lw_at lw_m7 236 rfl) rfl
theorem q1786 : (Jvm.Cond.laysFinal "SpeaksInTurnModel" "SpeaksInTurnModel" "firstIn" "[I") ∈ lw_all := lw_g (lw_at lw_m7 237 rfl) rfl
theorem q1787 : (Jvm.Cond.soleField "SpeaksInTurnModel" "firstIn") ∈ lw_all := lw_g (lw_at lw_m7 238 rfl) rfl
theorem q1788 : (Jvm.Cond.laysFinal "SpeaksInTurnModel" "SpeaksInTurnModel" "thingMinutes" "[I") ∈ lw_all := lw_g (lw_at lw_m7 239 rfl) rfl
theorem q1789 : (Jvm.Cond.soleField "SpeaksInTurnModel" "thingMinutes") ∈ lw_all := lw_g (lw_at lw_m8 0 rfl) rfl
theorem q1790 : (Jvm.Cond.laysFinal "SpeaksInTurnModel" "SpeaksInTurnModel" "order1" "[I") ∈ lw_all := lw_g (lw_at lw_m8 1 rfl) rfl
theorem q1791 : (Jvm.Cond.soleField "SpeaksInTurnModel" "order1") ∈ lw_all := lw_g (lw_at lw_m8 2 rfl) rfl
theorem q1792 : (Jvm.Cond.laysFinal "SpeaksInTurnModel" "SpeaksInTurnModel" "sayWho" "[I") ∈ lw_all := lw_g (lw_at lw_m8 3 rfl) rfl
theorem q1793 : (Jvm.Cond.soleField "SpeaksInTurnModel" "sayWho") ∈ lw_all := lw_g (lw_at lw_m8 4 rfl) rfl
theorem q1794 : (Jvm.Cond.laysFinal "SpeaksInTurnModel" "SpeaksInTurnModel" "sayThing" "[I") ∈ lw_all := lw_g (lw_at lw_m8 5 rfl) rfl
theorem q1795 : (Jvm.Cond.soleField "SpeaksInTurnModel" "sayThing") ∈ lw_all := lw_g (lw_at lw_m8 6 rfl) rfl
theorem q1796 : (Jvm.Cond.laysFinal "SpeaksInTurnModel" "SpeaksInTurnModel" "sayAt" "[I") ∈ lw_all := lw_g (lw_at lw_m8 7 rfl) rfl
theorem q1797 : (Jvm.Cond.soleField "SpeaksInTurnModel" "sayAt") ∈ lw_all := lw_g (lw_at lw_m8 8 rfl) rfl
theorem q1798 : (Jvm.Cond.laysFinal "SpeaksInTurnModel" "SpeaksInTurnModel" "sayLong" "[I") ∈ lw_all := lw_g (lw_at lw_m8 9 rfl) rfl
theorem q1799 : (Jvm.Cond.soleField "SpeaksInTurnModel" "sayLong") ∈ lw_all := lw_g (lw_at lw_m8 10 rfl) rfl
theorem q1800 : (Jvm.Cond.laysFinal "SpeaksInTurnModel" "SpeaksInTurnModel" "sayNew" "[I") ∈ lw_all := lw_g (lw_at lw_m8 11 rfl) rfl
theorem q1801 : (Jvm.Cond.soleField "SpeaksInTurnModel" "sayNew") ∈ lw_all := lw_g (lw_at lw_m8 12 rfl) rfl
theorem q1802 : (Jvm.Cond.laysFinal "SpeaksInTurnModel" "SpeaksInTurnModel" "sayAgain" "[I") ∈ lw_all := lw_g (lw_at lw_m8 13 rfl) rfl
theorem q1803 : (Jvm.Cond.soleField "SpeaksInTurnModel" "sayAgain") ∈ lw_all := lw_g (lw_at lw_m8 14 rfl) rfl
theorem q1804 : (Jvm.Cond.laysFinal "SpeaksInTurnModel" "SpeaksInTurnModel" "sayStop" "[I") ∈ lw_all := lw_g (lw_at lw_m8 15 rfl) rfl
theorem q1805 : (Jvm.Cond.soleField "SpeaksInTurnModel" "sayStop") ∈ lw_all := lw_g (lw_at lw_m8 16 rfl) rfl
theorem q1806 : (Jvm.Cond.lays "SpeaksInTurnModel" "SpeaksInTurnModel" "keptSayings" "I") ∈ lw_all := lw_g (lw_at lw_m8 17 rfl) rfl
theorem q1807 : (Jvm.Cond.soleField "SpeaksInTurnModel" "keptSayings") ∈ lw_all := lw_g (lw_at lw_m8 18 rfl) rfl
theorem q1808 : (Jvm.Cond.lays "SpeaksInTurnModel" "SpeaksInTurnModel" "keptPeople" "I") ∈ lw_all := lw_g (lw_at lw_m8 19 rfl) rfl
theorem q1809 : (Jvm.Cond.soleField "SpeaksInTurnModel" "keptPeople") ∈ lw_all := lw_g (lw_at lw_m8 20 rfl) rfl
theorem q1810 : (Jvm.Cond.lays "SpeaksInTurnModel" "SpeaksInTurnModel" "keptThings" "I") ∈ lw_all := lw_g (lw_at lw_m8 21 rfl) rfl
theorem q1811 : (Jvm.Cond.soleField "SpeaksInTurnModel" "keptThings") ∈ lw_all := lw_g (lw_at lw_m8 22 rfl) rfl
theorem q1812 : (Jvm.Cond.lays "SpeaksInTurnModel" "SpeaksInTurnModel" "keptCards" "I") ∈ lw_all := lw_g (lw_at lw_m8 23 rfl) rfl
theorem q1813 : (Jvm.Cond.soleField "SpeaksInTurnModel" "keptCards") ∈ lw_all := lw_g (lw_at lw_m8 24 rfl) rfl
theorem q1814 : (Jvm.Cond.laysFinal "SpeaksInTurnModel" "SpeaksInTurnModel" "keptTold" "[I") ∈ lw_all := lw_g (lw_at lw_m8 25 rfl) rfl
theorem q1815 : (Jvm.Cond.soleField "SpeaksInTurnModel" "keptTold") ∈ lw_all := lw_g (lw_at lw_m8 26 rfl) rfl
theorem q1816 : (Jvm.Cond.laysFinal "SpeaksInTurnModel" "SpeaksInTurnModel" "keptWho" "[I") ∈ lw_all := lw_g (lw_at lw_m8 27 rfl) rfl
theorem q1817 : (Jvm.Cond.soleField "SpeaksInTurnModel" "keptWho") ∈ lw_all := lw_g (lw_at lw_m8 28 rfl) rfl
theorem q1818 : (Jvm.Cond.laysFinal "SpeaksInTurnModel" "SpeaksInTurnModel" "keptThing" "[I") ∈ lw_all := lw_g (lw_at lw_m8 29 rfl) rfl
theorem q1819 : (Jvm.Cond.soleField "SpeaksInTurnModel" "keptThing") ∈ lw_all := lw_g (lw_at lw_m8 30 rfl) rfl
theorem q1820 : (Jvm.Cond.laysFinal "SpeaksInTurnModel" "SpeaksInTurnModel" "keptAt" "[I") ∈ lw_all := lw_g (lw_at lw_m8 31 rfl) rfl
theorem q1821 : (Jvm.Cond.soleField "SpeaksInTurnModel" "keptAt") ∈ lw_all := lw_g (lw_at lw_m8 32 rfl) rfl
theorem q1822 : (Jvm.Cond.laysFinal "SpeaksInTurnModel" "SpeaksInTurnModel" "keptLong" "[I") ∈ lw_all := lw_g (lw_at lw_m8 33 rfl) rfl
theorem q1823 : (Jvm.Cond.soleField "SpeaksInTurnModel" "keptLong") ∈ lw_all := lw_g (lw_at lw_m8 34 rfl) rfl
theorem q1824 : (Jvm.Cond.laysFinal "SpeaksInTurnModel" "SpeaksInTurnModel" "keptNew" "[I") ∈ lw_all := lw_g (lw_at lw_m8 35 rfl) rfl
theorem q1825 : (Jvm.Cond.soleField "SpeaksInTurnModel" "keptNew") ∈ lw_all := lw_g (lw_at lw_m8 36 rfl) rfl
theorem q1826 : (Jvm.Cond.laysFinal "SpeaksInTurnModel" "SpeaksInTurnModel" "keptAgain" "[I") ∈ lw_all := lw_g (lw_at lw_m8 37 rfl) rfl
theorem q1827 : (Jvm.Cond.soleField "SpeaksInTurnModel" "keptAgain") ∈ lw_all := lw_g (lw_at lw_m8 38 rfl) rfl
theorem q1828 : (Jvm.Cond.laysFinal "SpeaksInTurnModel" "SpeaksInTurnModel" "keptStop" "[I") ∈ lw_all := lw_g (lw_at lw_m8 39 rfl) rfl
theorem q1829 : (Jvm.Cond.soleField "SpeaksInTurnModel" "keptStop") ∈ lw_all := lw_g (lw_at lw_m8 40 rfl) rfl
theorem q1830 : (Jvm.Cond.laysFinal "SpeaksInTurnModel" "SpeaksInTurnModel" "keptMinutes" "[I") ∈ lw_all := lw_g (lw_at lw_m8 41 rfl) rfl
theorem q1831 : (Jvm.Cond.soleField "SpeaksInTurnModel" "keptMinutes") ∈ lw_all := lw_g (lw_at lw_m8 42 rfl) rfl
theorem q1832 : (Jvm.Cond.laysFinal "SpeaksInTurnModel" "SpeaksInTurnModel" "keptComes" "[I") ∈ lw_all := lw_g (lw_at lw_m8 43 rfl) rfl
theorem q1833 : (Jvm.Cond.soleField "SpeaksInTurnModel" "keptComes") ∈ lw_all := lw_g (lw_at lw_m8 44 rfl) rfl
theorem q1834 : (Jvm.Cond.laysFinal "SpeaksInTurnModel" "SpeaksInTurnModel" "keptFirst" "[I") ∈ lw_all := lw_g (lw_at lw_m8 45 rfl) rfl
theorem q1835 : (Jvm.Cond.soleField "SpeaksInTurnModel" "keptFirst") ∈ lw_all := lw_g (lw_at lw_m8 46 rfl) rfl
theorem q1836 : (Jvm.Cond.laysFinal "SpeaksInTurnModel" "SpeaksInTurnModel" "keptIn" "[I") ∈ lw_all := lw_g (lw_at lw_m8 47 rfl) rfl
theorem q1837 : (Jvm.Cond.soleField "SpeaksInTurnModel" "keptIn") ∈ lw_all := lw_g (lw_at lw_m8 48 rfl) rfl
theorem q1838 : (Jvm.Cond.laysFinal "SpeaksInTurnModel" "SpeaksInTurnModel" "keptThere" "[I") ∈ lw_all := lw_g (lw_at lw_m8 49 rfl) rfl
theorem q1839 : (Jvm.Cond.soleField "SpeaksInTurnModel" "keptThere") ∈ lw_all := lw_g (lw_at lw_m8 50 rfl) rfl
theorem q1840 : (Jvm.Cond.lays "SpeaksInTurnModel" "SpeaksInTurnModel" "bestOne" "I") ∈ lw_all := lw_g (lw_at lw_m8 51 rfl) rfl
theorem q1841 : (Jvm.Cond.soleField "SpeaksInTurnModel" "bestOne") ∈ lw_all := lw_g (lw_at lw_m8 52 rfl) rfl
theorem q1842 : (Jvm.Cond.lays "SpeaksInTurnModel" "SpeaksInTurnModel" "bestWrong" "I") ∈ lw_all := lw_g (lw_at lw_m8 53 rfl) rfl
theorem q1843 : (Jvm.Cond.soleField "SpeaksInTurnModel" "bestWrong") ∈ lw_all := lw_g (lw_at lw_m8 54 rfl) rfl
theorem q1844 : (Jvm.Cond.lays "SpeaksInTurnModel" "SpeaksInTurnModel" "bestCost" "I") ∈ lw_all := lw_g (lw_at lw_m8 55 rfl) rfl
theorem q1845 : (Jvm.Cond.soleField "SpeaksInTurnModel" "bestCost") ∈ lw_all := lw_g (lw_at lw_m8 56 rfl) rfl
theorem q1846 : (Jvm.Cond.lays "SpeaksInTurnModel" "SpeaksInTurnModel" "bodies" "I") ∈ lw_all := lw_g (lw_at lw_m8 57 rfl) rfl
theorem q1847 : (Jvm.Cond.soleField "SpeaksInTurnModel" "bodies") ∈ lw_all := lw_g (lw_at lw_m8 58 rfl) rfl
theorem q1848 : (Jvm.Cond.laysFinal "SpeaksInTurnModel" "SpeaksInTurnModel" "bodyKind" "[I") ∈ lw_all := lw_g (lw_at lw_m8 59 rfl) rfl
theorem q1849 : (Jvm.Cond.soleField "SpeaksInTurnModel" "bodyKind") ∈ lw_all := lw_g (lw_at lw_m8 60 rfl) rfl
theorem q1850 : (Jvm.Cond.laysFinal "SpeaksInTurnModel" "SpeaksInTurnModel" "trace" "[I") ∈ lw_all := lw_g (lw_at lw_m8 61 rfl) rfl
theorem q1851 : (Jvm.Cond.soleField "SpeaksInTurnModel" "trace") ∈ lw_all := lw_g (lw_at lw_m8 62 rfl) rfl
theorem q1852 : (Jvm.Cond.lays "SpeaksInTurnModel" "SpeaksInTurnModel" "ran" "I") ∈ lw_all := lw_g (lw_at lw_m8 63 rfl) rfl
theorem q1853 : (Jvm.Cond.soleField "SpeaksInTurnModel" "ran") ∈ lw_all := lw_g (lw_at lw_m8 64 rfl) rfl
theorem q1854 : (Jvm.Cond.lays "SpeaksInTurnModel" "SpeaksInTurnModel" "ownKind" "I") ∈ lw_all := lw_g (lw_at lw_m8 65 rfl) rfl
theorem q1855 : (Jvm.Cond.soleField "SpeaksInTurnModel" "ownKind") ∈ lw_all := lw_g (lw_at lw_m8 66 rfl) rfl
theorem q1856 : (Jvm.Cond.lays "SpeaksInTurnModel" "SpeaksInTurnModel" "ownNumber" "I") ∈ lw_all := lw_g (lw_at lw_m8 67 rfl) rfl
theorem q1857 : (Jvm.Cond.soleField "SpeaksInTurnModel" "ownNumber") ∈ lw_all := lw_g (lw_at lw_m8 68 rfl) rfl
theorem q1858 : (Jvm.Cond.laysFinal "SpeaksInTurnModel" "SpeaksInTurnModel" "shelf" "[I") ∈ lw_all := lw_g (lw_at lw_m8 69 rfl) rfl
theorem q1859 : (Jvm.Cond.soleField "SpeaksInTurnModel" "shelf") ∈ lw_all := lw_g (lw_at lw_m8 70 rfl) rfl
theorem q1860 : (Jvm.Cond.laysFinal "SpeaksInTurnModel" "SpeaksInTurnModel" "many" "[I") ∈ lw_all := lw_g (lw_at lw_m8 71 rfl) rfl
theorem q1861 : (Jvm.Cond.soleField "SpeaksInTurnModel" "many") ∈ lw_all := lw_g (lw_at lw_m8 72 rfl) rfl
theorem q1862 : (Jvm.Cond.laysFinal "SpeaksInTurnModel" "SpeaksInTurnModel" "items" "[J") ∈ lw_all := lw_g (lw_at lw_m8 73 rfl) rfl
theorem q1863 : (Jvm.Cond.soleField "SpeaksInTurnModel" "items") ∈ lw_all := lw_g (lw_at lw_m8 74 rfl) rfl
theorem q1864 : (Jvm.Cond.laysFinal "SpeaksInTurnModel" "SpeaksInTurnModel" "carried" "[J") ∈ lw_all := lw_g (lw_at lw_m8 75 rfl) rfl
theorem q1865 : (Jvm.Cond.soleField "SpeaksInTurnModel" "carried") ∈ lw_all := lw_g (lw_at lw_m8 76 rfl) rfl
theorem q1866 : (Jvm.Cond.superclass "SpeaksInTurnModel" "java/lang/Object") ∈ lw_all := lw_g (lw_at lw_m8 77 rfl) rfl
theorem q1868 : (Jvm.Cond.instanceMethod ({ cls := "SpeaksInTurnModel", name := "undo", desc := "()I" } : Jvm.MethodName)) ∈ lw_all := lw_g (lw_at lw_m8 79 rfl) rfl
theorem q1869 : (Jvm.Cond.selects "SpeaksInTurnModel" ({ cls := "SpeaksInTurnModel", name := "undo", desc := "()I" } : Jvm.MethodName) ({ cls := "SpeaksInTurnModel", name := "undo", desc := "()I" } : Jvm.MethodName)) ∈ lw_all := lw_g (lw_at lw_m8 80 rfl) rfl
theorem q1870 : (Jvm.Cond.code ({ cls := "SpeaksInTurnModel", name := "undo", desc := "()I" } : Jvm.MethodName) prog_34_method_5_code (1 : Nat) (Option.some Jvm.ClassFile.FieldType.int)) ∈ lw_all := lw_g (lw_at lw_m8 81 rfl) rfl
theorem q1872 : (Jvm.Cond.instanceMethod ({ cls := "SpeaksInTurnModel", name := "redo", desc := "()I" } : Jvm.MethodName)) ∈ lw_all := lw_g (lw_at lw_m8 83 rfl) rfl
theorem q1873 : (Jvm.Cond.selects "SpeaksInTurnModel" ({ cls := "SpeaksInTurnModel", name := "redo", desc := "()I" } : Jvm.MethodName) ({ cls := "SpeaksInTurnModel", name := "redo", desc := "()I" } : Jvm.MethodName)) ∈ lw_all := lw_g (lw_at lw_m8 84 rfl) rfl
theorem q1874 : (Jvm.Cond.code ({ cls := "SpeaksInTurnModel", name := "redo", desc := "()I" } : Jvm.MethodName) prog_34_method_6_code (1 : Nat) (Option.some Jvm.ClassFile.FieldType.int)) ∈ lw_all := lw_g (lw_at lw_m8 85 rfl) rfl
theorem q1876 : (Jvm.Cond.instanceMethod ({ cls := "SpeaksInTurnModel", name := "person", desc := "(II)I" } : Jvm.MethodName)) ∈ lw_all := lw_g (lw_at lw_m8 87 rfl) rfl
theorem q1877 : (Jvm.Cond.selects "SpeaksInTurnModel" ({ cls := "SpeaksInTurnModel", name := "person", desc := "(II)I" } : Jvm.MethodName) ({ cls := "SpeaksInTurnModel", name := "person", desc := "(II)I" } : Jvm.MethodName)) ∈ lw_all := lw_g (lw_at lw_m8 88 rfl) rfl
theorem q1878 : (Jvm.Cond.code ({ cls := "SpeaksInTurnModel", name := "person", desc := "(II)I" } : Jvm.MethodName) prog_34_method_11_code (3 : Nat) (Option.some Jvm.ClassFile.FieldType.int)) ∈ lw_all := lw_g (lw_at lw_m8 89 rfl) rfl
theorem q1879 : (Jvm.Cond.constantLong "SpeaksInTurnModel" (174 : Nat) (99 : Int64)) ∈ lw_all := lw_g (lw_at lw_m8 90 rfl) rfl
theorem q1880 : (Jvm.Cond.methodLink "SpeaksInTurnModel" (162 : Nat) ({ cls := "SpeaksInTurnModel", name := "within", desc := "(JJJ)Z" } : Jvm.MethodName)) ∈ lw_all := lw_g (lw_at lw_m8 91 rfl) rfl
theorem q1881 : (Jvm.Cond.static ({ cls := "SpeaksInTurnModel", name := "within", desc := "(JJJ)Z" } : Jvm.MethodName)) ∈ lw_all := lw_g (lw_at lw_m8 92 rfl) rfl
theorem q1882 : (Jvm.Cond.code ({ cls := "SpeaksInTurnModel", name := "within", desc := "(JJJ)Z" } : Jvm.MethodName) prog_34_method_1_code (6 : Nat) (Option.some Jvm.ClassFile.FieldType.boolean)) ∈ lw_all := lw_g (lw_at lw_m8 93 rfl) rfl
theorem q1883 : (Jvm.Cond.constantLong "SpeaksInTurnModel" (176 : Nat) (9999 : Int64)) ∈ lw_all := lw_g (lw_at lw_m8 94 rfl) rfl
theorem q1885 : (Jvm.Cond.instanceMethod ({ cls := "SpeaksInTurnModel", name := "thing", desc := "(II)I" } : Jvm.MethodName)) ∈ lw_all := lw_g (lw_at lw_m8 96 rfl) rfl
theorem q1886 : (Jvm.Cond.selects "SpeaksInTurnModel" ({ cls := "SpeaksInTurnModel", name := "thing", desc := "(II)I" } : Jvm.MethodName) ({ cls := "SpeaksInTurnModel", name := "thing", desc := "(II)I" } : Jvm.MethodName)) ∈ lw_all := lw_g (lw_at lw_m8 97 rfl) rfl
theorem q1887 : (Jvm.Cond.code ({ cls := "SpeaksInTurnModel", name := "thing", desc := "(II)I" } : Jvm.MethodName) prog_34_method_13_code (3 : Nat) (Option.some Jvm.ClassFile.FieldType.int)) ∈ lw_all := lw_g (lw_at lw_m8 98 rfl) rfl
theorem q1888 : (Jvm.Cond.methodLink "SpeaksInTurnModel" (180 : Nat) ({ cls := "SpeaksInTurnModel", name := "isWorth", desc := "(I)Z" } : Jvm.MethodName)) ∈ lw_all := lw_g (lw_at lw_m8 99 rfl) rfl
theorem q1889 : (Jvm.Cond.static ({ cls := "SpeaksInTurnModel", name := "isWorth", desc := "(I)Z" } : Jvm.MethodName)) ∈ lw_all := lw_g (lw_at lw_m8 100 rfl) rfl
theorem q1890 : (Jvm.Cond.code ({ cls := "SpeaksInTurnModel", name := "isWorth", desc := "(I)Z" } : Jvm.MethodName) prog_34_method_12_code (1 : Nat) (Option.some Jvm.ClassFile.FieldType.boolean)) ∈ lw_all := lw_g (lw_at lw_m8 101 rfl) rfl
theorem q1891 : (Jvm.Cond.constantLong "SpeaksInTurnModel" (178 : Nat) (-99 : Int64)) ∈ lw_all := lw_g (lw_at lw_m8 102 rfl) rfl
theorem q1892 : (Jvm.Cond.methodLink "SpeaksInTurnModel" (184 : Nat) ({ cls := "SpeaksInTurnModel", name := "isDigit1", desc := "(I)Z" } : Jvm.MethodName)) ∈ lw_all := lw_g (lw_at lw_m8 103 rfl) rfl
theorem q1893 : (Jvm.Cond.static ({ cls := "SpeaksInTurnModel", name := "isDigit1", desc := "(I)Z" } : Jvm.MethodName)) ∈ lw_all := lw_g (lw_at lw_m8 104 rfl) rfl
theorem q1894 : (Jvm.Cond.code ({ cls := "SpeaksInTurnModel", name := "isDigit1", desc := "(I)Z" } : Jvm.MethodName) prog_34_method_10_code (1 : Nat) (Option.some Jvm.ClassFile.FieldType.boolean)) ∈ lw_all := lw_g (lw_at lw_m8 105 rfl) rfl
theorem q1895 : (Jvm.Cond.constantLong "SpeaksInTurnModel" (172 : Nat) (9 : Int64)) ∈ lw_all := lw_g (lw_at lw_m8 106 rfl) rfl
theorem q1897 : (Jvm.Cond.instanceMethod ({ cls := "SpeaksInTurnModel", name := "card", desc := "(III)I" } : Jvm.MethodName)) ∈ lw_all := lw_g (lw_at lw_m8 108 rfl) rfl
theorem q1898 : (Jvm.Cond.selects "SpeaksInTurnModel" ({ cls := "SpeaksInTurnModel", name := "card", desc := "(III)I" } : Jvm.MethodName) ({ cls := "SpeaksInTurnModel", name := "card", desc := "(III)I" } : Jvm.MethodName)) ∈ lw_all := lw_g (lw_at lw_m8 109 rfl) rfl
theorem q1899 : (Jvm.Cond.code ({ cls := "SpeaksInTurnModel", name := "card", desc := "(III)I" } : Jvm.MethodName) prog_34_method_16_code (4 : Nat) (Option.some Jvm.ClassFile.FieldType.int)) ∈ lw_all := lw_g (lw_at lw_m8 110 rfl) rfl
theorem q1900 : (Jvm.Cond.methodLink "SpeaksInTurnModel" (191 : Nat) ({ cls := "SpeaksInTurnModel", name := "isOne", desc := "(JJJ)Z" } : Jvm.MethodName)) ∈ lw_all := lw_g (lw_at lw_m8 111 rfl) rfl
theorem q1901 : (Jvm.Cond.privateMethod ({ cls := "SpeaksInTurnModel", name := "isOne", desc := "(JJJ)Z" } : Jvm.MethodName)) ∈ lw_tbl := lw_at lw_m8 112 rfl
theorem q1902 : (Jvm.Cond.instanceMethod ({ cls := "SpeaksInTurnModel", name := "isOne", desc := "(JJJ)Z" } : Jvm.MethodName)) ∈ lw_all := lw_g (lw_at lw_m8 113 rfl) rfl
theorem q1903 : (Jvm.Cond.code ({ cls := "SpeaksInTurnModel", name := "isOne", desc := "(JJJ)Z" } : Jvm.MethodName) prog_34_method_14_code (7 : Nat) (Option.some Jvm.ClassFile.FieldType.boolean)) ∈ lw_all := lw_g (lw_at lw_m8 114 rfl) rfl
theorem q1904 : (Jvm.Cond.constantLong "SpeaksInTurnModel" (187 : Nat) (-9 : Int64)) ∈ lw_all := lw_g (lw_at lw_m8 115 rfl) rfl
theorem q1905 : (Jvm.Cond.constantLong "SpeaksInTurnModel" (189 : Nat) (1023 : Int64)) ∈ lw_all := lw_g (lw_at lw_m8 116 rfl) rfl
theorem q1906 : (Jvm.Cond.methodLink "SpeaksInTurnModel" (194 : Nat) ({ cls := "SpeaksInTurnModel", name := "adds", desc := "(III)V" } : Jvm.MethodName)) ∈ lw_all := lw_g (lw_at lw_m8 117 rfl) rfl
theorem q1907 : (Jvm.Cond.privateMethod ({ cls := "SpeaksInTurnModel", name := "adds", desc := "(III)V" } : Jvm.MethodName)) ∈ lw_tbl := lw_at lw_m8 118 rfl
theorem q1908 : (Jvm.Cond.instanceMethod ({ cls := "SpeaksInTurnModel", name := "adds", desc := "(III)V" } : Jvm.MethodName)) ∈ lw_all := lw_g (lw_at lw_m8 119 rfl) rfl
theorem q1909 : (Jvm.Cond.code ({ cls := "SpeaksInTurnModel", name := "adds", desc := "(III)V" } : Jvm.MethodName) prog_34_method_15_code (4 : Nat) (Option.none : Option Jvm.ClassFile.FieldType)) ∈ lw_all := lw_g (lw_at lw_m8 120 rfl) rfl
theorem q1911 : (Jvm.Cond.instanceMethod ({ cls := "SpeaksInTurnModel", name := "cards", desc := "(III)I" } : Jvm.MethodName)) ∈ lw_all := lw_g (lw_at lw_m8 122 rfl) rfl
theorem q1912 : (Jvm.Cond.selects "SpeaksInTurnModel" ({ cls := "SpeaksInTurnModel", name := "cards", desc := "(III)I" } : Jvm.MethodName) ({ cls := "SpeaksInTurnModel", name := "cards", desc := "(III)I" } : Jvm.MethodName)) ∈ lw_all := lw_g (lw_at lw_m8 123 rfl) rfl
theorem q1913 : (Jvm.Cond.code ({ cls := "SpeaksInTurnModel", name := "cards", desc := "(III)I" } : Jvm.MethodName) prog_34_method_17_code (7 : Nat) (Option.some Jvm.ClassFile.FieldType.int)) ∈ lw_all := lw_g (lw_at lw_m8 124 rfl) rfl
theorem q1914 : (Jvm.Cond.methodLink "SpeaksInTurnModel" (198 : Nat) ({ cls := "SpeaksInTurnModel", name := "isShelf", desc := "(I)Z" } : Jvm.MethodName)) ∈ lw_all := lw_g (lw_at lw_m8 125 rfl) rfl
theorem q1915 : (Jvm.Cond.static ({ cls := "SpeaksInTurnModel", name := "isShelf", desc := "(I)Z" } : Jvm.MethodName)) ∈ lw_all := lw_g (lw_at lw_m8 126 rfl) rfl
theorem q1916 : (Jvm.Cond.code ({ cls := "SpeaksInTurnModel", name := "isShelf", desc := "(I)Z" } : Jvm.MethodName) prog_34_method_93_code (1 : Nat) (Option.some Jvm.ClassFile.FieldType.boolean)) ∈ lw_all := lw_g (lw_at lw_m8 127 rfl) rfl
theorem q1917 : (Jvm.Cond.constantLong "SpeaksInTurnModel" (203 : Nat) (5 : Int64)) ∈ lw_all := lw_g (lw_at lw_m8 128 rfl) rfl
theorem q1918 : (Jvm.Cond.constantLong "SpeaksInTurnModel" (201 : Nat) (20 : Int64)) ∈ lw_all := lw_g (lw_at lw_m8 129 rfl) rfl
theorem q1920 : (Jvm.Cond.instanceMethod ({ cls := "SpeaksInTurnModel", name := "set", desc := "(II)I" } : Jvm.MethodName)) ∈ lw_all := lw_g (lw_at lw_m8 131 rfl) rfl
theorem q1921 : (Jvm.Cond.selects "SpeaksInTurnModel" ({ cls := "SpeaksInTurnModel", name := "set", desc := "(II)I" } : Jvm.MethodName) ({ cls := "SpeaksInTurnModel", name := "set", desc := "(II)I" } : Jvm.MethodName)) ∈ lw_all := lw_g (lw_at lw_m8 132 rfl) rfl
theorem q1922 : (Jvm.Cond.code ({ cls := "SpeaksInTurnModel", name := "set", desc := "(II)I" } : Jvm.MethodName) prog_34_method_18_code (4 : Nat) (Option.some Jvm.ClassFile.FieldType.int)) ∈ lw_all := lw_g (lw_at lw_m8 133 rfl) rfl
theorem q1924 : (Jvm.Cond.instanceMethod ({ cls := "SpeaksInTurnModel", name := "mend", desc := "(III)I" } : Jvm.MethodName)) ∈ lw_all := lw_g (lw_at lw_m8 135 rfl) rfl
theorem q1925 : (Jvm.Cond.selects "SpeaksInTurnModel" ({ cls := "SpeaksInTurnModel", name := "mend", desc := "(III)I" } : Jvm.MethodName) ({ cls := "SpeaksInTurnModel", name := "mend", desc := "(III)I" } : Jvm.MethodName)) ∈ lw_all := lw_g (lw_at lw_m8 136 rfl) rfl
theorem q1926 : (Jvm.Cond.code ({ cls := "SpeaksInTurnModel", name := "mend", desc := "(III)I" } : Jvm.MethodName) prog_34_method_19_code (4 : Nat) (Option.some Jvm.ClassFile.FieldType.int)) ∈ lw_all := lw_g (lw_at lw_m8 137 rfl) rfl
theorem q1927 : (Jvm.Cond.methodLink "SpeaksInTurnModel" (211 : Nat) ({ cls := "SpeaksInTurnModel", name := "isPerson", desc := "(I)Z" } : Jvm.MethodName)) ∈ lw_all := lw_g (lw_at lw_m8 138 rfl) rfl
theorem q1928 : (Jvm.Cond.privateMethod ({ cls := "SpeaksInTurnModel", name := "isPerson", desc := "(I)Z" } : Jvm.MethodName)) ∈ lw_tbl := lw_at lw_m8 139 rfl
theorem q1929 : (Jvm.Cond.instanceMethod ({ cls := "SpeaksInTurnModel", name := "isPerson", desc := "(I)Z" } : Jvm.MethodName)) ∈ lw_all := lw_g (lw_at lw_m8 140 rfl) rfl
theorem q1930 : (Jvm.Cond.code ({ cls := "SpeaksInTurnModel", name := "isPerson", desc := "(I)Z" } : Jvm.MethodName) prog_34_method_7_code (2 : Nat) (Option.some Jvm.ClassFile.FieldType.boolean)) ∈ lw_all := lw_g (lw_at lw_m8 141 rfl) rfl
theorem q1931 : (Jvm.Cond.methodLink "SpeaksInTurnModel" (214 : Nat) ({ cls := "SpeaksInTurnModel", name := "becomes", desc := "(II)I" } : Jvm.MethodName)) ∈ lw_all := lw_g (lw_at lw_m8 142 rfl) rfl
theorem q1932 : (Jvm.Cond.privateMethod ({ cls := "SpeaksInTurnModel", name := "becomes", desc := "(II)I" } : Jvm.MethodName)) ∈ lw_tbl := lw_at lw_m8 143 rfl
theorem q1933 : (Jvm.Cond.instanceMethod ({ cls := "SpeaksInTurnModel", name := "becomes", desc := "(II)I" } : Jvm.MethodName)) ∈ lw_all := lw_g (lw_at lw_m8 144 rfl) rfl
theorem q1934 : (Jvm.Cond.code ({ cls := "SpeaksInTurnModel", name := "becomes", desc := "(II)I" } : Jvm.MethodName) prog_34_method_4_code (5 : Nat) (Option.some Jvm.ClassFile.FieldType.int)) ∈ lw_all := lw_g (lw_at lw_m8 145 rfl) rfl
theorem q1935 : (Jvm.Cond.constant "SpeaksInTurnModel" (218 : Nat) (-2000000000 : Int32)) ∈ lw_all := lw_g (lw_at lw_m8 146 rfl) rfl
theorem q1936 : (Jvm.Cond.methodLink "SpeaksInTurnModel" (219 : Nat) ({ cls := "SpeaksInTurnModel", name := "isThing", desc := "(I)Z" } : Jvm.MethodName)) ∈ lw_all := lw_g (lw_at lw_m8 147 rfl) rfl
theorem q1937 : (Jvm.Cond.privateMethod ({ cls := "SpeaksInTurnModel", name := "isThing", desc := "(I)Z" } : Jvm.MethodName)) ∈ lw_tbl := lw_at lw_m8 148 rfl
theorem q1938 : (Jvm.Cond.instanceMethod ({ cls := "SpeaksInTurnModel", name := "isThing", desc := "(I)Z" } : Jvm.MethodName)) ∈ lw_all := lw_g (lw_at lw_m8 149 rfl) rfl
theorem q1939 : (Jvm.Cond.code ({ cls := "SpeaksInTurnModel", name := "isThing", desc := "(I)Z" } : Jvm.MethodName) prog_34_method_8_code (2 : Nat) (Option.some Jvm.ClassFile.FieldType.boolean)) ∈ lw_all := lw_g (lw_at lw_m8 150 rfl) rfl
theorem q1941 : (Jvm.Cond.instanceMethod ({ cls := "SpeaksInTurnModel", name := "of", desc := "(II)I" } : Jvm.MethodName)) ∈ lw_all := lw_g (lw_at lw_m8 152 rfl) rfl
theorem q1942 : (Jvm.Cond.selects "SpeaksInTurnModel" ({ cls := "SpeaksInTurnModel", name := "of", desc := "(II)I" } : Jvm.MethodName) ({ cls := "SpeaksInTurnModel", name := "of", desc := "(II)I" } : Jvm.MethodName)) ∈ lw_all := lw_g (lw_at lw_m8 153 rfl) rfl
theorem q1943 : (Jvm.Cond.code ({ cls := "SpeaksInTurnModel", name := "of", desc := "(II)I" } : Jvm.MethodName) prog_34_method_20_code (3 : Nat) (Option.some Jvm.ClassFile.FieldType.int)) ∈ lw_all := lw_g (lw_at lw_m8 154 rfl) rfl
theorem q1944 : (Jvm.Cond.methodLink "SpeaksInTurnModel" (222 : Nat) ({ cls := "SpeaksInTurnModel", name := "isCard", desc := "(I)Z" } : Jvm.MethodName)) ∈ lw_all := lw_g (lw_at lw_m8 155 rfl) rfl
theorem q1945 : (Jvm.Cond.privateMethod ({ cls := "SpeaksInTurnModel", name := "isCard", desc := "(I)Z" } : Jvm.MethodName)) ∈ lw_tbl := lw_at lw_m8 156 rfl
theorem q1946 : (Jvm.Cond.instanceMethod ({ cls := "SpeaksInTurnModel", name := "isCard", desc := "(I)Z" } : Jvm.MethodName)) ∈ lw_all := lw_g (lw_at lw_m8 157 rfl) rfl
theorem q1947 : (Jvm.Cond.code ({ cls := "SpeaksInTurnModel", name := "isCard", desc := "(I)Z" } : Jvm.MethodName) prog_34_method_9_code (2 : Nat) (Option.some Jvm.ClassFile.FieldType.boolean)) ∈ lw_all := lw_g (lw_at lw_m8 158 rfl) rfl
theorem q1949 : (Jvm.Cond.instanceMethod ({ cls := "SpeaksInTurnModel", name := "feed", desc := "(I)I" } : Jvm.MethodName)) ∈ lw_all := lw_g (lw_at lw_m8 160 rfl) rfl
theorem q1950 : (Jvm.Cond.selects "SpeaksInTurnModel" ({ cls := "SpeaksInTurnModel", name := "feed", desc := "(I)I" } : Jvm.MethodName) ({ cls := "SpeaksInTurnModel", name := "feed", desc := "(I)I" } : Jvm.MethodName)) ∈ lw_all := lw_g (lw_at lw_m8 161 rfl) rfl
theorem q1951 : (Jvm.Cond.code ({ cls := "SpeaksInTurnModel", name := "feed", desc := "(I)I" } : Jvm.MethodName) prog_34_method_21_code (2 : Nat) (Option.some Jvm.ClassFile.FieldType.int)) ∈ lw_all := lw_g (lw_at lw_m8 162 rfl) rfl
theorem q1952 : (Jvm.Cond.constantLong "SpeaksInTurnModel" (225 : Nat) (255 : Int64)) ∈ lw_all := lw_g (lw_at lw_m8 163 rfl) rfl
theorem q1954 : (Jvm.Cond.instanceMethod ({ cls := "SpeaksInTurnModel", name := "law", desc := "()I" } : Jvm.MethodName)) ∈ lw_all := lw_g (lw_at lw_m8 165 rfl) rfl
theorem q1955 : (Jvm.Cond.selects "SpeaksInTurnModel" ({ cls := "SpeaksInTurnModel", name := "law", desc := "()I" } : Jvm.MethodName) ({ cls := "SpeaksInTurnModel", name := "law", desc := "()I" } : Jvm.MethodName)) ∈ lw_all := lw_g (lw_at lw_m8 166 rfl) rfl
theorem q1956 : (Jvm.Cond.code ({ cls := "SpeaksInTurnModel", name := "law", desc := "()I" } : Jvm.MethodName) prog_34_method_33_code (4 : Nat) (Option.some Jvm.ClassFile.FieldType.int)) ∈ lw_all := lw_g (lw_at lw_m8 167 rfl) rfl
theorem q1957 : (Jvm.Cond.methodLink "SpeaksInTurnModel" (277 : Nat) ({ cls := "SpeaksInTurnModel", name := "workOut", desc := "(II)I" } : Jvm.MethodName)) ∈ lw_all := lw_g (lw_at lw_m8 168 rfl) rfl
theorem q1958 : (Jvm.Cond.privateMethod ({ cls := "SpeaksInTurnModel", name := "workOut", desc := "(II)I" } : Jvm.MethodName)) ∈ lw_tbl := lw_at lw_m8 169 rfl
theorem q1959 : (Jvm.Cond.instanceMethod ({ cls := "SpeaksInTurnModel", name := "workOut", desc := "(II)I" } : Jvm.MethodName)) ∈ lw_all := lw_g (lw_at lw_m8 170 rfl) rfl
theorem q1960 : (Jvm.Cond.code ({ cls := "SpeaksInTurnModel", name := "workOut", desc := "(II)I" } : Jvm.MethodName) prog_34_method_32_code (8 : Nat) (Option.some Jvm.ClassFile.FieldType.int)) ∈ lw_all := lw_g (lw_at lw_m8 171 rfl) rfl
theorem q1961 : (Jvm.Cond.methodLink "SpeaksInTurnModel" (270 : Nat) ({ cls := "SpeaksInTurnModel", name := "either", desc := "()I" } : Jvm.MethodName)) ∈ lw_all := lw_g (lw_at lw_m8 172 rfl) rfl
theorem q1962 : (Jvm.Cond.privateMethod ({ cls := "SpeaksInTurnModel", name := "either", desc := "()I" } : Jvm.MethodName)) ∈ lw_tbl := lw_at lw_m8 173 rfl
theorem q1963 : (Jvm.Cond.instanceMethod ({ cls := "SpeaksInTurnModel", name := "either", desc := "()I" } : Jvm.MethodName)) ∈ lw_all := lw_g (lw_at lw_m8 174 rfl) rfl
theorem q1964 : (Jvm.Cond.code ({ cls := "SpeaksInTurnModel", name := "either", desc := "()I" } : Jvm.MethodName) prog_34_method_25_code (3 : Nat) (Option.some Jvm.ClassFile.FieldType.int)) ∈ lw_all := lw_g (lw_at lw_m8 175 rfl) rfl
theorem q1965 : (Jvm.Cond.methodLink "SpeaksInTurnModel" (246 : Nat) ({ cls := "SpeaksInTurnModel", name := "both", desc := "()I" } : Jvm.MethodName)) ∈ lw_all := lw_g (lw_at lw_m8 176 rfl) rfl
theorem q1966 : (Jvm.Cond.privateMethod ({ cls := "SpeaksInTurnModel", name := "both", desc := "()I" } : Jvm.MethodName)) ∈ lw_tbl := lw_at lw_m8 177 rfl
theorem q1967 : (Jvm.Cond.instanceMethod ({ cls := "SpeaksInTurnModel", name := "both", desc := "()I" } : Jvm.MethodName)) ∈ lw_all := lw_g (lw_at lw_m8 178 rfl) rfl
theorem q1968 : (Jvm.Cond.code ({ cls := "SpeaksInTurnModel", name := "both", desc := "()I" } : Jvm.MethodName) prog_34_method_26_code (3 : Nat) (Option.some Jvm.ClassFile.FieldType.int)) ∈ lw_all := lw_g (lw_at lw_m8 179 rfl) rfl
theorem q1969 : (Jvm.Cond.methodLink "SpeaksInTurnModel" (252 : Nat) ({ cls := "SpeaksInTurnModel", name := "compared", desc := "()I" } : Jvm.MethodName)) ∈ lw_all := lw_g (lw_at lw_m8 180 rfl) rfl
theorem q1970 : (Jvm.Cond.privateMethod ({ cls := "SpeaksInTurnModel", name := "compared", desc := "()I" } : Jvm.MethodName)) ∈ lw_tbl := lw_at lw_m8 181 rfl
theorem q1971 : (Jvm.Cond.instanceMethod ({ cls := "SpeaksInTurnModel", name := "compared", desc := "()I" } : Jvm.MethodName)) ∈ lw_all := lw_g (lw_at lw_m8 182 rfl) rfl
theorem q1972 : (Jvm.Cond.code ({ cls := "SpeaksInTurnModel", name := "compared", desc := "()I" } : Jvm.MethodName) prog_34_method_27_code (4 : Nat) (Option.some Jvm.ClassFile.FieldType.int)) ∈ lw_all := lw_g (lw_at lw_m8 183 rfl) rfl
theorem q1973 : (Jvm.Cond.methodLink "SpeaksInTurnModel" (255 : Nat) ({ cls := "SpeaksInTurnModel", name := "sums", desc := "()I" } : Jvm.MethodName)) ∈ lw_all := lw_g (lw_at lw_m8 184 rfl) rfl
theorem q1974 : (Jvm.Cond.privateMethod ({ cls := "SpeaksInTurnModel", name := "sums", desc := "()I" } : Jvm.MethodName)) ∈ lw_tbl := lw_at lw_m8 185 rfl
theorem q1975 : (Jvm.Cond.instanceMethod ({ cls := "SpeaksInTurnModel", name := "sums", desc := "()I" } : Jvm.MethodName)) ∈ lw_all := lw_g (lw_at lw_m8 186 rfl) rfl
theorem q1976 : (Jvm.Cond.code ({ cls := "SpeaksInTurnModel", name := "sums", desc := "()I" } : Jvm.MethodName) prog_34_method_28_code (4 : Nat) (Option.some Jvm.ClassFile.FieldType.int)) ∈ lw_all := lw_g (lw_at lw_m8 187 rfl) rfl
theorem q1977 : (Jvm.Cond.methodLink "SpeaksInTurnModel" (258 : Nat) ({ cls := "SpeaksInTurnModel", name := "product", desc := "()I" } : Jvm.MethodName)) ∈ lw_all := lw_g (lw_at lw_m8 188 rfl) rfl
theorem q1978 : (Jvm.Cond.privateMethod ({ cls := "SpeaksInTurnModel", name := "product", desc := "()I" } : Jvm.MethodName)) ∈ lw_tbl := lw_at lw_m8 189 rfl
theorem q1979 : (Jvm.Cond.instanceMethod ({ cls := "SpeaksInTurnModel", name := "product", desc := "()I" } : Jvm.MethodName)) ∈ lw_all := lw_g (lw_at lw_m8 190 rfl) rfl
theorem q1980 : (Jvm.Cond.code ({ cls := "SpeaksInTurnModel", name := "product", desc := "()I" } : Jvm.MethodName) prog_34_method_29_code (4 : Nat) (Option.some Jvm.ClassFile.FieldType.int)) ∈ lw_all := lw_g (lw_at lw_m8 191 rfl) rfl
theorem q1981 : (Jvm.Cond.methodLink "SpeaksInTurnModel" (261 : Nat) ({ cls := "SpeaksInTurnModel", name := "one", desc := "()I" } : Jvm.MethodName)) ∈ lw_all := lw_g (lw_at lw_m8 192 rfl) rfl
theorem q1982 : (Jvm.Cond.privateMethod ({ cls := "SpeaksInTurnModel", name := "one", desc := "()I" } : Jvm.MethodName)) ∈ lw_tbl := lw_at lw_m8 193 rfl
theorem q1983 : (Jvm.Cond.instanceMethod ({ cls := "SpeaksInTurnModel", name := "one", desc := "()I" } : Jvm.MethodName)) ∈ lw_all := lw_g (lw_at lw_m8 194 rfl) rfl
theorem q1984 : (Jvm.Cond.code ({ cls := "SpeaksInTurnModel", name := "one", desc := "()I" } : Jvm.MethodName) prog_34_method_31_code (5 : Nat) (Option.some Jvm.ClassFile.FieldType.int)) ∈ lw_all := lw_g (lw_at lw_m8 195 rfl) rfl
theorem q1985 : (Jvm.Cond.methodLink "SpeaksInTurnModel" (242 : Nat) ({ cls := "SpeaksInTurnModel", name := "byteAt", desc := "()I" } : Jvm.MethodName)) ∈ lw_all := lw_g (lw_at lw_m8 196 rfl) rfl
theorem q1986 : (Jvm.Cond.privateMethod ({ cls := "SpeaksInTurnModel", name := "byteAt", desc := "()I" } : Jvm.MethodName)) ∈ lw_tbl := lw_at lw_m8 197 rfl
theorem q1987 : (Jvm.Cond.instanceMethod ({ cls := "SpeaksInTurnModel", name := "byteAt", desc := "()I" } : Jvm.MethodName)) ∈ lw_all := lw_g (lw_at lw_m8 198 rfl) rfl
theorem q1988 : (Jvm.Cond.code ({ cls := "SpeaksInTurnModel", name := "byteAt", desc := "()I" } : Jvm.MethodName) prog_34_method_22_code (1 : Nat) (Option.some Jvm.ClassFile.FieldType.int)) ∈ lw_all := lw_g (lw_at lw_m8 199 rfl) rfl
theorem q1989 : (Jvm.Cond.methodLink "SpeaksInTurnModel" (267 : Nat) ({ cls := "SpeaksInTurnModel", name := "wrong", desc := "()I" } : Jvm.MethodName)) ∈ lw_all := lw_g (lw_at lw_m8 200 rfl) rfl
theorem q1990 : (Jvm.Cond.privateMethod ({ cls := "SpeaksInTurnModel", name := "wrong", desc := "()I" } : Jvm.MethodName)) ∈ lw_tbl := lw_at lw_m8 201 rfl
theorem q1991 : (Jvm.Cond.instanceMethod ({ cls := "SpeaksInTurnModel", name := "wrong", desc := "()I" } : Jvm.MethodName)) ∈ lw_all := lw_g (lw_at lw_m8 202 rfl) rfl
theorem q1992 : (Jvm.Cond.code ({ cls := "SpeaksInTurnModel", name := "wrong", desc := "()I" } : Jvm.MethodName) prog_34_method_23_code (1 : Nat) (Option.some Jvm.ClassFile.FieldType.int)) ∈ lw_all := lw_g (lw_at lw_m8 203 rfl) rfl
theorem q1993 : (Jvm.Cond.methodLink "SpeaksInTurnModel" (249 : Nat) ({ cls := "SpeaksInTurnModel", name := "takes", desc := "(I)Z" } : Jvm.MethodName)) ∈ lw_all := lw_g (lw_at lw_m8 204 rfl) rfl
theorem q1994 : (Jvm.Cond.privateMethod ({ cls := "SpeaksInTurnModel", name := "takes", desc := "(I)Z" } : Jvm.MethodName)) ∈ lw_tbl := lw_at lw_m8 205 rfl
theorem q1995 : (Jvm.Cond.instanceMethod ({ cls := "SpeaksInTurnModel", name := "takes", desc := "(I)Z" } : Jvm.MethodName)) ∈ lw_all := lw_g (lw_at lw_m8 206 rfl) rfl
theorem q1996 : (Jvm.Cond.code ({ cls := "SpeaksInTurnModel", name := "takes", desc := "(I)Z" } : Jvm.MethodName) prog_34_method_24_code (2 : Nat) (Option.some Jvm.ClassFile.FieldType.boolean)) ∈ lw_all := lw_g (lw_at lw_m8 207 rfl) rfl
theorem q1997 : (Jvm.Cond.methodLink "SpeaksInTurnModel" (273 : Nat) ({ cls := "SpeaksInTurnModel", name := "nameOf", desc := "(I)I" } : Jvm.MethodName)) ∈ lw_all := lw_g (lw_at lw_m8 208 rfl) rfl
theorem q1998 : (Jvm.Cond.static ({ cls := "SpeaksInTurnModel", name := "nameOf", desc := "(I)I" } : Jvm.MethodName)) ∈ lw_all := lw_g (lw_at lw_m8 209 rfl) rfl
theorem q1999 : (Jvm.Cond.code ({ cls := "SpeaksInTurnModel", name := "nameOf", desc := "(I)I" } : Jvm.MethodName) prog_34_method_30_code (1 : Nat) (Option.some Jvm.ClassFile.FieldType.int)) ∈ lw_all := lw_g (lw_at lw_m8 210 rfl) rfl
theorem q2001 : (Jvm.Cond.instanceMethod ({ cls := "SpeaksInTurnModel", name := "meet", desc := "(I)I" } : Jvm.MethodName)) ∈ lw_all := lw_g (lw_at lw_m8 212 rfl) rfl
theorem q2002 : (Jvm.Cond.selects "SpeaksInTurnModel" ({ cls := "SpeaksInTurnModel", name := "meet", desc := "(I)I" } : Jvm.MethodName) ({ cls := "SpeaksInTurnModel", name := "meet", desc := "(I)I" } : Jvm.MethodName)) ∈ lw_all := lw_g (lw_at lw_m8 213 rfl) rfl
theorem q2003 : (Jvm.Cond.code ({ cls := "SpeaksInTurnModel", name := "meet", desc := "(I)I" } : Jvm.MethodName) prog_34_method_68_code (3 : Nat) (Option.some Jvm.ClassFile.FieldType.int)) ∈ lw_all := lw_g (lw_at lw_m8 214 rfl) rfl
theorem q2004 : (Jvm.Cond.methodLink "SpeaksInTurnModel" (388 : Nat) ({ cls := "SpeaksInTurnModel", name := "plain", desc := "()V" } : Jvm.MethodName)) ∈ lw_all := lw_g (lw_at lw_m8 215 rfl) rfl
theorem q2005 : (Jvm.Cond.privateMethod ({ cls := "SpeaksInTurnModel", name := "plain", desc := "()V" } : Jvm.MethodName)) ∈ lw_tbl := lw_at lw_m8 216 rfl
theorem q2006 : (Jvm.Cond.instanceMethod ({ cls := "SpeaksInTurnModel", name := "plain", desc := "()V" } : Jvm.MethodName)) ∈ lw_all := lw_g (lw_at lw_m8 217 rfl) rfl
theorem q2007 : (Jvm.Cond.code ({ cls := "SpeaksInTurnModel", name := "plain", desc := "()V" } : Jvm.MethodName) prog_34_method_34_code (2 : Nat) (Option.none : Option Jvm.ClassFile.FieldType)) ∈ lw_all := lw_g (lw_at lw_m8 218 rfl) rfl
theorem q2008 : (Jvm.Cond.methodLink "SpeaksInTurnModel" (391 : Nat) ({ cls := "SpeaksInTurnModel", name := "isOrder", desc := "(I)Z" } : Jvm.MethodName)) ∈ lw_all := lw_g (lw_at lw_m8 219 rfl) rfl
theorem q2009 : (Jvm.Cond.privateMethod ({ cls := "SpeaksInTurnModel", name := "isOrder", desc := "(I)Z" } : Jvm.MethodName)) ∈ lw_tbl := lw_at lw_m8 220 rfl
theorem q2010 : (Jvm.Cond.instanceMethod ({ cls := "SpeaksInTurnModel", name := "isOrder", desc := "(I)Z" } : Jvm.MethodName)) ∈ lw_all := lw_g (lw_at lw_m8 221 rfl) rfl
theorem q2011 : (Jvm.Cond.code ({ cls := "SpeaksInTurnModel", name := "isOrder", desc := "(I)Z" } : Jvm.MethodName) prog_34_method_66_code (6 : Nat) (Option.some Jvm.ClassFile.FieldType.boolean)) ∈ lw_all := lw_g (lw_at lw_m8 222 rfl) rfl
theorem q2012 : (Jvm.Cond.methodLink "SpeaksInTurnModel" (394 : Nat) ({ cls := "SpeaksInTurnModel", name := "isTable", desc := "()Z" } : Jvm.MethodName)) ∈ lw_all := lw_g (lw_at lw_m8 223 rfl) rfl
theorem q2013 : (Jvm.Cond.privateMethod ({ cls := "SpeaksInTurnModel", name := "isTable", desc := "()Z" } : Jvm.MethodName)) ∈ lw_tbl := lw_at lw_m8 224 rfl
theorem q2014 : (Jvm.Cond.instanceMethod ({ cls := "SpeaksInTurnModel", name := "isTable", desc := "()Z" } : Jvm.MethodName)) ∈ lw_all := lw_g (lw_at lw_m8 225 rfl) rfl
theorem q2015 : (Jvm.Cond.code ({ cls := "SpeaksInTurnModel", name := "isTable", desc := "()Z" } : Jvm.MethodName) prog_34_method_67_code (1 : Nat) (Option.some Jvm.ClassFile.FieldType.boolean)) ∈ lw_all := lw_g (lw_at lw_m8 226 rfl) rfl
theorem q2016 : (Jvm.Cond.methodLink "SpeaksInTurnModel" (398 : Nat) ({ cls := "SpeaksInTurnModel", name := "meets", desc := "()V" } : Jvm.MethodName)) ∈ lw_all := lw_g (lw_at lw_m8 227 rfl) rfl
theorem q2017 : (Jvm.Cond.privateMethod ({ cls := "SpeaksInTurnModel", name := "meets", desc := "()V" } : Jvm.MethodName)) ∈ lw_tbl := lw_at lw_m8 228 rfl
theorem q2018 : (Jvm.Cond.instanceMethod ({ cls := "SpeaksInTurnModel", name := "meets", desc := "()V" } : Jvm.MethodName)) ∈ lw_all := lw_g (lw_at lw_m8 229 rfl) rfl
theorem q2019 : (Jvm.Cond.code ({ cls := "SpeaksInTurnModel", name := "meets", desc := "()V" } : Jvm.MethodName) prog_34_method_52_code (2 : Nat) (Option.none : Option Jvm.ClassFile.FieldType)) ∈ lw_all := lw_g (lw_at lw_m8 230 rfl) rfl
theorem q2020 : (Jvm.Cond.methodLink "SpeaksInTurnModel" (352 : Nat) ({ cls := "SpeaksInTurnModel", name := "oneThing", desc := "(I)V" } : Jvm.MethodName)) ∈ lw_all := lw_g (lw_at lw_m8 231 rfl) rfl
theorem q2021 : (Jvm.Cond.privateMethod ({ cls := "SpeaksInTurnModel", name := "oneThing", desc := "(I)V" } : Jvm.MethodName)) ∈ lw_tbl := lw_at lw_m8 232 rfl
theorem q2022 : (Jvm.Cond.instanceMethod ({ cls := "SpeaksInTurnModel", name := "oneThing", desc := "(I)V" } : Jvm.MethodName)) ∈ lw_all := lw_g (lw_at lw_m8 233 rfl) rfl
theorem q2023 : (Jvm.Cond.code ({ cls := "SpeaksInTurnModel", name := "oneThing", desc := "(I)V" } : Jvm.MethodName) prog_34_method_51_code (4 : Nat) (Option.none : Option Jvm.ClassFile.FieldType)) ∈ lw_all := lw_g (lw_at lw_m8 234 rfl) rfl
theorem q2024 : (Jvm.Cond.methodLink "SpeaksInTurnModel" (337 : Nat) ({ cls := "SpeaksInTurnModel", name := "putsPaper", desc := "(I)V" } : Jvm.MethodName)) ∈ lw_all := lw_g (lw_at lw_m8 235 rfl) rfl
theorem q2025 : (Jvm.Cond.privateMethod ({ cls := "SpeaksInTurnModel", name := "putsPaper", desc := "(I)V" } : Jvm.MethodName)) ∈ lw_tbl := lw_at lw_m8 236 rfl
theorem q2026 : (Jvm.Cond.instanceMethod ({ cls := "SpeaksInTurnModel", name := "putsPaper", desc := "(I)V" } : Jvm.MethodName)) ∈ lw_all := lw_g (lw_at lw_m8 237 rfl) rfl
theorem q2027 : (Jvm.Cond.code ({ cls := "SpeaksInTurnModel", name := "putsPaper", desc := "(I)V" } : Jvm.MethodName) prog_34_method_50_code (4 : Nat) (Option.none : Option Jvm.ClassFile.FieldType)) ∈ lw_all := lw_g (lw_at lw_m8 238 rfl) rfl
theorem q2028 : (Jvm.Cond.methodLink "SpeaksInTurnModel" (296 : Nat) ({ cls := "SpeaksInTurnModel", name := "isSaid", desc := "(I)Z" } : Jvm.MethodName)) ∈ lw_all := lw_g (lw_at lw_m8 239 rfl) rfl
theorem q2029 : (Jvm.Cond.privateMethod ({ cls := "SpeaksInTurnModel", name := "isSaid", desc := "(I)Z" } : Jvm.MethodName)) ∈ lw_tbl := lw_at lw_m9 0 rfl
theorem q2030 : (Jvm.Cond.instanceMethod ({ cls := "SpeaksInTurnModel", name := "isSaid", desc := "(I)Z" } : Jvm.MethodName)) ∈ lw_all := lw_g (lw_at lw_m9 1 rfl) rfl
theorem q2031 : (Jvm.Cond.code ({ cls := "SpeaksInTurnModel", name := "isSaid", desc := "(I)Z" } : Jvm.MethodName) prog_34_method_37_code (2 : Nat) (Option.some Jvm.ClassFile.FieldType.boolean)) ∈ lw_all := lw_g (lw_at lw_m9 2 rfl) rfl
theorem q2032 : (Jvm.Cond.methodLink "SpeaksInTurnModel" (299 : Nat) ({ cls := "SpeaksInTurnModel", name := "isThere", desc := "(I)Z" } : Jvm.MethodName)) ∈ lw_all := lw_g (lw_at lw_m9 3 rfl) rfl
theorem q2033 : (Jvm.Cond.privateMethod ({ cls := "SpeaksInTurnModel", name := "isThere", desc := "(I)Z" } : Jvm.MethodName)) ∈ lw_tbl := lw_at lw_m9 4 rfl
theorem q2034 : (Jvm.Cond.instanceMethod ({ cls := "SpeaksInTurnModel", name := "isThere", desc := "(I)Z" } : Jvm.MethodName)) ∈ lw_all := lw_g (lw_at lw_m9 5 rfl) rfl
theorem q2035 : (Jvm.Cond.code ({ cls := "SpeaksInTurnModel", name := "isThere", desc := "(I)Z" } : Jvm.MethodName) prog_34_method_35_code (2 : Nat) (Option.some Jvm.ClassFile.FieldType.boolean)) ∈ lw_all := lw_g (lw_at lw_m9 6 rfl) rfl
theorem q2036 : (Jvm.Cond.methodLink "SpeaksInTurnModel" (292 : Nat) ({ cls := "SpeaksInTurnModel", name := "knows", desc := "(II)Z" } : Jvm.MethodName)) ∈ lw_all := lw_g (lw_at lw_m9 7 rfl) rfl
theorem q2037 : (Jvm.Cond.privateMethod ({ cls := "SpeaksInTurnModel", name := "knows", desc := "(II)Z" } : Jvm.MethodName)) ∈ lw_tbl := lw_at lw_m9 8 rfl
theorem q2038 : (Jvm.Cond.instanceMethod ({ cls := "SpeaksInTurnModel", name := "knows", desc := "(II)Z" } : Jvm.MethodName)) ∈ lw_all := lw_g (lw_at lw_m9 9 rfl) rfl
theorem q2039 : (Jvm.Cond.code ({ cls := "SpeaksInTurnModel", name := "knows", desc := "(II)Z" } : Jvm.MethodName) prog_34_method_36_code (3 : Nat) (Option.some Jvm.ClassFile.FieldType.boolean)) ∈ lw_all := lw_g (lw_at lw_m9 10 rfl) rfl
theorem q2040 : (Jvm.Cond.methodLink "SpeaksInTurnModel" (324 : Nat) ({ cls := "SpeaksInTurnModel", name := "unsaid", desc := "(II)I" } : Jvm.MethodName)) ∈ lw_all := lw_g (lw_at lw_m9 11 rfl) rfl
theorem q2041 : (Jvm.Cond.privateMethod ({ cls := "SpeaksInTurnModel", name := "unsaid", desc := "(II)I" } : Jvm.MethodName)) ∈ lw_tbl := lw_at lw_m9 12 rfl
theorem q2042 : (Jvm.Cond.instanceMethod ({ cls := "SpeaksInTurnModel", name := "unsaid", desc := "(II)I" } : Jvm.MethodName)) ∈ lw_all := lw_g (lw_at lw_m9 13 rfl) rfl
theorem q2043 : (Jvm.Cond.code ({ cls := "SpeaksInTurnModel", name := "unsaid", desc := "(II)I" } : Jvm.MethodName) prog_34_method_38_code (5 : Nat) (Option.some Jvm.ClassFile.FieldType.int)) ∈ lw_all := lw_g (lw_at lw_m9 14 rfl) rfl
theorem q2044 : (Jvm.Cond.methodLink "SpeaksInTurnModel" (341 : Nat) ({ cls := "SpeaksInTurnModel", name := "wishOf", desc := "(IIIIII)I" } : Jvm.MethodName)) ∈ lw_all := lw_g (lw_at lw_m9 15 rfl) rfl
theorem q2045 : (Jvm.Cond.privateMethod ({ cls := "SpeaksInTurnModel", name := "wishOf", desc := "(IIIIII)I" } : Jvm.MethodName)) ∈ lw_tbl := lw_at lw_m9 16 rfl
theorem q2046 : (Jvm.Cond.instanceMethod ({ cls := "SpeaksInTurnModel", name := "wishOf", desc := "(IIIIII)I" } : Jvm.MethodName)) ∈ lw_all := lw_g (lw_at lw_m9 17 rfl) rfl
theorem q2047 : (Jvm.Cond.code ({ cls := "SpeaksInTurnModel", name := "wishOf", desc := "(IIIIII)I" } : Jvm.MethodName) prog_34_method_39_code (9 : Nat) (Option.some Jvm.ClassFile.FieldType.int)) ∈ lw_all := lw_g (lw_at lw_m9 18 rfl) rfl
theorem q2048 : (Jvm.Cond.methodLink "SpeaksInTurnModel" (345 : Nat) ({ cls := "SpeaksInTurnModel", name := "nextSpeaker", desc := "()I" } : Jvm.MethodName)) ∈ lw_all := lw_g (lw_at lw_m9 19 rfl) rfl
theorem q2049 : (Jvm.Cond.privateMethod ({ cls := "SpeaksInTurnModel", name := "nextSpeaker", desc := "()I" } : Jvm.MethodName)) ∈ lw_tbl := lw_at lw_m9 20 rfl
theorem q2050 : (Jvm.Cond.instanceMethod ({ cls := "SpeaksInTurnModel", name := "nextSpeaker", desc := "()I" } : Jvm.MethodName)) ∈ lw_all := lw_g (lw_at lw_m9 21 rfl) rfl
theorem q2051 : (Jvm.Cond.code ({ cls := "SpeaksInTurnModel", name := "nextSpeaker", desc := "()I" } : Jvm.MethodName) prog_34_method_45_code (1 : Nat) (Option.some Jvm.ClassFile.FieldType.int)) ∈ lw_all := lw_g (lw_at lw_m9 22 rfl) rfl
theorem q2052 : (Jvm.Cond.methodLink "SpeaksInTurnModel" (312 : Nat) ({ cls := "SpeaksInTurnModel", name := "byTurns", desc := "()I" } : Jvm.MethodName)) ∈ lw_all := lw_g (lw_at lw_m9 23 rfl) rfl
theorem q2053 : (Jvm.Cond.privateMethod ({ cls := "SpeaksInTurnModel", name := "byTurns", desc := "()I" } : Jvm.MethodName)) ∈ lw_tbl := lw_at lw_m9 24 rfl
theorem q2054 : (Jvm.Cond.instanceMethod ({ cls := "SpeaksInTurnModel", name := "byTurns", desc := "()I" } : Jvm.MethodName)) ∈ lw_all := lw_g (lw_at lw_m9 25 rfl) rfl
theorem q2055 : (Jvm.Cond.code ({ cls := "SpeaksInTurnModel", name := "byTurns", desc := "()I" } : Jvm.MethodName) prog_34_method_42_code (3 : Nat) (Option.some Jvm.ClassFile.FieldType.int)) ∈ lw_all := lw_g (lw_at lw_m9 26 rfl) rfl
theorem q2056 : (Jvm.Cond.methodLink "SpeaksInTurnModel" (302 : Nat) ({ cls := "SpeaksInTurnModel", name := "wishes", desc := "(I)Z" } : Jvm.MethodName)) ∈ lw_all := lw_g (lw_at lw_m9 27 rfl) rfl
theorem q2057 : (Jvm.Cond.privateMethod ({ cls := "SpeaksInTurnModel", name := "wishes", desc := "(I)Z" } : Jvm.MethodName)) ∈ lw_tbl := lw_at lw_m9 28 rfl
theorem q2058 : (Jvm.Cond.instanceMethod ({ cls := "SpeaksInTurnModel", name := "wishes", desc := "(I)Z" } : Jvm.MethodName)) ∈ lw_all := lw_g (lw_at lw_m9 29 rfl) rfl
theorem q2059 : (Jvm.Cond.code ({ cls := "SpeaksInTurnModel", name := "wishes", desc := "(I)Z" } : Jvm.MethodName) prog_34_method_40_code (2 : Nat) (Option.some Jvm.ClassFile.FieldType.boolean)) ∈ lw_all := lw_g (lw_at lw_m9 30 rfl) rfl
theorem q2060 : (Jvm.Cond.methodLink "SpeaksInTurnModel" (315 : Nat) ({ cls := "SpeaksInTurnModel", name := "leastSpoken", desc := "()I" } : Jvm.MethodName)) ∈ lw_all := lw_g (lw_at lw_m9 31 rfl) rfl
theorem q2061 : (Jvm.Cond.privateMethod ({ cls := "SpeaksInTurnModel", name := "leastSpoken", desc := "()I" } : Jvm.MethodName)) ∈ lw_tbl := lw_at lw_m9 32 rfl
theorem q2062 : (Jvm.Cond.instanceMethod ({ cls := "SpeaksInTurnModel", name := "leastSpoken", desc := "()I" } : Jvm.MethodName)) ∈ lw_all := lw_g (lw_at lw_m9 33 rfl) rfl
theorem q2063 : (Jvm.Cond.code ({ cls := "SpeaksInTurnModel", name := "leastSpoken", desc := "()I" } : Jvm.MethodName) prog_34_method_43_code (4 : Nat) (Option.some Jvm.ClassFile.FieldType.int)) ∈ lw_all := lw_g (lw_at lw_m9 34 rfl) rfl
theorem q2064 : (Jvm.Cond.methodLink "SpeaksInTurnModel" (318 : Nat) ({ cls := "SpeaksInTurnModel", name := "chiefLast", desc := "()I" } : Jvm.MethodName)) ∈ lw_all := lw_g (lw_at lw_m9 35 rfl) rfl
theorem q2065 : (Jvm.Cond.privateMethod ({ cls := "SpeaksInTurnModel", name := "chiefLast", desc := "()I" } : Jvm.MethodName)) ∈ lw_tbl := lw_at lw_m9 36 rfl
theorem q2066 : (Jvm.Cond.instanceMethod ({ cls := "SpeaksInTurnModel", name := "chiefLast", desc := "()I" } : Jvm.MethodName)) ∈ lw_all := lw_g (lw_at lw_m9 37 rfl) rfl
theorem q2067 : (Jvm.Cond.code ({ cls := "SpeaksInTurnModel", name := "chiefLast", desc := "()I" } : Jvm.MethodName) prog_34_method_44_code (3 : Nat) (Option.some Jvm.ClassFile.FieldType.int)) ∈ lw_all := lw_g (lw_at lw_m9 38 rfl) rfl
theorem q2068 : (Jvm.Cond.methodLink "SpeaksInTurnModel" (308 : Nat) ({ cls := "SpeaksInTurnModel", name := "mostWishing", desc := "(ZI)I" } : Jvm.MethodName)) ∈ lw_all := lw_g (lw_at lw_m9 39 rfl) rfl
theorem q2069 : (Jvm.Cond.privateMethod ({ cls := "SpeaksInTurnModel", name := "mostWishing", desc := "(ZI)I" } : Jvm.MethodName)) ∈ lw_tbl := lw_at lw_m9 40 rfl
theorem q2070 : (Jvm.Cond.instanceMethod ({ cls := "SpeaksInTurnModel", name := "mostWishing", desc := "(ZI)I" } : Jvm.MethodName)) ∈ lw_all := lw_g (lw_at lw_m9 41 rfl) rfl
theorem q2071 : (Jvm.Cond.code ({ cls := "SpeaksInTurnModel", name := "mostWishing", desc := "(ZI)I" } : Jvm.MethodName) prog_34_method_41_code (5 : Nat) (Option.some Jvm.ClassFile.FieldType.int)) ∈ lw_all := lw_g (lw_at lw_m9 42 rfl) rfl
theorem q2072 : (Jvm.Cond.methodLink "SpeaksInTurnModel" (348 : Nat) ({ cls := "SpeaksInTurnModel", name := "speaks", desc := "(II)V" } : Jvm.MethodName)) ∈ lw_all := lw_g (lw_at lw_m9 43 rfl) rfl
theorem q2073 : (Jvm.Cond.privateMethod ({ cls := "SpeaksInTurnModel", name := "speaks", desc := "(II)V" } : Jvm.MethodName)) ∈ lw_tbl := lw_at lw_m9 44 rfl
theorem q2074 : (Jvm.Cond.instanceMethod ({ cls := "SpeaksInTurnModel", name := "speaks", desc := "(II)V" } : Jvm.MethodName)) ∈ lw_all := lw_g (lw_at lw_m9 45 rfl) rfl
theorem q2075 : (Jvm.Cond.code ({ cls := "SpeaksInTurnModel", name := "speaks", desc := "(II)V" } : Jvm.MethodName) prog_34_method_49_code (7 : Nat) (Option.none : Option Jvm.ClassFile.FieldType)) ∈ lw_all := lw_g (lw_at lw_m9 46 rfl) rfl
theorem q2076 : (Jvm.Cond.methodLink "SpeaksInTurnModel" (327 : Nat) ({ cls := "SpeaksInTurnModel", name := "stopper", desc := "(I)I" } : Jvm.MethodName)) ∈ lw_all := lw_g (lw_at lw_m9 47 rfl) rfl
theorem q2077 : (Jvm.Cond.privateMethod ({ cls := "SpeaksInTurnModel", name := "stopper", desc := "(I)I" } : Jvm.MethodName)) ∈ lw_tbl := lw_at lw_m9 48 rfl
theorem q2078 : (Jvm.Cond.instanceMethod ({ cls := "SpeaksInTurnModel", name := "stopper", desc := "(I)I" } : Jvm.MethodName)) ∈ lw_all := lw_g (lw_at lw_m9 49 rfl) rfl
theorem q2079 : (Jvm.Cond.code ({ cls := "SpeaksInTurnModel", name := "stopper", desc := "(I)I" } : Jvm.MethodName) prog_34_method_46_code (4 : Nat) (Option.some Jvm.ClassFile.FieldType.int)) ∈ lw_all := lw_g (lw_at lw_m9 50 rfl) rfl
theorem q2080 : (Jvm.Cond.methodLink "SpeaksInTurnModel" (330 : Nat) ({ cls := "SpeaksInTurnModel", name := "saysNew", desc := "(III)I" } : Jvm.MethodName)) ∈ lw_all := lw_g (lw_at lw_m9 51 rfl) rfl
theorem q2081 : (Jvm.Cond.privateMethod ({ cls := "SpeaksInTurnModel", name := "saysNew", desc := "(III)I" } : Jvm.MethodName)) ∈ lw_tbl := lw_at lw_m9 52 rfl
theorem q2082 : (Jvm.Cond.instanceMethod ({ cls := "SpeaksInTurnModel", name := "saysNew", desc := "(III)I" } : Jvm.MethodName)) ∈ lw_all := lw_g (lw_at lw_m9 53 rfl) rfl
theorem q2083 : (Jvm.Cond.code ({ cls := "SpeaksInTurnModel", name := "saysNew", desc := "(III)I" } : Jvm.MethodName) prog_34_method_47_code (7 : Nat) (Option.some Jvm.ClassFile.FieldType.int)) ∈ lw_all := lw_g (lw_at lw_m9 54 rfl) rfl
theorem q2084 : (Jvm.Cond.methodLink "SpeaksInTurnModel" (334 : Nat) ({ cls := "SpeaksInTurnModel", name := "saysAgain", desc := "(II)I" } : Jvm.MethodName)) ∈ lw_all := lw_g (lw_at lw_m9 55 rfl) rfl
theorem q2085 : (Jvm.Cond.privateMethod ({ cls := "SpeaksInTurnModel", name := "saysAgain", desc := "(II)I" } : Jvm.MethodName)) ∈ lw_tbl := lw_at lw_m9 56 rfl
theorem q2086 : (Jvm.Cond.instanceMethod ({ cls := "SpeaksInTurnModel", name := "saysAgain", desc := "(II)I" } : Jvm.MethodName)) ∈ lw_all := lw_g (lw_at lw_m9 57 rfl) rfl
theorem q2087 : (Jvm.Cond.code ({ cls := "SpeaksInTurnModel", name := "saysAgain", desc := "(II)I" } : Jvm.MethodName) prog_34_method_48_code (4 : Nat) (Option.some Jvm.ClassFile.FieldType.int)) ∈ lw_all := lw_g (lw_at lw_m9 58 rfl) rfl
theorem q2088 : (Jvm.Cond.methodLink "SpeaksInTurnModel" (401 : Nat) ({ cls := "SpeaksInTurnModel", name := "keepsRows", desc := "()V" } : Jvm.MethodName)) ∈ lw_all := lw_g (lw_at lw_m9 59 rfl) rfl
theorem q2089 : (Jvm.Cond.privateMethod ({ cls := "SpeaksInTurnModel", name := "keepsRows", desc := "()V" } : Jvm.MethodName)) ∈ lw_tbl := lw_at lw_m9 60 rfl
theorem q2090 : (Jvm.Cond.instanceMethod ({ cls := "SpeaksInTurnModel", name := "keepsRows", desc := "()V" } : Jvm.MethodName)) ∈ lw_all := lw_g (lw_at lw_m9 61 rfl) rfl
theorem q2091 : (Jvm.Cond.code ({ cls := "SpeaksInTurnModel", name := "keepsRows", desc := "()V" } : Jvm.MethodName) prog_34_method_65_code (2 : Nat) (Option.none : Option Jvm.ClassFile.FieldType)) ∈ lw_all := lw_g (lw_at lw_m9 62 rfl) rfl
theorem q2092 : (Jvm.Cond.methodLink "SpeaksInTurnModel" (355 : Nat) ({ cls := "SpeaksInTurnModel", name := "comesTo", desc := "(I)I" } : Jvm.MethodName)) ∈ lw_all := lw_g (lw_at lw_m9 63 rfl) rfl
theorem q2093 : (Jvm.Cond.privateMethod ({ cls := "SpeaksInTurnModel", name := "comesTo", desc := "(I)I" } : Jvm.MethodName)) ∈ lw_tbl := lw_at lw_m9 64 rfl
theorem q2094 : (Jvm.Cond.instanceMethod ({ cls := "SpeaksInTurnModel", name := "comesTo", desc := "(I)I" } : Jvm.MethodName)) ∈ lw_all := lw_g (lw_at lw_m9 65 rfl) rfl
theorem q2095 : (Jvm.Cond.code ({ cls := "SpeaksInTurnModel", name := "comesTo", desc := "(I)I" } : Jvm.MethodName) prog_34_method_53_code (4 : Nat) (Option.some Jvm.ClassFile.FieldType.int)) ∈ lw_all := lw_g (lw_at lw_m9 66 rfl) rfl
theorem q2096 : (Jvm.Cond.methodLink "SpeaksInTurnModel" (370 : Nat) ({ cls := "SpeaksInTurnModel", name := "thereFor", desc := "(I)I" } : Jvm.MethodName)) ∈ lw_all := lw_g (lw_at lw_m9 67 rfl) rfl
theorem q2097 : (Jvm.Cond.privateMethod ({ cls := "SpeaksInTurnModel", name := "thereFor", desc := "(I)I" } : Jvm.MethodName)) ∈ lw_tbl := lw_at lw_m9 68 rfl
theorem q2098 : (Jvm.Cond.instanceMethod ({ cls := "SpeaksInTurnModel", name := "thereFor", desc := "(I)I" } : Jvm.MethodName)) ∈ lw_all := lw_g (lw_at lw_m9 69 rfl) rfl
theorem q2099 : (Jvm.Cond.code ({ cls := "SpeaksInTurnModel", name := "thereFor", desc := "(I)I" } : Jvm.MethodName) prog_34_method_59_code (2 : Nat) (Option.some Jvm.ClassFile.FieldType.int)) ∈ lw_all := lw_g (lw_at lw_m9 70 rfl) rfl
theorem q2100 : (Jvm.Cond.methodLink "SpeaksInTurnModel" (361 : Nat) ({ cls := "SpeaksInTurnModel", name := "decided", desc := "()I" } : Jvm.MethodName)) ∈ lw_all := lw_g (lw_at lw_m9 71 rfl) rfl
theorem q2101 : (Jvm.Cond.privateMethod ({ cls := "SpeaksInTurnModel", name := "decided", desc := "()I" } : Jvm.MethodName)) ∈ lw_tbl := lw_at lw_m9 72 rfl
theorem q2102 : (Jvm.Cond.instanceMethod ({ cls := "SpeaksInTurnModel", name := "decided", desc := "()I" } : Jvm.MethodName)) ∈ lw_all := lw_g (lw_at lw_m9 73 rfl) rfl
theorem q2103 : (Jvm.Cond.code ({ cls := "SpeaksInTurnModel", name := "decided", desc := "()I" } : Jvm.MethodName) prog_34_method_54_code (3 : Nat) (Option.some Jvm.ClassFile.FieldType.int)) ∈ lw_all := lw_g (lw_at lw_m9 74 rfl) rfl
theorem q2104 : (Jvm.Cond.methodLink "SpeaksInTurnModel" (404 : Nat) ({ cls := "SpeaksInTurnModel", name := "heldBack", desc := "()I" } : Jvm.MethodName)) ∈ lw_all := lw_g (lw_at lw_m9 75 rfl) rfl
theorem q2105 : (Jvm.Cond.privateMethod ({ cls := "SpeaksInTurnModel", name := "heldBack", desc := "()I" } : Jvm.MethodName)) ∈ lw_tbl := lw_at lw_m9 76 rfl
theorem q2106 : (Jvm.Cond.instanceMethod ({ cls := "SpeaksInTurnModel", name := "heldBack", desc := "()I" } : Jvm.MethodName)) ∈ lw_all := lw_g (lw_at lw_m9 77 rfl) rfl
theorem q2107 : (Jvm.Cond.code ({ cls := "SpeaksInTurnModel", name := "heldBack", desc := "()I" } : Jvm.MethodName) prog_34_method_61_code (4 : Nat) (Option.some Jvm.ClassFile.FieldType.int)) ∈ lw_all := lw_g (lw_at lw_m9 78 rfl) rfl
theorem q2108 : (Jvm.Cond.methodLink "SpeaksInTurnModel" (364 : Nat) ({ cls := "SpeaksInTurnModel", name := "shouldBe", desc := "()I" } : Jvm.MethodName)) ∈ lw_all := lw_g (lw_at lw_m9 79 rfl) rfl
theorem q2109 : (Jvm.Cond.privateMethod ({ cls := "SpeaksInTurnModel", name := "shouldBe", desc := "()I" } : Jvm.MethodName)) ∈ lw_tbl := lw_at lw_m9 80 rfl
theorem q2110 : (Jvm.Cond.instanceMethod ({ cls := "SpeaksInTurnModel", name := "shouldBe", desc := "()I" } : Jvm.MethodName)) ∈ lw_all := lw_g (lw_at lw_m9 81 rfl) rfl
theorem q2111 : (Jvm.Cond.code ({ cls := "SpeaksInTurnModel", name := "shouldBe", desc := "()I" } : Jvm.MethodName) prog_34_method_56_code (5 : Nat) (Option.some Jvm.ClassFile.FieldType.int)) ∈ lw_all := lw_g (lw_at lw_m9 82 rfl) rfl
theorem q2112 : (Jvm.Cond.methodLink "SpeaksInTurnModel" (358 : Nat) ({ cls := "SpeaksInTurnModel", name := "isKnown", desc := "(I)Z" } : Jvm.MethodName)) ∈ lw_all := lw_g (lw_at lw_m9 83 rfl) rfl
theorem q2113 : (Jvm.Cond.privateMethod ({ cls := "SpeaksInTurnModel", name := "isKnown", desc := "(I)Z" } : Jvm.MethodName)) ∈ lw_tbl := lw_at lw_m9 84 rfl
theorem q2114 : (Jvm.Cond.instanceMethod ({ cls := "SpeaksInTurnModel", name := "isKnown", desc := "(I)Z" } : Jvm.MethodName)) ∈ lw_all := lw_g (lw_at lw_m9 85 rfl) rfl
theorem q2115 : (Jvm.Cond.code ({ cls := "SpeaksInTurnModel", name := "isKnown", desc := "(I)Z" } : Jvm.MethodName) prog_34_method_55_code (2 : Nat) (Option.some Jvm.ClassFile.FieldType.boolean)) ∈ lw_all := lw_g (lw_at lw_m9 86 rfl) rfl
theorem q2116 : (Jvm.Cond.methodLink "SpeaksInTurnModel" (407 : Nat) ({ cls := "SpeaksInTurnModel", name := "aloneSaid", desc := "(Z)I" } : Jvm.MethodName)) ∈ lw_all := lw_g (lw_at lw_m9 87 rfl) rfl
theorem q2117 : (Jvm.Cond.privateMethod ({ cls := "SpeaksInTurnModel", name := "aloneSaid", desc := "(Z)I" } : Jvm.MethodName)) ∈ lw_tbl := lw_at lw_m9 88 rfl
theorem q2118 : (Jvm.Cond.instanceMethod ({ cls := "SpeaksInTurnModel", name := "aloneSaid", desc := "(Z)I" } : Jvm.MethodName)) ∈ lw_all := lw_g (lw_at lw_m9 89 rfl) rfl
theorem q2119 : (Jvm.Cond.code ({ cls := "SpeaksInTurnModel", name := "aloneSaid", desc := "(Z)I" } : Jvm.MethodName) prog_34_method_63_code (4 : Nat) (Option.some Jvm.ClassFile.FieldType.int)) ∈ lw_all := lw_g (lw_at lw_m9 90 rfl) rfl
theorem q2120 : (Jvm.Cond.methodLink "SpeaksInTurnModel" (373 : Nat) ({ cls := "SpeaksInTurnModel", name := "isAlone", desc := "(I)Z" } : Jvm.MethodName)) ∈ lw_all := lw_g (lw_at lw_m9 91 rfl) rfl
theorem q2121 : (Jvm.Cond.privateMethod ({ cls := "SpeaksInTurnModel", name := "isAlone", desc := "(I)Z" } : Jvm.MethodName)) ∈ lw_tbl := lw_at lw_m9 92 rfl
theorem q2122 : (Jvm.Cond.instanceMethod ({ cls := "SpeaksInTurnModel", name := "isAlone", desc := "(I)Z" } : Jvm.MethodName)) ∈ lw_all := lw_g (lw_at lw_m9 93 rfl) rfl
theorem q2123 : (Jvm.Cond.code ({ cls := "SpeaksInTurnModel", name := "isAlone", desc := "(I)Z" } : Jvm.MethodName) prog_34_method_62_code (2 : Nat) (Option.some Jvm.ClassFile.FieldType.boolean)) ∈ lw_all := lw_g (lw_at lw_m9 94 rfl) rfl
theorem q2124 : (Jvm.Cond.methodLink "SpeaksInTurnModel" (367 : Nat) ({ cls := "SpeaksInTurnModel", name := "bitsOf", desc := "(I)I" } : Jvm.MethodName)) ∈ lw_all := lw_g (lw_at lw_m9 95 rfl) rfl
theorem q2125 : (Jvm.Cond.static ({ cls := "SpeaksInTurnModel", name := "bitsOf", desc := "(I)I" } : Jvm.MethodName)) ∈ lw_all := lw_g (lw_at lw_m9 96 rfl) rfl
theorem q2126 : (Jvm.Cond.code ({ cls := "SpeaksInTurnModel", name := "bitsOf", desc := "(I)I" } : Jvm.MethodName) prog_34_method_57_code (3 : Nat) (Option.some Jvm.ClassFile.FieldType.int)) ∈ lw_all := lw_g (lw_at lw_m9 97 rfl) rfl
theorem q2127 : (Jvm.Cond.methodLink "SpeaksInTurnModel" (411 : Nat) ({ cls := "SpeaksInTurnModel", name := "cost", desc := "()I" } : Jvm.MethodName)) ∈ lw_all := lw_g (lw_at lw_m9 98 rfl) rfl
theorem q2128 : (Jvm.Cond.privateMethod ({ cls := "SpeaksInTurnModel", name := "cost", desc := "()I" } : Jvm.MethodName)) ∈ lw_tbl := lw_at lw_m9 99 rfl
theorem q2129 : (Jvm.Cond.instanceMethod ({ cls := "SpeaksInTurnModel", name := "cost", desc := "()I" } : Jvm.MethodName)) ∈ lw_all := lw_g (lw_at lw_m9 100 rfl) rfl
theorem q2130 : (Jvm.Cond.code ({ cls := "SpeaksInTurnModel", name := "cost", desc := "()I" } : Jvm.MethodName) prog_34_method_60_code (3 : Nat) (Option.some Jvm.ClassFile.FieldType.int)) ∈ lw_all := lw_g (lw_at lw_m9 101 rfl) rfl
theorem q2131 : (Jvm.Cond.methodLink "SpeaksInTurnModel" (414 : Nat) ({ cls := "SpeaksInTurnModel", name := "shed", desc := "()I" } : Jvm.MethodName)) ∈ lw_all := lw_g (lw_at lw_m9 102 rfl) rfl
theorem q2132 : (Jvm.Cond.privateMethod ({ cls := "SpeaksInTurnModel", name := "shed", desc := "()I" } : Jvm.MethodName)) ∈ lw_tbl := lw_at lw_m9 103 rfl
theorem q2133 : (Jvm.Cond.instanceMethod ({ cls := "SpeaksInTurnModel", name := "shed", desc := "()I" } : Jvm.MethodName)) ∈ lw_all := lw_g (lw_at lw_m9 104 rfl) rfl
theorem q2134 : (Jvm.Cond.code ({ cls := "SpeaksInTurnModel", name := "shed", desc := "()I" } : Jvm.MethodName) prog_34_method_64_code (3 : Nat) (Option.some Jvm.ClassFile.FieldType.int)) ∈ lw_all := lw_g (lw_at lw_m9 105 rfl) rfl
theorem q2135 : (Jvm.Cond.methodLink "SpeaksInTurnModel" (376 : Nat) ({ cls := "SpeaksInTurnModel", name := "size", desc := "(I)I" } : Jvm.MethodName)) ∈ lw_all := lw_g (lw_at lw_m9 106 rfl) rfl
theorem q2136 : (Jvm.Cond.static ({ cls := "SpeaksInTurnModel", name := "size", desc := "(I)I" } : Jvm.MethodName)) ∈ lw_all := lw_g (lw_at lw_m9 107 rfl) rfl
theorem q2137 : (Jvm.Cond.code ({ cls := "SpeaksInTurnModel", name := "size", desc := "(I)I" } : Jvm.MethodName) prog_34_method_2_code (1 : Nat) (Option.some Jvm.ClassFile.FieldType.int)) ∈ lw_all := lw_g (lw_at lw_m9 108 rfl) rfl
theorem q2139 : (Jvm.Cond.instanceMethod ({ cls := "SpeaksInTurnModel", name := "told", desc := "(I)I" } : Jvm.MethodName)) ∈ lw_all := lw_g (lw_at lw_m9 110 rfl) rfl
theorem q2140 : (Jvm.Cond.selects "SpeaksInTurnModel" ({ cls := "SpeaksInTurnModel", name := "told", desc := "(I)I" } : Jvm.MethodName) ({ cls := "SpeaksInTurnModel", name := "told", desc := "(I)I" } : Jvm.MethodName)) ∈ lw_all := lw_g (lw_at lw_m9 111 rfl) rfl
theorem q2141 : (Jvm.Cond.code ({ cls := "SpeaksInTurnModel", name := "told", desc := "(I)I" } : Jvm.MethodName) prog_34_method_69_code (2 : Nat) (Option.some Jvm.ClassFile.FieldType.int)) ∈ lw_all := lw_g (lw_at lw_m9 112 rfl) rfl
theorem q2143 : (Jvm.Cond.instanceMethod ({ cls := "SpeaksInTurnModel", name := "saying", desc := "(II)I" } : Jvm.MethodName)) ∈ lw_all := lw_g (lw_at lw_m9 114 rfl) rfl
theorem q2144 : (Jvm.Cond.selects "SpeaksInTurnModel" ({ cls := "SpeaksInTurnModel", name := "saying", desc := "(II)I" } : Jvm.MethodName) ({ cls := "SpeaksInTurnModel", name := "saying", desc := "(II)I" } : Jvm.MethodName)) ∈ lw_all := lw_g (lw_at lw_m9 115 rfl) rfl
theorem q2145 : (Jvm.Cond.code ({ cls := "SpeaksInTurnModel", name := "saying", desc := "(II)I" } : Jvm.MethodName) prog_34_method_70_code (3 : Nat) (Option.some Jvm.ClassFile.FieldType.int)) ∈ lw_all := lw_g (lw_at lw_m9 116 rfl) rfl
theorem q2146 : (Jvm.Cond.constantLong "SpeaksInTurnModel" (417 : Nat) (6 : Int64)) ∈ lw_all := lw_g (lw_at lw_m9 117 rfl) rfl
theorem q2148 : (Jvm.Cond.instanceMethod ({ cls := "SpeaksInTurnModel", name := "took", desc := "(II)I" } : Jvm.MethodName)) ∈ lw_all := lw_g (lw_at lw_m9 119 rfl) rfl
theorem q2149 : (Jvm.Cond.selects "SpeaksInTurnModel" ({ cls := "SpeaksInTurnModel", name := "took", desc := "(II)I" } : Jvm.MethodName) ({ cls := "SpeaksInTurnModel", name := "took", desc := "(II)I" } : Jvm.MethodName)) ∈ lw_all := lw_g (lw_at lw_m9 120 rfl) rfl
theorem q2150 : (Jvm.Cond.code ({ cls := "SpeaksInTurnModel", name := "took", desc := "(II)I" } : Jvm.MethodName) prog_34_method_71_code (3 : Nat) (Option.some Jvm.ClassFile.FieldType.int)) ∈ lw_all := lw_g (lw_at lw_m9 121 rfl) rfl
theorem q2152 : (Jvm.Cond.instanceMethod ({ cls := "SpeaksInTurnModel", name := "did", desc := "(II)I" } : Jvm.MethodName)) ∈ lw_all := lw_g (lw_at lw_m9 123 rfl) rfl
theorem q2153 : (Jvm.Cond.selects "SpeaksInTurnModel" ({ cls := "SpeaksInTurnModel", name := "did", desc := "(II)I" } : Jvm.MethodName) ({ cls := "SpeaksInTurnModel", name := "did", desc := "(II)I" } : Jvm.MethodName)) ∈ lw_all := lw_g (lw_at lw_m9 124 rfl) rfl
theorem q2154 : (Jvm.Cond.code ({ cls := "SpeaksInTurnModel", name := "did", desc := "(II)I" } : Jvm.MethodName) prog_34_method_72_code (8 : Nat) (Option.some Jvm.ClassFile.FieldType.int)) ∈ lw_all := lw_g (lw_at lw_m9 125 rfl) rfl
theorem q2155 : (Jvm.Cond.constantLong "SpeaksInTurnModel" (419 : Nat) (3 : Int64)) ∈ lw_all := lw_g (lw_at lw_m9 126 rfl) rfl
theorem q2157 : (Jvm.Cond.instanceMethod ({ cls := "SpeaksInTurnModel", name := "first", desc := "(II)I" } : Jvm.MethodName)) ∈ lw_all := lw_g (lw_at lw_m9 128 rfl) rfl
theorem q2158 : (Jvm.Cond.selects "SpeaksInTurnModel" ({ cls := "SpeaksInTurnModel", name := "first", desc := "(II)I" } : Jvm.MethodName) ({ cls := "SpeaksInTurnModel", name := "first", desc := "(II)I" } : Jvm.MethodName)) ∈ lw_all := lw_g (lw_at lw_m9 129 rfl) rfl
theorem q2159 : (Jvm.Cond.code ({ cls := "SpeaksInTurnModel", name := "first", desc := "(II)I" } : Jvm.MethodName) prog_34_method_73_code (3 : Nat) (Option.some Jvm.ClassFile.FieldType.int)) ∈ lw_all := lw_g (lw_at lw_m9 130 rfl) rfl
theorem q2161 : (Jvm.Cond.instanceMethod ({ cls := "SpeaksInTurnModel", name := "rule", desc := "(I)I" } : Jvm.MethodName)) ∈ lw_all := lw_g (lw_at lw_m9 132 rfl) rfl
theorem q2162 : (Jvm.Cond.selects "SpeaksInTurnModel" ({ cls := "SpeaksInTurnModel", name := "rule", desc := "(I)I" } : Jvm.MethodName) ({ cls := "SpeaksInTurnModel", name := "rule", desc := "(I)I" } : Jvm.MethodName)) ∈ lw_all := lw_g (lw_at lw_m9 133 rfl) rfl
theorem q2163 : (Jvm.Cond.code ({ cls := "SpeaksInTurnModel", name := "rule", desc := "(I)I" } : Jvm.MethodName) prog_34_method_76_code (3 : Nat) (Option.some Jvm.ClassFile.FieldType.int)) ∈ lw_all := lw_g (lw_at lw_m9 134 rfl) rfl
theorem q2164 : (Jvm.Cond.constantLong "SpeaksInTurnModel" (433 : Nat) (2 : Int64)) ∈ lw_all := lw_g (lw_at lw_m9 135 rfl) rfl
theorem q2165 : (Jvm.Cond.methodLink "SpeaksInTurnModel" (435 : Nat) ({ cls := "SpeaksInTurnModel", name := "looksAt", desc := "(I)V" } : Jvm.MethodName)) ∈ lw_all := lw_g (lw_at lw_m9 136 rfl) rfl
theorem q2166 : (Jvm.Cond.privateMethod ({ cls := "SpeaksInTurnModel", name := "looksAt", desc := "(I)V" } : Jvm.MethodName)) ∈ lw_tbl := lw_at lw_m9 137 rfl
theorem q2167 : (Jvm.Cond.instanceMethod ({ cls := "SpeaksInTurnModel", name := "looksAt", desc := "(I)V" } : Jvm.MethodName)) ∈ lw_all := lw_g (lw_at lw_m9 138 rfl) rfl
theorem q2168 : (Jvm.Cond.code ({ cls := "SpeaksInTurnModel", name := "looksAt", desc := "(I)V" } : Jvm.MethodName) prog_34_method_74_code (4 : Nat) (Option.none : Option Jvm.ClassFile.FieldType)) ∈ lw_all := lw_g (lw_at lw_m9 139 rfl) rfl
theorem q2169 : (Jvm.Cond.methodLink "SpeaksInTurnModel" (421 : Nat) ({ cls := "SpeaksInTurnModel", name := "wrongMany", desc := "()I" } : Jvm.MethodName)) ∈ lw_all := lw_g (lw_at lw_m9 140 rfl) rfl
theorem q2170 : (Jvm.Cond.privateMethod ({ cls := "SpeaksInTurnModel", name := "wrongMany", desc := "()I" } : Jvm.MethodName)) ∈ lw_tbl := lw_at lw_m9 141 rfl
theorem q2171 : (Jvm.Cond.instanceMethod ({ cls := "SpeaksInTurnModel", name := "wrongMany", desc := "()I" } : Jvm.MethodName)) ∈ lw_all := lw_g (lw_at lw_m9 142 rfl) rfl
theorem q2172 : (Jvm.Cond.code ({ cls := "SpeaksInTurnModel", name := "wrongMany", desc := "()I" } : Jvm.MethodName) prog_34_method_58_code (1 : Nat) (Option.some Jvm.ClassFile.FieldType.int)) ∈ lw_all := lw_g (lw_at lw_m9 143 rfl) rfl
theorem q2173 : (Jvm.Cond.methodLink "SpeaksInTurnModel" (438 : Nat) ({ cls := "SpeaksInTurnModel", name := "bestTold", desc := "(I)I" } : Jvm.MethodName)) ∈ lw_all := lw_g (lw_at lw_m9 144 rfl) rfl
theorem q2174 : (Jvm.Cond.privateMethod ({ cls := "SpeaksInTurnModel", name := "bestTold", desc := "(I)I" } : Jvm.MethodName)) ∈ lw_tbl := lw_at lw_m9 145 rfl
theorem q2175 : (Jvm.Cond.instanceMethod ({ cls := "SpeaksInTurnModel", name := "bestTold", desc := "(I)I" } : Jvm.MethodName)) ∈ lw_all := lw_g (lw_at lw_m9 146 rfl) rfl
theorem q2176 : (Jvm.Cond.code ({ cls := "SpeaksInTurnModel", name := "bestTold", desc := "(I)I" } : Jvm.MethodName) prog_34_method_75_code (2 : Nat) (Option.some Jvm.ClassFile.FieldType.int)) ∈ lw_all := lw_g (lw_at lw_m9 147 rfl) rfl
theorem q2178 : (Jvm.Cond.instanceMethod ({ cls := "SpeaksInTurnModel", name := "order", desc := "(I)I" } : Jvm.MethodName)) ∈ lw_all := lw_g (lw_at lw_m9 149 rfl) rfl
theorem q2179 : (Jvm.Cond.selects "SpeaksInTurnModel" ({ cls := "SpeaksInTurnModel", name := "order", desc := "(I)I" } : Jvm.MethodName) ({ cls := "SpeaksInTurnModel", name := "order", desc := "(I)I" } : Jvm.MethodName)) ∈ lw_all := lw_g (lw_at lw_m9 150 rfl) rfl
theorem q2180 : (Jvm.Cond.code ({ cls := "SpeaksInTurnModel", name := "order", desc := "(I)I" } : Jvm.MethodName) prog_34_method_78_code (2 : Nat) (Option.some Jvm.ClassFile.FieldType.int)) ∈ lw_all := lw_g (lw_at lw_m9 151 rfl) rfl
theorem q2181 : (Jvm.Cond.methodLink "SpeaksInTurnModel" (441 : Nat) ({ cls := "SpeaksInTurnModel", name := "goesOrders", desc := "(III)V" } : Jvm.MethodName)) ∈ lw_all := lw_g (lw_at lw_m9 152 rfl) rfl
theorem q2182 : (Jvm.Cond.privateMethod ({ cls := "SpeaksInTurnModel", name := "goesOrders", desc := "(III)V" } : Jvm.MethodName)) ∈ lw_tbl := lw_at lw_m9 153 rfl
theorem q2183 : (Jvm.Cond.instanceMethod ({ cls := "SpeaksInTurnModel", name := "goesOrders", desc := "(III)V" } : Jvm.MethodName)) ∈ lw_all := lw_g (lw_at lw_m9 154 rfl) rfl
theorem q2184 : (Jvm.Cond.code ({ cls := "SpeaksInTurnModel", name := "goesOrders", desc := "(III)V" } : Jvm.MethodName) prog_34_method_77_code (5 : Nat) (Option.none : Option Jvm.ClassFile.FieldType)) ∈ lw_all := lw_g (lw_at lw_m9 155 rfl) rfl
theorem q2186 : (Jvm.Cond.instanceMethod ({ cls := "SpeaksInTurnModel", name := "times", desc := "(I)I" } : Jvm.MethodName)) ∈ lw_all := lw_g (lw_at lw_m9 157 rfl) rfl
theorem q2187 : (Jvm.Cond.selects "SpeaksInTurnModel" ({ cls := "SpeaksInTurnModel", name := "times", desc := "(I)I" } : Jvm.MethodName) ({ cls := "SpeaksInTurnModel", name := "times", desc := "(I)I" } : Jvm.MethodName)) ∈ lw_all := lw_g (lw_at lw_m9 158 rfl) rfl
theorem q2188 : (Jvm.Cond.code ({ cls := "SpeaksInTurnModel", name := "times", desc := "(I)I" } : Jvm.MethodName) prog_34_method_79_code (3 : Nat) (Option.some Jvm.ClassFile.FieldType.int)) ∈ lw_all := lw_g (lw_at lw_m9 159 rfl) rfl
theorem q2190 : (Jvm.Cond.instanceMethod ({ cls := "SpeaksInTurnModel", name := "film", desc := "(I)I" } : Jvm.MethodName)) ∈ lw_all := lw_g (lw_at lw_m9 161 rfl) rfl
theorem q2191 : (Jvm.Cond.selects "SpeaksInTurnModel" ({ cls := "SpeaksInTurnModel", name := "film", desc := "(I)I" } : Jvm.MethodName) ({ cls := "SpeaksInTurnModel", name := "film", desc := "(I)I" } : Jvm.MethodName)) ∈ lw_all := lw_g (lw_at lw_m9 162 rfl) rfl
theorem q2192 : (Jvm.Cond.code ({ cls := "SpeaksInTurnModel", name := "film", desc := "(I)I" } : Jvm.MethodName) prog_34_method_80_code (6 : Nat) (Option.some Jvm.ClassFile.FieldType.int)) ∈ lw_all := lw_g (lw_at lw_m9 163 rfl) rfl
theorem q2194 : (Jvm.Cond.instanceMethod ({ cls := "SpeaksInTurnModel", name := "wish", desc := "(II)I" } : Jvm.MethodName)) ∈ lw_all := lw_g (lw_at lw_m9 165 rfl) rfl
theorem q2195 : (Jvm.Cond.selects "SpeaksInTurnModel" ({ cls := "SpeaksInTurnModel", name := "wish", desc := "(II)I" } : Jvm.MethodName) ({ cls := "SpeaksInTurnModel", name := "wish", desc := "(II)I" } : Jvm.MethodName)) ∈ lw_all := lw_g (lw_at lw_m9 166 rfl) rfl
theorem q2196 : (Jvm.Cond.code ({ cls := "SpeaksInTurnModel", name := "wish", desc := "(II)I" } : Jvm.MethodName) prog_34_method_81_code (5 : Nat) (Option.some Jvm.ClassFile.FieldType.int)) ∈ lw_all := lw_g (lw_at lw_m9 167 rfl) rfl
theorem q2198 : (Jvm.Cond.instanceMethod ({ cls := "SpeaksInTurnModel", name := "body", desc := "(I)I" } : Jvm.MethodName)) ∈ lw_all := lw_g (lw_at lw_m9 169 rfl) rfl
theorem q2199 : (Jvm.Cond.selects "SpeaksInTurnModel" ({ cls := "SpeaksInTurnModel", name := "body", desc := "(I)I" } : Jvm.MethodName) ({ cls := "SpeaksInTurnModel", name := "body", desc := "(I)I" } : Jvm.MethodName)) ∈ lw_all := lw_g (lw_at lw_m9 170 rfl) rfl
theorem q2200 : (Jvm.Cond.code ({ cls := "SpeaksInTurnModel", name := "body", desc := "(I)I" } : Jvm.MethodName) prog_34_method_84_code (2 : Nat) (Option.some Jvm.ClassFile.FieldType.int)) ∈ lw_all := lw_g (lw_at lw_m9 171 rfl) rfl
theorem q2201 : (Jvm.Cond.constantLong "SpeaksInTurnModel" (447 : Nat) (7 : Int64)) ∈ lw_all := lw_g (lw_at lw_m9 172 rfl) rfl
theorem q2203 : (Jvm.Cond.instanceMethod ({ cls := "SpeaksInTurnModel", name := "act", desc := "(III)I" } : Jvm.MethodName)) ∈ lw_all := lw_g (lw_at lw_m9 174 rfl) rfl
theorem q2204 : (Jvm.Cond.selects "SpeaksInTurnModel" ({ cls := "SpeaksInTurnModel", name := "act", desc := "(III)I" } : Jvm.MethodName) ({ cls := "SpeaksInTurnModel", name := "act", desc := "(III)I" } : Jvm.MethodName)) ∈ lw_all := lw_g (lw_at lw_m9 175 rfl) rfl
theorem q2205 : (Jvm.Cond.code ({ cls := "SpeaksInTurnModel", name := "act", desc := "(III)I" } : Jvm.MethodName) prog_34_method_91_code (4 : Nat) (Option.some Jvm.ClassFile.FieldType.int)) ∈ lw_all := lw_g (lw_at lw_m9 176 rfl) rfl
theorem q2206 : (Jvm.Cond.methodLink "SpeaksInTurnModel" (473 : Nat) ({ cls := "SpeaksInTurnModel", name := "isBody", desc := "(I)Z" } : Jvm.MethodName)) ∈ lw_all := lw_g (lw_at lw_m9 177 rfl) rfl
theorem q2207 : (Jvm.Cond.privateMethod ({ cls := "SpeaksInTurnModel", name := "isBody", desc := "(I)Z" } : Jvm.MethodName)) ∈ lw_tbl := lw_at lw_m9 178 rfl
theorem q2208 : (Jvm.Cond.instanceMethod ({ cls := "SpeaksInTurnModel", name := "isBody", desc := "(I)Z" } : Jvm.MethodName)) ∈ lw_all := lw_g (lw_at lw_m9 179 rfl) rfl
theorem q2209 : (Jvm.Cond.code ({ cls := "SpeaksInTurnModel", name := "isBody", desc := "(I)Z" } : Jvm.MethodName) prog_34_method_82_code (2 : Nat) (Option.some Jvm.ClassFile.FieldType.boolean)) ∈ lw_all := lw_g (lw_at lw_m9 180 rfl) rfl
theorem q2210 : (Jvm.Cond.methodLink "SpeaksInTurnModel" (455 : Nat) ({ cls := "SpeaksInTurnModel", name := "knowsAs", desc := "(II)I" } : Jvm.MethodName)) ∈ lw_all := lw_g (lw_at lw_m9 181 rfl) rfl
theorem q2211 : (Jvm.Cond.privateMethod ({ cls := "SpeaksInTurnModel", name := "knowsAs", desc := "(II)I" } : Jvm.MethodName)) ∈ lw_tbl := lw_at lw_m9 182 rfl
theorem q2212 : (Jvm.Cond.instanceMethod ({ cls := "SpeaksInTurnModel", name := "knowsAs", desc := "(II)I" } : Jvm.MethodName)) ∈ lw_all := lw_g (lw_at lw_m9 183 rfl) rfl
theorem q2213 : (Jvm.Cond.code ({ cls := "SpeaksInTurnModel", name := "knowsAs", desc := "(II)I" } : Jvm.MethodName) prog_34_method_87_code (3 : Nat) (Option.some Jvm.ClassFile.FieldType.int)) ∈ lw_all := lw_g (lw_at lw_m9 184 rfl) rfl
theorem q2214 : (Jvm.Cond.methodLink "SpeaksInTurnModel" (452 : Nat) ({ cls := "SpeaksInTurnModel", name := "begins", desc := "(I)V" } : Jvm.MethodName)) ∈ lw_all := lw_g (lw_at lw_m9 185 rfl) rfl
theorem q2215 : (Jvm.Cond.privateMethod ({ cls := "SpeaksInTurnModel", name := "begins", desc := "(I)V" } : Jvm.MethodName)) ∈ lw_tbl := lw_at lw_m9 186 rfl
theorem q2216 : (Jvm.Cond.instanceMethod ({ cls := "SpeaksInTurnModel", name := "begins", desc := "(I)V" } : Jvm.MethodName)) ∈ lw_all := lw_g (lw_at lw_m9 187 rfl) rfl
theorem q2217 : (Jvm.Cond.code ({ cls := "SpeaksInTurnModel", name := "begins", desc := "(I)V" } : Jvm.MethodName) prog_34_method_86_code (2 : Nat) (Option.none : Option Jvm.ClassFile.FieldType)) ∈ lw_all := lw_g (lw_at lw_m9 188 rfl) rfl
theorem q2218 : (Jvm.Cond.methodLink "SpeaksInTurnModel" (461 : Nat) ({ cls := "SpeaksInTurnModel", name := "speaksAs", desc := "(II)I" } : Jvm.MethodName)) ∈ lw_all := lw_g (lw_at lw_m9 189 rfl) rfl
theorem q2219 : (Jvm.Cond.privateMethod ({ cls := "SpeaksInTurnModel", name := "speaksAs", desc := "(II)I" } : Jvm.MethodName)) ∈ lw_tbl := lw_at lw_m9 190 rfl
theorem q2220 : (Jvm.Cond.instanceMethod ({ cls := "SpeaksInTurnModel", name := "speaksAs", desc := "(II)I" } : Jvm.MethodName)) ∈ lw_all := lw_g (lw_at lw_m9 191 rfl) rfl
theorem q2221 : (Jvm.Cond.code ({ cls := "SpeaksInTurnModel", name := "speaksAs", desc := "(II)I" } : Jvm.MethodName) prog_34_method_88_code (4 : Nat) (Option.some Jvm.ClassFile.FieldType.int)) ∈ lw_all := lw_g (lw_at lw_m9 192 rfl) rfl
theorem q2222 : (Jvm.Cond.methodLink "SpeaksInTurnModel" (467 : Nat) ({ cls := "SpeaksInTurnModel", name := "stopsAs", desc := "(II)I" } : Jvm.MethodName)) ∈ lw_all := lw_g (lw_at lw_m9 193 rfl) rfl
theorem q2223 : (Jvm.Cond.privateMethod ({ cls := "SpeaksInTurnModel", name := "stopsAs", desc := "(II)I" } : Jvm.MethodName)) ∈ lw_tbl := lw_at lw_m9 194 rfl
theorem q2224 : (Jvm.Cond.instanceMethod ({ cls := "SpeaksInTurnModel", name := "stopsAs", desc := "(II)I" } : Jvm.MethodName)) ∈ lw_all := lw_g (lw_at lw_m9 195 rfl) rfl
theorem q2225 : (Jvm.Cond.code ({ cls := "SpeaksInTurnModel", name := "stopsAs", desc := "(II)I" } : Jvm.MethodName) prog_34_method_89_code (4 : Nat) (Option.some Jvm.ClassFile.FieldType.int)) ∈ lw_all := lw_g (lw_at lw_m9 196 rfl) rfl
theorem q2226 : (Jvm.Cond.methodLink "SpeaksInTurnModel" (470 : Nat) ({ cls := "SpeaksInTurnModel", name := "decidesAs", desc := "(II)I" } : Jvm.MethodName)) ∈ lw_all := lw_g (lw_at lw_m9 197 rfl) rfl
theorem q2227 : (Jvm.Cond.privateMethod ({ cls := "SpeaksInTurnModel", name := "decidesAs", desc := "(II)I" } : Jvm.MethodName)) ∈ lw_tbl := lw_at lw_m9 198 rfl
theorem q2228 : (Jvm.Cond.instanceMethod ({ cls := "SpeaksInTurnModel", name := "decidesAs", desc := "(II)I" } : Jvm.MethodName)) ∈ lw_all := lw_g (lw_at lw_m9 199 rfl) rfl
theorem q2229 : (Jvm.Cond.code ({ cls := "SpeaksInTurnModel", name := "decidesAs", desc := "(II)I" } : Jvm.MethodName) prog_34_method_90_code (4 : Nat) (Option.some Jvm.ClassFile.FieldType.int)) ∈ lw_all := lw_g (lw_at lw_m9 200 rfl) rfl
theorem q2231 : (Jvm.Cond.instanceMethod ({ cls := "SpeaksInTurnModel", name := "trace", desc := "(I)I" } : Jvm.MethodName)) ∈ lw_all := lw_g (lw_at lw_m9 202 rfl) rfl
theorem q2232 : (Jvm.Cond.selects "SpeaksInTurnModel" ({ cls := "SpeaksInTurnModel", name := "trace", desc := "(I)I" } : Jvm.MethodName) ({ cls := "SpeaksInTurnModel", name := "trace", desc := "(I)I" } : Jvm.MethodName)) ∈ lw_all := lw_g (lw_at lw_m9 203 rfl) rfl
theorem q2233 : (Jvm.Cond.code ({ cls := "SpeaksInTurnModel", name := "trace", desc := "(I)I" } : Jvm.MethodName) prog_34_method_92_code (2 : Nat) (Option.some Jvm.ClassFile.FieldType.int)) ∈ lw_all := lw_g (lw_at lw_m9 204 rfl) rfl
theorem q2235 : (Jvm.Cond.instanceMethod ({ cls := "SpeaksInTurnModel", name := "keep", desc := "(II)I" } : Jvm.MethodName)) ∈ lw_all := lw_g (lw_at lw_m9 206 rfl) rfl
theorem q2236 : (Jvm.Cond.selects "SpeaksInTurnModel" ({ cls := "SpeaksInTurnModel", name := "keep", desc := "(II)I" } : Jvm.MethodName) ({ cls := "SpeaksInTurnModel", name := "keep", desc := "(II)I" } : Jvm.MethodName)) ∈ lw_all := lw_g (lw_at lw_m9 207 rfl) rfl
theorem q2237 : (Jvm.Cond.code ({ cls := "SpeaksInTurnModel", name := "keep", desc := "(II)I" } : Jvm.MethodName) prog_34_method_94_code (3 : Nat) (Option.some Jvm.ClassFile.FieldType.int)) ∈ lw_all := lw_g (lw_at lw_m9 208 rfl) rfl
theorem q2239 : (Jvm.Cond.instanceMethod ({ cls := "SpeaksInTurnModel", name := "row", desc := "(III)I" } : Jvm.MethodName)) ∈ lw_all := lw_g (lw_at lw_m9 210 rfl) rfl
theorem q2240 : (Jvm.Cond.selects "SpeaksInTurnModel" ({ cls := "SpeaksInTurnModel", name := "row", desc := "(III)I" } : Jvm.MethodName) ({ cls := "SpeaksInTurnModel", name := "row", desc := "(III)I" } : Jvm.MethodName)) ∈ lw_all := lw_g (lw_at lw_m9 211 rfl) rfl
theorem q2241 : (Jvm.Cond.code ({ cls := "SpeaksInTurnModel", name := "row", desc := "(III)I" } : Jvm.MethodName) prog_34_method_95_code (5 : Nat) (Option.some Jvm.ClassFile.FieldType.int)) ∈ lw_all := lw_g (lw_at lw_m9 212 rfl) rfl
theorem q2242 : (Jvm.Cond.constantLong "SpeaksInTurnModel" (476 : Nat) (4 : Int64)) ∈ lw_all := lw_g (lw_at lw_m9 213 rfl) rfl
theorem q2244 : (Jvm.Cond.instanceMethod ({ cls := "SpeaksInTurnModel", name := "put", desc := "(IIJ)I" } : Jvm.MethodName)) ∈ lw_all := lw_g (lw_at lw_m9 215 rfl) rfl
theorem q2245 : (Jvm.Cond.selects "SpeaksInTurnModel" ({ cls := "SpeaksInTurnModel", name := "put", desc := "(IIJ)I" } : Jvm.MethodName) ({ cls := "SpeaksInTurnModel", name := "put", desc := "(IIJ)I" } : Jvm.MethodName)) ∈ lw_all := lw_g (lw_at lw_m9 216 rfl) rfl
theorem q2246 : (Jvm.Cond.code ({ cls := "SpeaksInTurnModel", name := "put", desc := "(IIJ)I" } : Jvm.MethodName) prog_34_method_98_code (6 : Nat) (Option.some Jvm.ClassFile.FieldType.int)) ∈ lw_all := lw_g (lw_at lw_m9 217 rfl) rfl
theorem q2247 : (Jvm.Cond.methodLink "SpeaksInTurnModel" (478 : Nat) ({ cls := "SpeaksInTurnModel", name := "refusal", desc := "(II)I" } : Jvm.MethodName)) ∈ lw_all := lw_g (lw_at lw_m9 218 rfl) rfl
theorem q2248 : (Jvm.Cond.privateMethod ({ cls := "SpeaksInTurnModel", name := "refusal", desc := "(II)I" } : Jvm.MethodName)) ∈ lw_tbl := lw_at lw_m9 219 rfl
theorem q2249 : (Jvm.Cond.instanceMethod ({ cls := "SpeaksInTurnModel", name := "refusal", desc := "(II)I" } : Jvm.MethodName)) ∈ lw_all := lw_g (lw_at lw_m9 220 rfl) rfl
theorem q2250 : (Jvm.Cond.code ({ cls := "SpeaksInTurnModel", name := "refusal", desc := "(II)I" } : Jvm.MethodName) prog_34_method_96_code (3 : Nat) (Option.some Jvm.ClassFile.FieldType.int)) ∈ lw_all := lw_g (lw_at lw_m9 221 rfl) rfl
theorem q2251 : (Jvm.Cond.methodLink "SpeaksInTurnModel" (481 : Nat) ({ cls := "SpeaksInTurnModel", name := "asSort", desc := "(IJ)J" } : Jvm.MethodName)) ∈ lw_all := lw_g (lw_at lw_m9 222 rfl) rfl
theorem q2252 : (Jvm.Cond.static ({ cls := "SpeaksInTurnModel", name := "asSort", desc := "(IJ)J" } : Jvm.MethodName)) ∈ lw_all := lw_g (lw_at lw_m9 223 rfl) rfl
theorem q2253 : (Jvm.Cond.code ({ cls := "SpeaksInTurnModel", name := "asSort", desc := "(IJ)J" } : Jvm.MethodName) prog_34_method_97_code (3 : Nat) (Option.some Jvm.ClassFile.FieldType.long)) ∈ lw_all := lw_g (lw_at lw_m9 224 rfl) rfl
theorem q2255 : (Jvm.Cond.instanceMethod ({ cls := "SpeaksInTurnModel", name := "element", desc := "(II)J" } : Jvm.MethodName)) ∈ lw_all := lw_g (lw_at lw_m9 226 rfl) rfl
theorem q2256 : (Jvm.Cond.selects "SpeaksInTurnModel" ({ cls := "SpeaksInTurnModel", name := "element", desc := "(II)J" } : Jvm.MethodName) ({ cls := "SpeaksInTurnModel", name := "element", desc := "(II)J" } : Jvm.MethodName)) ∈ lw_all := lw_g (lw_at lw_m9 227 rfl) rfl
theorem q2257 : (Jvm.Cond.code ({ cls := "SpeaksInTurnModel", name := "element", desc := "(II)J" } : Jvm.MethodName) prog_34_method_99_code (3 : Nat) (Option.some Jvm.ClassFile.FieldType.long)) ∈ lw_all := lw_g (lw_at lw_m9 228 rfl) rfl
theorem q2258 : (Jvm.Cond.constantLong "SpeaksInTurnModel" (487 : Nat) (-9223372036854775808 : Int64)) ∈ lw_all := lw_g (lw_at lw_m9 229 rfl) rfl
theorem q2260 : (Jvm.Cond.instanceMethod ({ cls := "SpeaksInTurnModel", name := "shift", desc := "(IIIII)I" } : Jvm.MethodName)) ∈ lw_all := lw_g (lw_at lw_m9 231 rfl) rfl
theorem q2261 : (Jvm.Cond.selects "SpeaksInTurnModel" ({ cls := "SpeaksInTurnModel", name := "shift", desc := "(IIIII)I" } : Jvm.MethodName) ({ cls := "SpeaksInTurnModel", name := "shift", desc := "(IIIII)I" } : Jvm.MethodName)) ∈ lw_all := lw_g (lw_at lw_m9 232 rfl) rfl
theorem q2262 : (Jvm.Cond.code ({ cls := "SpeaksInTurnModel", name := "shift", desc := "(IIIII)I" } : Jvm.MethodName) prog_34_method_100_code (7 : Nat) (Option.some Jvm.ClassFile.FieldType.int)) ∈ lw_all := lw_g (lw_at lw_m9 233 rfl) rfl
theorem q2264 : (Jvm.Cond.instanceMethod ({ cls := "SpeaksInTurnModel", name := "taken", desc := "(II)I" } : Jvm.MethodName)) ∈ lw_all := lw_g (lw_at lw_m9 235 rfl) rfl
theorem q2265 : (Jvm.Cond.selects "SpeaksInTurnModel" ({ cls := "SpeaksInTurnModel", name := "taken", desc := "(II)I" } : Jvm.MethodName) ({ cls := "SpeaksInTurnModel", name := "taken", desc := "(II)I" } : Jvm.MethodName)) ∈ lw_all := lw_g (lw_at lw_m9 236 rfl) rfl
theorem q2266 : (Jvm.Cond.code ({ cls := "SpeaksInTurnModel", name := "taken", desc := "(II)I" } : Jvm.MethodName) prog_34_method_101_code (4 : Nat) (Option.some Jvm.ClassFile.FieldType.int)) ∈ lw_all := lw_g (lw_at lw_m9 237 rfl) rfl
theorem q2267 : (Jvm.Cond.methodLink "SpeaksInTurnModel" (489 : Nat) ({ cls := "SpeaksInTurnModel", name := "kindOf", desc := "(I)I" } : Jvm.MethodName)) ∈ lw_all := lw_g (lw_at lw_m9 238 rfl) rfl
theorem q2268 : (Jvm.Cond.privateMethod ({ cls := "SpeaksInTurnModel", name := "kindOf", desc := "(I)I" } : Jvm.MethodName)) ∈ lw_tbl := lw_at lw_m9 239 rfl
theorem q2269 : (Jvm.Cond.instanceMethod ({ cls := "SpeaksInTurnModel", name := "kindOf", desc := "(I)I" } : Jvm.MethodName)) ∈ lw_all := lw_g (lw_at lw_m10 0 rfl) rfl
theorem q2270 : (Jvm.Cond.code ({ cls := "SpeaksInTurnModel", name := "kindOf", desc := "(I)I" } : Jvm.MethodName) prog_34_method_83_code (2 : Nat) (Option.some Jvm.ClassFile.FieldType.int)) ∈ lw_all := lw_g (lw_at lw_m10 1 rfl) rfl
theorem q2271 : (Jvm.Cond.methodLink "SpeaksInTurnModel" (492 : Nat) ({ cls := "SpeaksInTurnModel", name := "above", desc := "(I)I" } : Jvm.MethodName)) ∈ lw_all := lw_g (lw_at lw_m10 2 rfl) rfl
theorem q2272 : (Jvm.Cond.static ({ cls := "SpeaksInTurnModel", name := "above", desc := "(I)I" } : Jvm.MethodName)) ∈ lw_all := lw_g (lw_at lw_m10 3 rfl) rfl
theorem q2273 : (Jvm.Cond.code ({ cls := "SpeaksInTurnModel", name := "above", desc := "(I)I" } : Jvm.MethodName) prog_34_method_85_code (1 : Nat) (Option.some Jvm.ClassFile.FieldType.int)) ∈ lw_all := lw_g (lw_at lw_m10 4 rfl) rfl
theorem q2275 : (Jvm.Cond.instanceMethod ({ cls := "SpeaksInTurnModel", name := "count", desc := "(I)I" } : Jvm.MethodName)) ∈ lw_all := lw_g (lw_at lw_m10 6 rfl) rfl
theorem q2276 : (Jvm.Cond.selects "SpeaksInTurnModel" ({ cls := "SpeaksInTurnModel", name := "count", desc := "(I)I" } : Jvm.MethodName) ({ cls := "SpeaksInTurnModel", name := "count", desc := "(I)I" } : Jvm.MethodName)) ∈ lw_all := lw_g (lw_at lw_m10 7 rfl) rfl
theorem q2277 : (Jvm.Cond.code ({ cls := "SpeaksInTurnModel", name := "count", desc := "(I)I" } : Jvm.MethodName) prog_34_method_102_code (2 : Nat) (Option.some Jvm.ClassFile.FieldType.int)) ∈ lw_all := lw_g (lw_at lw_m10 8 rfl) rfl
theorem q155 : (Jvm.Cond.initialized "SpeaksInTurn$BooleanRow") ∈ lw_all := lw_g (lw_at lw_m1 46 rfl) rfl
theorem q1490 : (Jvm.Cond.instantiable "SpeaksInTurn$BooleanRow" (1 : Nat)) ∈ lw_all := lw_g (lw_at lw_m6 181 rfl) rfl
theorem q1492 : (Jvm.Cond.instanceMethod ({ cls := "SpeaksInTurn$BooleanRow", name := "<init>", desc := "(I)V" } : Jvm.MethodName)) ∈ lw_all := lw_g (lw_at lw_m6 183 rfl) rfl
theorem q1493 : (Jvm.Cond.code ({ cls := "SpeaksInTurn$BooleanRow", name := "<init>", desc := "(I)V" } : Jvm.MethodName) prog_3_method_1_code (2 : Nat) (Option.none : Option Jvm.ClassFile.FieldType)) ∈ lw_all := lw_g (lw_at lw_m6 184 rfl) rfl
theorem q1494 : (Jvm.Cond.methodLinkNest "SpeaksInTurn$BooleanRow" (1 : Nat) ({ cls := "SpeaksInTurn$Row", name := "<init>", desc := "()V" } : Jvm.MethodName) "SpeaksInTurn") ∈ lw_tbl := lw_at lw_m6 185 rfl
theorem q1495 : (Jvm.Cond.fieldLink "SpeaksInTurn$BooleanRow" (7 : Nat) "SpeaksInTurn$BooleanRow" "items" "[Z") ∈ lw_all := lw_g (lw_at lw_m6 186 rfl) rfl
theorem q1496 : (Jvm.Cond.laysFinal "SpeaksInTurn$BooleanRow" "SpeaksInTurn$BooleanRow" "items" "[Z") ∈ lw_all := lw_g (lw_at lw_m6 187 rfl) rfl
theorem q1497 : (Jvm.Cond.soleField "SpeaksInTurn$BooleanRow" "items") ∈ lw_all := lw_g (lw_at lw_m6 188 rfl) rfl
theorem q1498 : (Jvm.Cond.superclass "SpeaksInTurn$BooleanRow" "SpeaksInTurn$Row") ∈ lw_all := lw_g (lw_at lw_m6 189 rfl) rfl
theorem q1508 : (Jvm.Cond.selects "SpeaksInTurn$BooleanRow" ({ cls := "SpeaksInTurn$Row", name := "put", desc := "(IJ)Z" } : Jvm.MethodName) ({ cls := "SpeaksInTurn$BooleanRow", name := "put", desc := "(IJ)Z" } : Jvm.MethodName)) ∈ lw_all := lw_g (lw_at lw_m6 199 rfl) rfl
theorem q1509 : (Jvm.Cond.instanceMethod ({ cls := "SpeaksInTurn$BooleanRow", name := "put", desc := "(IJ)Z" } : Jvm.MethodName)) ∈ lw_all := lw_g (lw_at lw_m6 200 rfl) rfl
theorem q1510 : (Jvm.Cond.code ({ cls := "SpeaksInTurn$BooleanRow", name := "put", desc := "(IJ)Z" } : Jvm.MethodName) prog_3_method_5_code (4 : Nat) (Option.some Jvm.ClassFile.FieldType.boolean)) ∈ lw_all := lw_g (lw_at lw_m6 201 rfl) rfl
theorem q1531 : (Jvm.Cond.selects "SpeaksInTurn$BooleanRow" ({ cls := "SpeaksInTurn$Row", name := "at", desc := "(I)J" } : Jvm.MethodName) ({ cls := "SpeaksInTurn$BooleanRow", name := "at", desc := "(I)J" } : Jvm.MethodName)) ∈ lw_all := lw_g (lw_at lw_m6 222 rfl) rfl
theorem q1532 : (Jvm.Cond.instanceMethod ({ cls := "SpeaksInTurn$BooleanRow", name := "at", desc := "(I)J" } : Jvm.MethodName)) ∈ lw_all := lw_g (lw_at lw_m6 223 rfl) rfl
theorem q1533 : (Jvm.Cond.code ({ cls := "SpeaksInTurn$BooleanRow", name := "at", desc := "(I)J" } : Jvm.MethodName) prog_3_method_4_code (2 : Nat) (Option.some Jvm.ClassFile.FieldType.long)) ∈ lw_all := lw_g (lw_at lw_m6 224 rfl) rfl
theorem q1549 : (Jvm.Cond.selects "SpeaksInTurn$BooleanRow" ({ cls := "SpeaksInTurn$Row", name := "copy", desc := "(ILSpeaksInTurn$Row;II)V" } : Jvm.MethodName) ({ cls := "SpeaksInTurn$BooleanRow", name := "copy", desc := "(ILSpeaksInTurn$Row;II)V" } : Jvm.MethodName)) ∈ lw_all := lw_g (lw_at lw_m7 0 rfl) rfl
theorem q1550 : (Jvm.Cond.instanceMethod ({ cls := "SpeaksInTurn$BooleanRow", name := "copy", desc := "(ILSpeaksInTurn$Row;II)V" } : Jvm.MethodName)) ∈ lw_all := lw_g (lw_at lw_m7 1 rfl) rfl
theorem q1551 : (Jvm.Cond.code ({ cls := "SpeaksInTurn$BooleanRow", name := "copy", desc := "(ILSpeaksInTurn$Row;II)V" } : Jvm.MethodName) prog_3_method_6_code (5 : Nat) (Option.none : Option Jvm.ClassFile.FieldType)) ∈ lw_all := lw_g (lw_at lw_m7 2 rfl) rfl
theorem q1552 : (Jvm.Cond.classLink "SpeaksInTurn$BooleanRow" (8 : Nat) "SpeaksInTurn$BooleanRow") ∈ lw_all := lw_g (lw_at lw_m7 3 rfl) rfl
theorem q1553 : (Jvm.Cond.methodLink "SpeaksInTurn$BooleanRow" (13 : Nat) ({ cls := "java/lang/System", name := "arraycopy", desc := "(Ljava/lang/Object;ILjava/lang/Object;II)V" } : Jvm.MethodName)) ∈ lw_all := lw_g (lw_at lw_m7 4 rfl) rfl
theorem q2301 : (Jvm.Cond.castable "SpeaksInTurn$BooleanRow" "SpeaksInTurn$Row") ∈ lw_tbl := lw_at lw_m10 32 rfl
theorem q2325 : (Jvm.Cond.castable "SpeaksInTurn$BooleanRow" "SpeaksInTurn$Held") ∈ lw_tbl := lw_at lw_m10 56 rfl
theorem q114 : (Jvm.Cond.initialized "SpeaksInTurn$Person") ∈ lw_all := lw_g (lw_at lw_m1 5 rfl) rfl
theorem q399 : (Jvm.Cond.instantiable "SpeaksInTurn$Person" (4 : Nat)) ∈ lw_all := lw_g (lw_at lw_m2 50 rfl) rfl
theorem q401 : (Jvm.Cond.instanceMethod ({ cls := "SpeaksInTurn$Person", name := "<init>", desc := "(IIII)V" } : Jvm.MethodName)) ∈ lw_all := lw_g (lw_at lw_m2 52 rfl) rfl
theorem q402 : (Jvm.Cond.code ({ cls := "SpeaksInTurn$Person", name := "<init>", desc := "(IIII)V" } : Jvm.MethodName) prog_21_method_1_code (5 : Nat) (Option.none : Option Jvm.ClassFile.FieldType)) ∈ lw_all := lw_g (lw_at lw_m2 53 rfl) rfl
theorem q403 : (Jvm.Cond.methodLink "SpeaksInTurn$Person" (1 : Nat) ({ cls := "java/lang/Object", name := "<init>", desc := "()V" } : Jvm.MethodName)) ∈ lw_all := lw_g (lw_at lw_m2 54 rfl) rfl
theorem q404 : (Jvm.Cond.fieldLink "SpeaksInTurn$Person" (16 : Nat) "SpeaksInTurn$Person" "wage" "I") ∈ lw_all := lw_g (lw_at lw_m2 55 rfl) rfl
theorem q407 : (Jvm.Cond.fieldLink "SpeaksInTurn$Person" (7 : Nat) "SpeaksInTurn$Person" "rank" "I") ∈ lw_all := lw_g (lw_at lw_m2 58 rfl) rfl
theorem q410 : (Jvm.Cond.fieldLink "SpeaksInTurn$Person" (13 : Nat) "SpeaksInTurn$Person" "voice" "I") ∈ lw_all := lw_g (lw_at lw_m2 61 rfl) rfl
theorem q413 : (Jvm.Cond.fieldLink "SpeaksInTurn$Person" (19 : Nat) "SpeaksInTurn$Person" "late" "I") ∈ lw_all := lw_g (lw_at lw_m2 64 rfl) rfl
theorem q416 : (Jvm.Cond.laysFinal "SpeaksInTurn$Person" "SpeaksInTurn$Person" "wage" "I") ∈ lw_all := lw_g (lw_at lw_m2 67 rfl) rfl
theorem q417 : (Jvm.Cond.soleField "SpeaksInTurn$Person" "wage") ∈ lw_all := lw_g (lw_at lw_m2 68 rfl) rfl
theorem q418 : (Jvm.Cond.lays "SpeaksInTurn$Person" "SpeaksInTurn$Person" "rank" "I") ∈ lw_all := lw_g (lw_at lw_m2 69 rfl) rfl
theorem q419 : (Jvm.Cond.soleField "SpeaksInTurn$Person" "rank") ∈ lw_all := lw_g (lw_at lw_m2 70 rfl) rfl
theorem q420 : (Jvm.Cond.lays "SpeaksInTurn$Person" "SpeaksInTurn$Person" "voice" "I") ∈ lw_all := lw_g (lw_at lw_m2 71 rfl) rfl
theorem q421 : (Jvm.Cond.soleField "SpeaksInTurn$Person" "voice") ∈ lw_all := lw_g (lw_at lw_m2 72 rfl) rfl
theorem q422 : (Jvm.Cond.lays "SpeaksInTurn$Person" "SpeaksInTurn$Person" "late" "I") ∈ lw_all := lw_g (lw_at lw_m2 73 rfl) rfl
theorem q423 : (Jvm.Cond.soleField "SpeaksInTurn$Person" "late") ∈ lw_all := lw_g (lw_at lw_m2 74 rfl) rfl
theorem q424 : (Jvm.Cond.superclass "SpeaksInTurn$Person" "java/lang/Object") ∈ lw_all := lw_g (lw_at lw_m2 75 rfl) rfl
theorem q115 : (Jvm.Cond.initialized "SpeaksInTurn$Thing") ∈ lw_all := lw_g (lw_at lw_m1 6 rfl) rfl
theorem q429 : (Jvm.Cond.instantiable "SpeaksInTurn$Thing" (2 : Nat)) ∈ lw_all := lw_g (lw_at lw_m2 80 rfl) rfl
theorem q431 : (Jvm.Cond.instanceMethod ({ cls := "SpeaksInTurn$Thing", name := "<init>", desc := "(II)V" } : Jvm.MethodName)) ∈ lw_all := lw_g (lw_at lw_m2 82 rfl) rfl
theorem q432 : (Jvm.Cond.code ({ cls := "SpeaksInTurn$Thing", name := "<init>", desc := "(II)V" } : Jvm.MethodName) prog_30_method_1_code (3 : Nat) (Option.none : Option Jvm.ClassFile.FieldType)) ∈ lw_all := lw_g (lw_at lw_m2 83 rfl) rfl
theorem q433 : (Jvm.Cond.methodLink "SpeaksInTurn$Thing" (1 : Nat) ({ cls := "java/lang/Object", name := "<init>", desc := "()V" } : Jvm.MethodName)) ∈ lw_all := lw_g (lw_at lw_m2 84 rfl) rfl
theorem q434 : (Jvm.Cond.fieldLink "SpeaksInTurn$Thing" (7 : Nat) "SpeaksInTurn$Thing" "worth" "I") ∈ lw_all := lw_g (lw_at lw_m2 85 rfl) rfl
theorem q437 : (Jvm.Cond.fieldLink "SpeaksInTurn$Thing" (13 : Nat) "SpeaksInTurn$Thing" "easy" "I") ∈ lw_all := lw_g (lw_at lw_m2 88 rfl) rfl
theorem q439 : (Jvm.Cond.lays "SpeaksInTurn$Thing" "SpeaksInTurn$Thing" "worth" "I") ∈ lw_all := lw_g (lw_at lw_m2 90 rfl) rfl
theorem q440 : (Jvm.Cond.soleField "SpeaksInTurn$Thing" "worth") ∈ lw_all := lw_g (lw_at lw_m2 91 rfl) rfl
theorem q441 : (Jvm.Cond.lays "SpeaksInTurn$Thing" "SpeaksInTurn$Thing" "easy" "I") ∈ lw_all := lw_g (lw_at lw_m2 92 rfl) rfl
theorem q442 : (Jvm.Cond.soleField "SpeaksInTurn$Thing" "easy") ∈ lw_all := lw_g (lw_at lw_m2 93 rfl) rfl
theorem q443 : (Jvm.Cond.superclass "SpeaksInTurn$Thing" "java/lang/Object") ∈ lw_all := lw_g (lw_at lw_m2 94 rfl) rfl
theorem q116 : (Jvm.Cond.initialized "SpeaksInTurn$Card") ∈ lw_all := lw_g (lw_at lw_m1 7 rfl) rfl
theorem q460 : (Jvm.Cond.instantiable "SpeaksInTurn$Card" (3 : Nat)) ∈ lw_all := lw_g (lw_at lw_m2 111 rfl) rfl
theorem q462 : (Jvm.Cond.instanceMethod ({ cls := "SpeaksInTurn$Card", name := "<init>", desc := "(III)V" } : Jvm.MethodName)) ∈ lw_all := lw_g (lw_at lw_m2 113 rfl) rfl
theorem q463 : (Jvm.Cond.code ({ cls := "SpeaksInTurn$Card", name := "<init>", desc := "(III)V" } : Jvm.MethodName) prog_5_method_1_code (4 : Nat) (Option.none : Option Jvm.ClassFile.FieldType)) ∈ lw_all := lw_g (lw_at lw_m2 114 rfl) rfl
theorem q464 : (Jvm.Cond.methodLink "SpeaksInTurn$Card" (1 : Nat) ({ cls := "java/lang/Object", name := "<init>", desc := "()V" } : Jvm.MethodName)) ∈ lw_all := lw_g (lw_at lw_m2 115 rfl) rfl
theorem q465 : (Jvm.Cond.fieldLink "SpeaksInTurn$Card" (7 : Nat) "SpeaksInTurn$Card" "thing" "I") ∈ lw_all := lw_g (lw_at lw_m2 116 rfl) rfl
theorem q468 : (Jvm.Cond.fieldLink "SpeaksInTurn$Card" (13 : Nat) "SpeaksInTurn$Card" "counts" "I") ∈ lw_all := lw_g (lw_at lw_m2 119 rfl) rfl
theorem q471 : (Jvm.Cond.fieldLink "SpeaksInTurn$Card" (16 : Nat) "SpeaksInTurn$Card" "known" "I") ∈ lw_all := lw_g (lw_at lw_m2 122 rfl) rfl
theorem q473 : (Jvm.Cond.laysFinal "SpeaksInTurn$Card" "SpeaksInTurn$Card" "thing" "I") ∈ lw_all := lw_g (lw_at lw_m2 124 rfl) rfl
theorem q474 : (Jvm.Cond.soleField "SpeaksInTurn$Card" "thing") ∈ lw_all := lw_g (lw_at lw_m2 125 rfl) rfl
theorem q475 : (Jvm.Cond.laysFinal "SpeaksInTurn$Card" "SpeaksInTurn$Card" "counts" "I") ∈ lw_all := lw_g (lw_at lw_m2 126 rfl) rfl
theorem q476 : (Jvm.Cond.soleField "SpeaksInTurn$Card" "counts") ∈ lw_all := lw_g (lw_at lw_m2 127 rfl) rfl
theorem q477 : (Jvm.Cond.laysFinal "SpeaksInTurn$Card" "SpeaksInTurn$Card" "known" "I") ∈ lw_all := lw_g (lw_at lw_m2 128 rfl) rfl
theorem q478 : (Jvm.Cond.soleField "SpeaksInTurn$Card" "known") ∈ lw_all := lw_g (lw_at lw_m2 129 rfl) rfl
theorem q479 : (Jvm.Cond.superclass "SpeaksInTurn$Card" "java/lang/Object") ∈ lw_all := lw_g (lw_at lw_m2 130 rfl) rfl
theorem q961 : (Jvm.Cond.instanceMethod ({ cls := "SpeaksInTurn$Card", name := "isOf", desc := "(I)Z" } : Jvm.MethodName)) ∈ lw_all := lw_g (lw_at lw_m4 132 rfl) rfl
theorem q962 : (Jvm.Cond.selects "SpeaksInTurn$Card" ({ cls := "SpeaksInTurn$Card", name := "isOf", desc := "(I)Z" } : Jvm.MethodName) ({ cls := "SpeaksInTurn$Card", name := "isOf", desc := "(I)Z" } : Jvm.MethodName)) ∈ lw_all := lw_g (lw_at lw_m4 133 rfl) rfl
theorem q963 : (Jvm.Cond.code ({ cls := "SpeaksInTurn$Card", name := "isOf", desc := "(I)Z" } : Jvm.MethodName) prog_5_method_2_code (2 : Nat) (Option.some Jvm.ClassFile.FieldType.boolean)) ∈ lw_all := lw_g (lw_at lw_m4 134 rfl) rfl
theorem q125 : (Jvm.Cond.initialized "SpeaksInTurn$Reader") ∈ lw_all := lw_g (lw_at lw_m1 16 rfl) rfl
theorem q300 : (Jvm.Cond.fieldLinkNest "SpeaksInTurn$Reader" (25 : Nat) "SpeaksInTurn" "tape" "[B" "SpeaksInTurn") ∈ lw_tbl := lw_at lw_m1 191 rfl
theorem q301 : (Jvm.Cond.fieldLinkNest "SpeaksInTurn$Reader" (22 : Nat) "SpeaksInTurn" "taped" "I" "SpeaksInTurn") ∈ lw_tbl := lw_at lw_m1 192 rfl
theorem q684 : (Jvm.Cond.instantiable "SpeaksInTurn$Reader" (4 : Nat)) ∈ lw_all := lw_g (lw_at lw_m3 95 rfl) rfl
theorem q686 : (Jvm.Cond.instanceMethod ({ cls := "SpeaksInTurn$Reader", name := "<init>", desc := "(LSpeaksInTurn;)V" } : Jvm.MethodName)) ∈ lw_all := lw_g (lw_at lw_m3 97 rfl) rfl
theorem q687 : (Jvm.Cond.code ({ cls := "SpeaksInTurn$Reader", name := "<init>", desc := "(LSpeaksInTurn;)V" } : Jvm.MethodName) prog_23_method_1_code (2 : Nat) (Option.none : Option Jvm.ClassFile.FieldType)) ∈ lw_all := lw_g (lw_at lw_m3 98 rfl) rfl
theorem q688 : (Jvm.Cond.methodLink "SpeaksInTurn$Reader" (9 : Nat) ({ cls := "java/lang/Object", name := "<init>", desc := "()V" } : Jvm.MethodName)) ∈ lw_all := lw_g (lw_at lw_m3 99 rfl) rfl
theorem q689 : (Jvm.Cond.fieldLink "SpeaksInTurn$Reader" (19 : Nat) "SpeaksInTurn$Reader" "at" "I") ∈ lw_all := lw_g (lw_at lw_m3 100 rfl) rfl
theorem q690 : (Jvm.Cond.fieldLink "SpeaksInTurn$Reader" (15 : Nat) "SpeaksInTurn$Reader" "fault" "I") ∈ lw_all := lw_g (lw_at lw_m3 101 rfl) rfl
theorem q692 : (Jvm.Cond.fieldLink "SpeaksInTurn$Reader" (95 : Nat) "SpeaksInTurn$Reader" "open" "I") ∈ lw_all := lw_g (lw_at lw_m3 103 rfl) rfl
theorem q693 : (Jvm.Cond.fieldLink "SpeaksInTurn$Reader" (3 : Nat) "SpeaksInTurn$Reader" "this$0" "LSpeaksInTurn;") ∈ lw_all := lw_g (lw_at lw_m3 104 rfl) rfl
theorem q694 : (Jvm.Cond.lays "SpeaksInTurn$Reader" "SpeaksInTurn$Reader" "at" "I") ∈ lw_all := lw_g (lw_at lw_m3 105 rfl) rfl
theorem q695 : (Jvm.Cond.soleField "SpeaksInTurn$Reader" "at") ∈ lw_all := lw_g (lw_at lw_m3 106 rfl) rfl
theorem q696 : (Jvm.Cond.lays "SpeaksInTurn$Reader" "SpeaksInTurn$Reader" "fault" "I") ∈ lw_all := lw_g (lw_at lw_m3 107 rfl) rfl
theorem q697 : (Jvm.Cond.soleField "SpeaksInTurn$Reader" "fault") ∈ lw_all := lw_g (lw_at lw_m3 108 rfl) rfl
theorem q698 : (Jvm.Cond.lays "SpeaksInTurn$Reader" "SpeaksInTurn$Reader" "open" "I") ∈ lw_all := lw_g (lw_at lw_m3 109 rfl) rfl
theorem q699 : (Jvm.Cond.soleField "SpeaksInTurn$Reader" "open") ∈ lw_all := lw_g (lw_at lw_m3 110 rfl) rfl
theorem q700 : (Jvm.Cond.laysFinal "SpeaksInTurn$Reader" "SpeaksInTurn$Reader" "this$0" "LSpeaksInTurn;") ∈ lw_all := lw_g (lw_at lw_m3 111 rfl) rfl
theorem q701 : (Jvm.Cond.soleField "SpeaksInTurn$Reader" "this$0") ∈ lw_all := lw_g (lw_at lw_m3 112 rfl) rfl
theorem q702 : (Jvm.Cond.superclass "SpeaksInTurn$Reader" "java/lang/Object") ∈ lw_all := lw_g (lw_at lw_m3 113 rfl) rfl
theorem q704 : (Jvm.Cond.instanceMethod ({ cls := "SpeaksInTurn$Reader", name := "lines", desc := "()LSpeaksInTurn$Line;" } : Jvm.MethodName)) ∈ lw_all := lw_g (lw_at lw_m3 115 rfl) rfl
theorem q705 : (Jvm.Cond.selects "SpeaksInTurn$Reader" ({ cls := "SpeaksInTurn$Reader", name := "lines", desc := "()LSpeaksInTurn$Line;" } : Jvm.MethodName) ({ cls := "SpeaksInTurn$Reader", name := "lines", desc := "()LSpeaksInTurn$Line;" } : Jvm.MethodName)) ∈ lw_all := lw_g (lw_at lw_m3 116 rfl) rfl
theorem q706 : (Jvm.Cond.code ({ cls := "SpeaksInTurn$Reader", name := "lines", desc := "()LSpeaksInTurn$Line;" } : Jvm.MethodName) prog_23_method_5_code (3 : Nat) (Option.some (Jvm.ClassFile.FieldType.object "SpeaksInTurn$Line"))) ∈ lw_all := lw_g (lw_at lw_m3 117 rfl) rfl
theorem q707 : (Jvm.Cond.methodLink "SpeaksInTurn$Reader" (39 : Nat) ({ cls := "SpeaksInTurn$Reader", name := "line", desc := "()LSpeaksInTurn$Line;" } : Jvm.MethodName)) ∈ lw_all := lw_g (lw_at lw_m3 118 rfl) rfl
theorem q708 : (Jvm.Cond.privateMethod ({ cls := "SpeaksInTurn$Reader", name := "line", desc := "()LSpeaksInTurn$Line;" } : Jvm.MethodName)) ∈ lw_tbl := lw_at lw_m3 119 rfl
theorem q709 : (Jvm.Cond.instanceMethod ({ cls := "SpeaksInTurn$Reader", name := "line", desc := "()LSpeaksInTurn$Line;" } : Jvm.MethodName)) ∈ lw_all := lw_g (lw_at lw_m3 120 rfl) rfl
theorem q710 : (Jvm.Cond.code ({ cls := "SpeaksInTurn$Reader", name := "line", desc := "()LSpeaksInTurn$Line;" } : Jvm.MethodName) prog_23_method_6_code (2 : Nat) (Option.some (Jvm.ClassFile.FieldType.object "SpeaksInTurn$Line"))) ∈ lw_all := lw_g (lw_at lw_m3 121 rfl) rfl
theorem q711 : (Jvm.Cond.classLink "SpeaksInTurn$Reader" (44 : Nat) "SpeaksInTurn$Line") ∈ lw_all := lw_g (lw_at lw_m3 122 rfl) rfl
theorem q713 : (Jvm.Cond.methodLinkNest "SpeaksInTurn$Reader" (49 : Nat) ({ cls := "SpeaksInTurn$Line", name := "<init>", desc := "()V" } : Jvm.MethodName) "SpeaksInTurn") ∈ lw_tbl := lw_at lw_m3 124 rfl
theorem q717 : (Jvm.Cond.fieldLinkNest "SpeaksInTurn$Reader" (58 : Nat) "SpeaksInTurn$Line" "test" "LSpeaksInTurn$Node;" "SpeaksInTurn") ∈ lw_tbl := lw_at lw_m3 128 rfl
theorem q719 : (Jvm.Cond.fieldLinkNest "SpeaksInTurn$Reader" (54 : Nat) "SpeaksInTurn$Line" "gives" "LSpeaksInTurn$Node;" "SpeaksInTurn") ∈ lw_tbl := lw_at lw_m3 130 rfl
theorem q721 : (Jvm.Cond.fieldLinkNest "SpeaksInTurn$Reader" (43 : Nat) "SpeaksInTurn$Line" "next" "LSpeaksInTurn$Line;" "SpeaksInTurn") ∈ lw_tbl := lw_at lw_m3 132 rfl
theorem q730 : (Jvm.Cond.methodLink "SpeaksInTurn$Reader" (50 : Nat) ({ cls := "SpeaksInTurn$Reader", name := "either", desc := "()LSpeaksInTurn$Node;" } : Jvm.MethodName)) ∈ lw_all := lw_g (lw_at lw_m3 141 rfl) rfl
theorem q731 : (Jvm.Cond.privateMethod ({ cls := "SpeaksInTurn$Reader", name := "either", desc := "()LSpeaksInTurn$Node;" } : Jvm.MethodName)) ∈ lw_tbl := lw_at lw_m3 142 rfl
theorem q732 : (Jvm.Cond.instanceMethod ({ cls := "SpeaksInTurn$Reader", name := "either", desc := "()LSpeaksInTurn$Node;" } : Jvm.MethodName)) ∈ lw_all := lw_g (lw_at lw_m3 143 rfl) rfl
theorem q733 : (Jvm.Cond.code ({ cls := "SpeaksInTurn$Reader", name := "either", desc := "()LSpeaksInTurn$Node;" } : Jvm.MethodName) prog_23_method_8_code (2 : Nat) (Option.some (Jvm.ClassFile.FieldType.object "SpeaksInTurn$Node"))) ∈ lw_all := lw_g (lw_at lw_m3 144 rfl) rfl
theorem q734 : (Jvm.Cond.methodLink "SpeaksInTurn$Reader" (66 : Nat) ({ cls := "SpeaksInTurn$Reader", name := "all", desc := "()LSpeaksInTurn$Node;" } : Jvm.MethodName)) ∈ lw_all := lw_g (lw_at lw_m3 145 rfl) rfl
theorem q735 : (Jvm.Cond.privateMethod ({ cls := "SpeaksInTurn$Reader", name := "all", desc := "()LSpeaksInTurn$Node;" } : Jvm.MethodName)) ∈ lw_tbl := lw_at lw_m3 146 rfl
theorem q736 : (Jvm.Cond.instanceMethod ({ cls := "SpeaksInTurn$Reader", name := "all", desc := "()LSpeaksInTurn$Node;" } : Jvm.MethodName)) ∈ lw_all := lw_g (lw_at lw_m3 147 rfl) rfl
theorem q737 : (Jvm.Cond.code ({ cls := "SpeaksInTurn$Reader", name := "all", desc := "()LSpeaksInTurn$Node;" } : Jvm.MethodName) prog_23_method_9_code (2 : Nat) (Option.some (Jvm.ClassFile.FieldType.object "SpeaksInTurn$Node"))) ∈ lw_all := lw_g (lw_at lw_m3 148 rfl) rfl
theorem q738 : (Jvm.Cond.methodLink "SpeaksInTurn$Reader" (73 : Nat) ({ cls := "SpeaksInTurn$Reader", name := "compared", desc := "()LSpeaksInTurn$Node;" } : Jvm.MethodName)) ∈ lw_all := lw_g (lw_at lw_m3 149 rfl) rfl
theorem q739 : (Jvm.Cond.privateMethod ({ cls := "SpeaksInTurn$Reader", name := "compared", desc := "()LSpeaksInTurn$Node;" } : Jvm.MethodName)) ∈ lw_tbl := lw_at lw_m3 150 rfl
theorem q740 : (Jvm.Cond.instanceMethod ({ cls := "SpeaksInTurn$Reader", name := "compared", desc := "()LSpeaksInTurn$Node;" } : Jvm.MethodName)) ∈ lw_all := lw_g (lw_at lw_m3 151 rfl) rfl
theorem q741 : (Jvm.Cond.code ({ cls := "SpeaksInTurn$Reader", name := "compared", desc := "()LSpeaksInTurn$Node;" } : Jvm.MethodName) prog_23_method_10_code (3 : Nat) (Option.some (Jvm.ClassFile.FieldType.object "SpeaksInTurn$Node"))) ∈ lw_all := lw_g (lw_at lw_m3 152 rfl) rfl
theorem q742 : (Jvm.Cond.methodLink "SpeaksInTurn$Reader" (76 : Nat) ({ cls := "SpeaksInTurn$Reader", name := "sum", desc := "()LSpeaksInTurn$Node;" } : Jvm.MethodName)) ∈ lw_all := lw_g (lw_at lw_m3 153 rfl) rfl
theorem q743 : (Jvm.Cond.privateMethod ({ cls := "SpeaksInTurn$Reader", name := "sum", desc := "()LSpeaksInTurn$Node;" } : Jvm.MethodName)) ∈ lw_tbl := lw_at lw_m3 154 rfl
theorem q744 : (Jvm.Cond.instanceMethod ({ cls := "SpeaksInTurn$Reader", name := "sum", desc := "()LSpeaksInTurn$Node;" } : Jvm.MethodName)) ∈ lw_all := lw_g (lw_at lw_m3 155 rfl) rfl
theorem q745 : (Jvm.Cond.code ({ cls := "SpeaksInTurn$Reader", name := "sum", desc := "()LSpeaksInTurn$Node;" } : Jvm.MethodName) prog_23_method_11_code (3 : Nat) (Option.some (Jvm.ClassFile.FieldType.object "SpeaksInTurn$Node"))) ∈ lw_all := lw_g (lw_at lw_m3 156 rfl) rfl
theorem q746 : (Jvm.Cond.methodLink "SpeaksInTurn$Reader" (85 : Nat) ({ cls := "SpeaksInTurn$Reader", name := "product", desc := "()LSpeaksInTurn$Node;" } : Jvm.MethodName)) ∈ lw_all := lw_g (lw_at lw_m3 157 rfl) rfl
theorem q747 : (Jvm.Cond.privateMethod ({ cls := "SpeaksInTurn$Reader", name := "product", desc := "()LSpeaksInTurn$Node;" } : Jvm.MethodName)) ∈ lw_tbl := lw_at lw_m3 158 rfl
theorem q748 : (Jvm.Cond.instanceMethod ({ cls := "SpeaksInTurn$Reader", name := "product", desc := "()LSpeaksInTurn$Node;" } : Jvm.MethodName)) ∈ lw_all := lw_g (lw_at lw_m3 159 rfl) rfl
theorem q749 : (Jvm.Cond.code ({ cls := "SpeaksInTurn$Reader", name := "product", desc := "()LSpeaksInTurn$Node;" } : Jvm.MethodName) prog_23_method_12_code (3 : Nat) (Option.some (Jvm.ClassFile.FieldType.object "SpeaksInTurn$Node"))) ∈ lw_all := lw_g (lw_at lw_m3 160 rfl) rfl
theorem q750 : (Jvm.Cond.methodLink "SpeaksInTurn$Reader" (90 : Nat) ({ cls := "SpeaksInTurn$Reader", name := "operand", desc := "()LSpeaksInTurn$Node;" } : Jvm.MethodName)) ∈ lw_all := lw_g (lw_at lw_m3 161 rfl) rfl
theorem q751 : (Jvm.Cond.privateMethod ({ cls := "SpeaksInTurn$Reader", name := "operand", desc := "()LSpeaksInTurn$Node;" } : Jvm.MethodName)) ∈ lw_tbl := lw_at lw_m3 162 rfl
theorem q752 : (Jvm.Cond.instanceMethod ({ cls := "SpeaksInTurn$Reader", name := "operand", desc := "()LSpeaksInTurn$Node;" } : Jvm.MethodName)) ∈ lw_all := lw_g (lw_at lw_m3 163 rfl) rfl
theorem q753 : (Jvm.Cond.code ({ cls := "SpeaksInTurn$Reader", name := "operand", desc := "()LSpeaksInTurn$Node;" } : Jvm.MethodName) prog_23_method_14_code (4 : Nat) (Option.some (Jvm.ClassFile.FieldType.object "SpeaksInTurn$Node"))) ∈ lw_all := lw_g (lw_at lw_m3 164 rfl) rfl
theorem q754 : (Jvm.Cond.methodLink "SpeaksInTurn$Reader" (29 : Nat) ({ cls := "SpeaksInTurn$Reader", name := "here", desc := "()I" } : Jvm.MethodName)) ∈ lw_all := lw_g (lw_at lw_m3 165 rfl) rfl
theorem q755 : (Jvm.Cond.privateMethod ({ cls := "SpeaksInTurn$Reader", name := "here", desc := "()I" } : Jvm.MethodName)) ∈ lw_tbl := lw_at lw_m3 166 rfl
theorem q756 : (Jvm.Cond.instanceMethod ({ cls := "SpeaksInTurn$Reader", name := "here", desc := "()I" } : Jvm.MethodName)) ∈ lw_all := lw_g (lw_at lw_m3 167 rfl) rfl
theorem q757 : (Jvm.Cond.code ({ cls := "SpeaksInTurn$Reader", name := "here", desc := "()I" } : Jvm.MethodName) prog_23_method_2_code (1 : Nat) (Option.some Jvm.ClassFile.FieldType.int)) ∈ lw_all := lw_g (lw_at lw_m3 168 rfl) rfl
theorem q758 : (Jvm.Cond.stringRef "SpeaksInTurn$Reader" (98 : Nat) "rvenstpl") ∈ lw_tbl := lw_at lw_m3 169 rfl
theorem q759 : (Jvm.Cond.methodLink "SpeaksInTurn$Reader" (81 : Nat) ({ cls := "SpeaksInTurn$Reader", name := "isOne", desc := "(Ljava/lang/String;)Z" } : Jvm.MethodName)) ∈ lw_all := lw_g (lw_at lw_m3 170 rfl) rfl
theorem q760 : (Jvm.Cond.privateMethod ({ cls := "SpeaksInTurn$Reader", name := "isOne", desc := "(Ljava/lang/String;)Z" } : Jvm.MethodName)) ∈ lw_tbl := lw_at lw_m3 171 rfl
theorem q761 : (Jvm.Cond.instanceMethod ({ cls := "SpeaksInTurn$Reader", name := "isOne", desc := "(Ljava/lang/String;)Z" } : Jvm.MethodName)) ∈ lw_all := lw_g (lw_at lw_m3 172 rfl) rfl
theorem q762 : (Jvm.Cond.code ({ cls := "SpeaksInTurn$Reader", name := "isOne", desc := "(Ljava/lang/String;)Z" } : Jvm.MethodName) prog_23_method_3_code (2 : Nat) (Option.some Jvm.ClassFile.FieldType.boolean)) ∈ lw_all := lw_g (lw_at lw_m3 173 rfl) rfl
theorem q763 : (Jvm.Cond.methodLink "SpeaksInTurn$Reader" (33 : Nat) ({ cls := "java/lang/String", name := "indexOf", desc := "(I)I" } : Jvm.MethodName)) ∈ lw_all := lw_g (lw_at lw_m3 174 rfl) rfl
theorem q849 : (Jvm.Cond.classLink "SpeaksInTurn$Reader" (100 : Nat) "SpeaksInTurn$Name") ∈ lw_all := lw_g (lw_at lw_m4 20 rfl) rfl
theorem q851 : (Jvm.Cond.methodLink "SpeaksInTurn$Reader" (102 : Nat) ({ cls := "SpeaksInTurn$Name", name := "<init>", desc := "(I)V" } : Jvm.MethodName)) ∈ lw_all := lw_g (lw_at lw_m4 22 rfl) rfl
theorem q862 : (Jvm.Cond.methodLink "SpeaksInTurn$Reader" (105 : Nat) ({ cls := "SpeaksInTurn$Reader", name := "opens", desc := "()Z" } : Jvm.MethodName)) ∈ lw_all := lw_g (lw_at lw_m4 33 rfl) rfl
theorem q863 : (Jvm.Cond.privateMethod ({ cls := "SpeaksInTurn$Reader", name := "opens", desc := "()Z" } : Jvm.MethodName)) ∈ lw_tbl := lw_at lw_m4 34 rfl
theorem q864 : (Jvm.Cond.instanceMethod ({ cls := "SpeaksInTurn$Reader", name := "opens", desc := "()Z" } : Jvm.MethodName)) ∈ lw_all := lw_g (lw_at lw_m4 35 rfl) rfl
theorem q865 : (Jvm.Cond.code ({ cls := "SpeaksInTurn$Reader", name := "opens", desc := "()Z" } : Jvm.MethodName) prog_23_method_13_code (1 : Nat) (Option.some Jvm.ClassFile.FieldType.boolean)) ∈ lw_all := lw_g (lw_at lw_m4 36 rfl) rfl
theorem q866 : (Jvm.Cond.methodLink "SpeaksInTurn$Reader" (109 : Nat) ({ cls := "SpeaksInTurn$Reader", name := "wrong", desc := "()LSpeaksInTurn$Node;" } : Jvm.MethodName)) ∈ lw_all := lw_g (lw_at lw_m4 37 rfl) rfl
theorem q867 : (Jvm.Cond.privateMethod ({ cls := "SpeaksInTurn$Reader", name := "wrong", desc := "()LSpeaksInTurn$Node;" } : Jvm.MethodName)) ∈ lw_tbl := lw_at lw_m4 38 rfl
theorem q868 : (Jvm.Cond.instanceMethod ({ cls := "SpeaksInTurn$Reader", name := "wrong", desc := "()LSpeaksInTurn$Node;" } : Jvm.MethodName)) ∈ lw_all := lw_g (lw_at lw_m4 39 rfl) rfl
theorem q869 : (Jvm.Cond.code ({ cls := "SpeaksInTurn$Reader", name := "wrong", desc := "()LSpeaksInTurn$Node;" } : Jvm.MethodName) prog_23_method_4_code (1 : Nat) (Option.some (Jvm.ClassFile.FieldType.object "SpeaksInTurn$Node"))) ∈ lw_all := lw_g (lw_at lw_m4 40 rfl) rfl
theorem q870 : (Jvm.Cond.classLink "SpeaksInTurn$Reader" (112 : Nat) "SpeaksInTurn$Denied") ∈ lw_all := lw_g (lw_at lw_m4 41 rfl) rfl
theorem q872 : (Jvm.Cond.methodLink "SpeaksInTurn$Reader" (114 : Nat) ({ cls := "SpeaksInTurn$Denied", name := "<init>", desc := "(LSpeaksInTurn$Node;)V" } : Jvm.MethodName)) ∈ lw_all := lw_g (lw_at lw_m4 43 rfl) rfl
theorem q880 : (Jvm.Cond.classLink "SpeaksInTurn$Reader" (117 : Nat) "SpeaksInTurn$Turned") ∈ lw_all := lw_g (lw_at lw_m4 51 rfl) rfl
theorem q882 : (Jvm.Cond.methodLink "SpeaksInTurn$Reader" (119 : Nat) ({ cls := "SpeaksInTurn$Turned", name := "<init>", desc := "(LSpeaksInTurn$Node;)V" } : Jvm.MethodName)) ∈ lw_all := lw_g (lw_at lw_m4 53 rfl) rfl
theorem q890 : (Jvm.Cond.methodLinkNest "SpeaksInTurn$Reader" (120 : Nat) ({ cls := "SpeaksInTurn", name := "in", desc := "(III)Z" } : Jvm.MethodName) "SpeaksInTurn") ∈ lw_tbl := lw_at lw_m4 61 rfl
theorem q891 : (Jvm.Cond.classLink "SpeaksInTurn$Reader" (124 : Nat) "SpeaksInTurn$Leaf") ∈ lw_all := lw_g (lw_at lw_m4 62 rfl) rfl
theorem q893 : (Jvm.Cond.methodLink "SpeaksInTurn$Reader" (126 : Nat) ({ cls := "SpeaksInTurn$Leaf", name := "<init>", desc := "(I)V" } : Jvm.MethodName)) ∈ lw_all := lw_g (lw_at lw_m4 64 rfl) rfl
theorem q901 : (Jvm.Cond.stringRef "SpeaksInTurn$Reader" (93 : Nat) "*/%") ∈ lw_tbl := lw_at lw_m4 72 rfl
theorem q902 : (Jvm.Cond.methodLink "SpeaksInTurn$Reader" (69 : Nat) ({ cls := "SpeaksInTurn$Reader", name := "joined", desc := "(ILSpeaksInTurn$Node;LSpeaksInTurn$Node;)LSpeaksInTurn$Node;" } : Jvm.MethodName)) ∈ lw_all := lw_g (lw_at lw_m4 73 rfl) rfl
theorem q903 : (Jvm.Cond.privateMethod ({ cls := "SpeaksInTurn$Reader", name := "joined", desc := "(ILSpeaksInTurn$Node;LSpeaksInTurn$Node;)LSpeaksInTurn$Node;" } : Jvm.MethodName)) ∈ lw_tbl := lw_at lw_m4 74 rfl
theorem q904 : (Jvm.Cond.instanceMethod ({ cls := "SpeaksInTurn$Reader", name := "joined", desc := "(ILSpeaksInTurn$Node;LSpeaksInTurn$Node;)LSpeaksInTurn$Node;" } : Jvm.MethodName)) ∈ lw_all := lw_g (lw_at lw_m4 75 rfl) rfl
theorem q905 : (Jvm.Cond.code ({ cls := "SpeaksInTurn$Reader", name := "joined", desc := "(ILSpeaksInTurn$Node;LSpeaksInTurn$Node;)LSpeaksInTurn$Node;" } : Jvm.MethodName) prog_23_method_7_code (4 : Nat) (Option.some (Jvm.ClassFile.FieldType.object "SpeaksInTurn$Node"))) ∈ lw_all := lw_g (lw_at lw_m4 76 rfl) rfl
theorem q906 : (Jvm.Cond.classLink "SpeaksInTurn$Reader" (61 : Nat) "SpeaksInTurn$Pair") ∈ lw_all := lw_g (lw_at lw_m4 77 rfl) rfl
theorem q908 : (Jvm.Cond.methodLink "SpeaksInTurn$Reader" (63 : Nat) ({ cls := "SpeaksInTurn$Pair", name := "<init>", desc := "(ILSpeaksInTurn$Node;LSpeaksInTurn$Node;)V" } : Jvm.MethodName)) ∈ lw_all := lw_g (lw_at lw_m4 79 rfl) rfl
theorem q922 : (Jvm.Cond.stringRef "SpeaksInTurn$Reader" (88 : Nat) "+-") ∈ lw_tbl := lw_at lw_m4 93 rfl
theorem q923 : (Jvm.Cond.stringRef "SpeaksInTurn$Reader" (79 : Nat) "<=>") ∈ lw_tbl := lw_at lw_m4 94 rfl
theorem q126 : (Jvm.Cond.initialized "SpeaksInTurn$Line") ∈ lw_all := lw_g (lw_at lw_m1 17 rfl) rfl
theorem q712 : (Jvm.Cond.instantiable "SpeaksInTurn$Line" (3 : Nat)) ∈ lw_all := lw_g (lw_at lw_m3 123 rfl) rfl
theorem q714 : (Jvm.Cond.instanceMethod ({ cls := "SpeaksInTurn$Line", name := "<init>", desc := "()V" } : Jvm.MethodName)) ∈ lw_all := lw_g (lw_at lw_m3 125 rfl) rfl
theorem q715 : (Jvm.Cond.code ({ cls := "SpeaksInTurn$Line", name := "<init>", desc := "()V" } : Jvm.MethodName) prog_14_method_1_code (1 : Nat) (Option.none : Option Jvm.ClassFile.FieldType)) ∈ lw_all := lw_g (lw_at lw_m3 126 rfl) rfl
theorem q716 : (Jvm.Cond.methodLink "SpeaksInTurn$Line" (1 : Nat) ({ cls := "java/lang/Object", name := "<init>", desc := "()V" } : Jvm.MethodName)) ∈ lw_all := lw_g (lw_at lw_m3 127 rfl) rfl
theorem q723 : (Jvm.Cond.lays "SpeaksInTurn$Line" "SpeaksInTurn$Line" "test" "LSpeaksInTurn$Node;") ∈ lw_all := lw_g (lw_at lw_m3 134 rfl) rfl
theorem q724 : (Jvm.Cond.soleField "SpeaksInTurn$Line" "test") ∈ lw_all := lw_g (lw_at lw_m3 135 rfl) rfl
theorem q725 : (Jvm.Cond.lays "SpeaksInTurn$Line" "SpeaksInTurn$Line" "gives" "LSpeaksInTurn$Node;") ∈ lw_all := lw_g (lw_at lw_m3 136 rfl) rfl
theorem q726 : (Jvm.Cond.soleField "SpeaksInTurn$Line" "gives") ∈ lw_all := lw_g (lw_at lw_m3 137 rfl) rfl
theorem q727 : (Jvm.Cond.lays "SpeaksInTurn$Line" "SpeaksInTurn$Line" "next" "LSpeaksInTurn$Line;") ∈ lw_all := lw_g (lw_at lw_m3 138 rfl) rfl
theorem q728 : (Jvm.Cond.soleField "SpeaksInTurn$Line" "next") ∈ lw_all := lw_g (lw_at lw_m3 139 rfl) rfl
theorem q729 : (Jvm.Cond.superclass "SpeaksInTurn$Line" "java/lang/Object") ∈ lw_all := lw_g (lw_at lw_m3 140 rfl) rfl
theorem q132 : (Jvm.Cond.initialized "SpeaksInTurn$Node") ∈ lw_all := lw_g (lw_at lw_m1 23 rfl) rfl
theorem q855 : (Jvm.Cond.instanceMethod ({ cls := "SpeaksInTurn$Node", name := "<init>", desc := "()V" } : Jvm.MethodName)) ∈ lw_all := lw_g (lw_at lw_m4 26 rfl) rfl
theorem q856 : (Jvm.Cond.code ({ cls := "SpeaksInTurn$Node", name := "<init>", desc := "()V" } : Jvm.MethodName) prog_19_method_1_code (1 : Nat) (Option.none : Option Jvm.ClassFile.FieldType)) ∈ lw_all := lw_g (lw_at lw_m4 27 rfl) rfl
theorem q857 : (Jvm.Cond.methodLink "SpeaksInTurn$Node" (1 : Nat) ({ cls := "java/lang/Object", name := "<init>", desc := "()V" } : Jvm.MethodName)) ∈ lw_all := lw_g (lw_at lw_m4 28 rfl) rfl
theorem q985 : (Jvm.Cond.declares ({ cls := "SpeaksInTurn$Node", name := "value", desc := "(LSpeaksInTurn$Facts;)I" } : Jvm.MethodName)) ∈ lw_tbl := lw_at lw_m4 156 rfl
theorem q986 : (Jvm.Cond.sameMethod "SpeaksInTurn$Node" "SpeaksInTurn$Node" "value" "(LSpeaksInTurn$Facts;)I") ∈ lw_all := lw_g (lw_at lw_m4 157 rfl) rfl
theorem q109 : (Jvm.Cond.initialized "SpeaksInTurnLaw") ∈ lw_all := lw_g (lw_at lw_m1 0 rfl) rfl
theorem q157 : (Jvm.Cond.classLink "SpeaksInTurnLaw" (7 : Nat) "SpeaksInTurn") ∈ lw_all := lw_g (lw_at lw_m1 48 rfl) rfl
theorem q159 : (Jvm.Cond.methodLink "SpeaksInTurnLaw" (9 : Nat) ({ cls := "SpeaksInTurn", name := "<init>", desc := "()V" } : Jvm.MethodName)) ∈ lw_all := lw_g (lw_at lw_m1 50 rfl) rfl
theorem q392 : (Jvm.Cond.methodLink "SpeaksInTurnLaw" (13 : Nat) ({ cls := "SpeaksInTurn", name := "person", desc := "(II)I" } : Jvm.MethodName)) ∈ lw_all := lw_g (lw_at lw_m2 43 rfl) rfl
theorem q425 : (Jvm.Cond.methodLink "SpeaksInTurnLaw" (18 : Nat) ({ cls := "SpeaksInTurn", name := "thing", desc := "(II)I" } : Jvm.MethodName)) ∈ lw_all := lw_g (lw_at lw_m2 76 rfl) rfl
theorem q444 : (Jvm.Cond.methodLink "SpeaksInTurnLaw" (22 : Nat) ({ cls := "SpeaksInTurn", name := "card", desc := "(III)I" } : Jvm.MethodName)) ∈ lw_all := lw_g (lw_at lw_m2 95 rfl) rfl
theorem q480 : (Jvm.Cond.methodLink "SpeaksInTurnLaw" (27 : Nat) ({ cls := "SpeaksInTurn", name := "cards", desc := "(III)I" } : Jvm.MethodName)) ∈ lw_all := lw_g (lw_at lw_m2 131 rfl) rfl
theorem q620 : (Jvm.Cond.methodLink "SpeaksInTurnLaw" (41 : Nat) ({ cls := "SpeaksInTurn", name := "set", desc := "(II)I" } : Jvm.MethodName)) ∈ lw_all := lw_g (lw_at lw_m3 31 rfl) rfl
theorem q624 : (Jvm.Cond.methodLink "SpeaksInTurnLaw" (49 : Nat) ({ cls := "SpeaksInTurn", name := "of", desc := "(II)I" } : Jvm.MethodName)) ∈ lw_all := lw_g (lw_at lw_m3 35 rfl) rfl
theorem q633 : (Jvm.Cond.methodLink "SpeaksInTurnLaw" (97 : Nat) ({ cls := "SpeaksInTurn", name := "undo", desc := "()I" } : Jvm.MethodName)) ∈ lw_all := lw_g (lw_at lw_m3 44 rfl) rfl
theorem q641 : (Jvm.Cond.methodLink "SpeaksInTurnLaw" (101 : Nat) ({ cls := "SpeaksInTurn", name := "redo", desc := "()I" } : Jvm.MethodName)) ∈ lw_all := lw_g (lw_at lw_m3 52 rfl) rfl
theorem q645 : (Jvm.Cond.methodLink "SpeaksInTurnLaw" (45 : Nat) ({ cls := "SpeaksInTurn", name := "mend", desc := "(III)I" } : Jvm.MethodName)) ∈ lw_all := lw_g (lw_at lw_m3 56 rfl) rfl
theorem q675 : (Jvm.Cond.methodLink "SpeaksInTurnLaw" (31 : Nat) ({ cls := "SpeaksInTurn", name := "feed", desc := "(I)I" } : Jvm.MethodName)) ∈ lw_all := lw_g (lw_at lw_m3 86 rfl) rfl
theorem q679 : (Jvm.Cond.methodLink "SpeaksInTurnLaw" (36 : Nat) ({ cls := "SpeaksInTurn", name := "law", desc := "()I" } : Jvm.MethodName)) ∈ lw_all := lw_g (lw_at lw_m3 90 rfl) rfl
theorem q924 : (Jvm.Cond.methodLink "SpeaksInTurnLaw" (53 : Nat) ({ cls := "SpeaksInTurn", name := "meet", desc := "(I)I" } : Jvm.MethodName)) ∈ lw_all := lw_g (lw_at lw_m4 95 rfl) rfl
theorem q1093 : (Jvm.Cond.methodLink "SpeaksInTurnLaw" (57 : Nat) ({ cls := "SpeaksInTurn", name := "told", desc := "(I)I" } : Jvm.MethodName)) ∈ lw_all := lw_g (lw_at lw_m5 24 rfl) rfl
theorem q1097 : (Jvm.Cond.methodLink "SpeaksInTurnLaw" (61 : Nat) ({ cls := "SpeaksInTurn", name := "saying", desc := "(II)I" } : Jvm.MethodName)) ∈ lw_all := lw_g (lw_at lw_m5 28 rfl) rfl
theorem q1101 : (Jvm.Cond.methodLink "SpeaksInTurnLaw" (65 : Nat) ({ cls := "SpeaksInTurn", name := "took", desc := "(II)I" } : Jvm.MethodName)) ∈ lw_all := lw_g (lw_at lw_m5 32 rfl) rfl
theorem q1105 : (Jvm.Cond.methodLink "SpeaksInTurnLaw" (69 : Nat) ({ cls := "SpeaksInTurn", name := "did", desc := "(II)I" } : Jvm.MethodName)) ∈ lw_all := lw_g (lw_at lw_m5 36 rfl) rfl
theorem q1109 : (Jvm.Cond.methodLink "SpeaksInTurnLaw" (73 : Nat) ({ cls := "SpeaksInTurn", name := "first", desc := "(II)I" } : Jvm.MethodName)) ∈ lw_all := lw_g (lw_at lw_m5 40 rfl) rfl
theorem q1113 : (Jvm.Cond.methodLink "SpeaksInTurnLaw" (77 : Nat) ({ cls := "SpeaksInTurn", name := "rule", desc := "(I)I" } : Jvm.MethodName)) ∈ lw_all := lw_g (lw_at lw_m5 44 rfl) rfl
theorem q1125 : (Jvm.Cond.methodLink "SpeaksInTurnLaw" (81 : Nat) ({ cls := "SpeaksInTurn", name := "order", desc := "(I)I" } : Jvm.MethodName)) ∈ lw_all := lw_g (lw_at lw_m5 56 rfl) rfl
theorem q1133 : (Jvm.Cond.methodLink "SpeaksInTurnLaw" (85 : Nat) ({ cls := "SpeaksInTurn", name := "times", desc := "(I)I" } : Jvm.MethodName)) ∈ lw_all := lw_g (lw_at lw_m5 64 rfl) rfl
theorem q1137 : (Jvm.Cond.methodLink "SpeaksInTurnLaw" (89 : Nat) ({ cls := "SpeaksInTurn", name := "film", desc := "(I)I" } : Jvm.MethodName)) ∈ lw_all := lw_g (lw_at lw_m5 68 rfl) rfl
theorem q1154 : (Jvm.Cond.methodLink "SpeaksInTurnLaw" (93 : Nat) ({ cls := "SpeaksInTurn", name := "wish", desc := "(II)I" } : Jvm.MethodName)) ∈ lw_all := lw_g (lw_at lw_m5 85 rfl) rfl
theorem q1160 : (Jvm.Cond.methodLink "SpeaksInTurnLaw" (105 : Nat) ({ cls := "SpeaksInTurn", name := "body", desc := "(I)I" } : Jvm.MethodName)) ∈ lw_all := lw_g (lw_at lw_m5 91 rfl) rfl
theorem q1271 : (Jvm.Cond.methodLink "SpeaksInTurnLaw" (109 : Nat) ({ cls := "SpeaksInTurn", name := "act", desc := "(III)I" } : Jvm.MethodName)) ∈ lw_all := lw_g (lw_at lw_m5 202 rfl) rfl
theorem q1417 : (Jvm.Cond.methodLink "SpeaksInTurnLaw" (113 : Nat) ({ cls := "SpeaksInTurn", name := "trace", desc := "(I)I" } : Jvm.MethodName)) ∈ lw_all := lw_g (lw_at lw_m6 108 rfl) rfl
theorem q1421 : (Jvm.Cond.methodLink "SpeaksInTurnLaw" (117 : Nat) ({ cls := "SpeaksInTurn", name := "keep", desc := "(II)I" } : Jvm.MethodName)) ∈ lw_all := lw_g (lw_at lw_m6 112 rfl) rfl
theorem q1425 : (Jvm.Cond.methodLink "SpeaksInTurnLaw" (121 : Nat) ({ cls := "SpeaksInTurn", name := "row", desc := "(III)I" } : Jvm.MethodName)) ∈ lw_all := lw_g (lw_at lw_m6 116 rfl) rfl
theorem q1500 : (Jvm.Cond.methodLink "SpeaksInTurnLaw" (127 : Nat) ({ cls := "SpeaksInTurn", name := "put", desc := "(IIJ)I" } : Jvm.MethodName)) ∈ lw_all := lw_g (lw_at lw_m6 191 rfl) rfl
theorem q1523 : (Jvm.Cond.methodLink "SpeaksInTurnLaw" (132 : Nat) ({ cls := "SpeaksInTurn", name := "element", desc := "(II)J" } : Jvm.MethodName)) ∈ lw_all := lw_g (lw_at lw_m6 214 rfl) rfl
theorem q1542 : (Jvm.Cond.methodLink "SpeaksInTurnLaw" (137 : Nat) ({ cls := "SpeaksInTurn", name := "shift", desc := "(IIIII)I" } : Jvm.MethodName)) ∈ lw_all := lw_g (lw_at lw_m6 233 rfl) rfl
theorem q1576 : (Jvm.Cond.methodLink "SpeaksInTurnLaw" (142 : Nat) ({ cls := "SpeaksInTurn", name := "taken", desc := "(II)I" } : Jvm.MethodName)) ∈ lw_all := lw_g (lw_at lw_m7 27 rfl) rfl
theorem q1628 : (Jvm.Cond.methodLink "SpeaksInTurnLaw" (146 : Nat) ({ cls := "SpeaksInTurn", name := "count", desc := "(I)I" } : Jvm.MethodName)) ∈ lw_all := lw_g (lw_at lw_m7 79 rfl) rfl
theorem q1632 : (Jvm.Cond.classLink "SpeaksInTurnLaw" (10 : Nat) "SpeaksInTurnModel") ∈ lw_all := lw_g (lw_at lw_m7 83 rfl) rfl
theorem q1634 : (Jvm.Cond.methodLink "SpeaksInTurnLaw" (12 : Nat) ({ cls := "SpeaksInTurnModel", name := "<init>", desc := "()V" } : Jvm.MethodName)) ∈ lw_all := lw_g (lw_at lw_m7 85 rfl) rfl
theorem q1867 : (Jvm.Cond.methodLink "SpeaksInTurnLaw" (100 : Nat) ({ cls := "SpeaksInTurnModel", name := "undo", desc := "()I" } : Jvm.MethodName)) ∈ lw_all := lw_g (lw_at lw_m8 78 rfl) rfl
theorem q1871 : (Jvm.Cond.methodLink "SpeaksInTurnLaw" (104 : Nat) ({ cls := "SpeaksInTurnModel", name := "redo", desc := "()I" } : Jvm.MethodName)) ∈ lw_all := lw_g (lw_at lw_m8 82 rfl) rfl
theorem q1875 : (Jvm.Cond.methodLink "SpeaksInTurnLaw" (17 : Nat) ({ cls := "SpeaksInTurnModel", name := "person", desc := "(II)I" } : Jvm.MethodName)) ∈ lw_all := lw_g (lw_at lw_m8 86 rfl) rfl
theorem q1884 : (Jvm.Cond.methodLink "SpeaksInTurnLaw" (21 : Nat) ({ cls := "SpeaksInTurnModel", name := "thing", desc := "(II)I" } : Jvm.MethodName)) ∈ lw_all := lw_g (lw_at lw_m8 95 rfl) rfl
theorem q1896 : (Jvm.Cond.methodLink "SpeaksInTurnLaw" (26 : Nat) ({ cls := "SpeaksInTurnModel", name := "card", desc := "(III)I" } : Jvm.MethodName)) ∈ lw_all := lw_g (lw_at lw_m8 107 rfl) rfl
theorem q1910 : (Jvm.Cond.methodLink "SpeaksInTurnLaw" (30 : Nat) ({ cls := "SpeaksInTurnModel", name := "cards", desc := "(III)I" } : Jvm.MethodName)) ∈ lw_all := lw_g (lw_at lw_m8 121 rfl) rfl
theorem q1919 : (Jvm.Cond.methodLink "SpeaksInTurnLaw" (44 : Nat) ({ cls := "SpeaksInTurnModel", name := "set", desc := "(II)I" } : Jvm.MethodName)) ∈ lw_all := lw_g (lw_at lw_m8 130 rfl) rfl
theorem q1923 : (Jvm.Cond.methodLink "SpeaksInTurnLaw" (48 : Nat) ({ cls := "SpeaksInTurnModel", name := "mend", desc := "(III)I" } : Jvm.MethodName)) ∈ lw_all := lw_g (lw_at lw_m8 134 rfl) rfl
theorem q1940 : (Jvm.Cond.methodLink "SpeaksInTurnLaw" (52 : Nat) ({ cls := "SpeaksInTurnModel", name := "of", desc := "(II)I" } : Jvm.MethodName)) ∈ lw_all := lw_g (lw_at lw_m8 151 rfl) rfl
theorem q1948 : (Jvm.Cond.methodLink "SpeaksInTurnLaw" (35 : Nat) ({ cls := "SpeaksInTurnModel", name := "feed", desc := "(I)I" } : Jvm.MethodName)) ∈ lw_all := lw_g (lw_at lw_m8 159 rfl) rfl
theorem q1953 : (Jvm.Cond.methodLink "SpeaksInTurnLaw" (40 : Nat) ({ cls := "SpeaksInTurnModel", name := "law", desc := "()I" } : Jvm.MethodName)) ∈ lw_all := lw_g (lw_at lw_m8 164 rfl) rfl
theorem q2000 : (Jvm.Cond.methodLink "SpeaksInTurnLaw" (56 : Nat) ({ cls := "SpeaksInTurnModel", name := "meet", desc := "(I)I" } : Jvm.MethodName)) ∈ lw_all := lw_g (lw_at lw_m8 211 rfl) rfl
theorem q2138 : (Jvm.Cond.methodLink "SpeaksInTurnLaw" (60 : Nat) ({ cls := "SpeaksInTurnModel", name := "told", desc := "(I)I" } : Jvm.MethodName)) ∈ lw_all := lw_g (lw_at lw_m9 109 rfl) rfl
theorem q2142 : (Jvm.Cond.methodLink "SpeaksInTurnLaw" (64 : Nat) ({ cls := "SpeaksInTurnModel", name := "saying", desc := "(II)I" } : Jvm.MethodName)) ∈ lw_all := lw_g (lw_at lw_m9 113 rfl) rfl
theorem q2147 : (Jvm.Cond.methodLink "SpeaksInTurnLaw" (68 : Nat) ({ cls := "SpeaksInTurnModel", name := "took", desc := "(II)I" } : Jvm.MethodName)) ∈ lw_all := lw_g (lw_at lw_m9 118 rfl) rfl
theorem q2151 : (Jvm.Cond.methodLink "SpeaksInTurnLaw" (72 : Nat) ({ cls := "SpeaksInTurnModel", name := "did", desc := "(II)I" } : Jvm.MethodName)) ∈ lw_all := lw_g (lw_at lw_m9 122 rfl) rfl
theorem q2156 : (Jvm.Cond.methodLink "SpeaksInTurnLaw" (76 : Nat) ({ cls := "SpeaksInTurnModel", name := "first", desc := "(II)I" } : Jvm.MethodName)) ∈ lw_all := lw_g (lw_at lw_m9 127 rfl) rfl
theorem q2160 : (Jvm.Cond.methodLink "SpeaksInTurnLaw" (80 : Nat) ({ cls := "SpeaksInTurnModel", name := "rule", desc := "(I)I" } : Jvm.MethodName)) ∈ lw_all := lw_g (lw_at lw_m9 131 rfl) rfl
theorem q2177 : (Jvm.Cond.methodLink "SpeaksInTurnLaw" (84 : Nat) ({ cls := "SpeaksInTurnModel", name := "order", desc := "(I)I" } : Jvm.MethodName)) ∈ lw_all := lw_g (lw_at lw_m9 148 rfl) rfl
theorem q2185 : (Jvm.Cond.methodLink "SpeaksInTurnLaw" (88 : Nat) ({ cls := "SpeaksInTurnModel", name := "times", desc := "(I)I" } : Jvm.MethodName)) ∈ lw_all := lw_g (lw_at lw_m9 156 rfl) rfl
theorem q2189 : (Jvm.Cond.methodLink "SpeaksInTurnLaw" (92 : Nat) ({ cls := "SpeaksInTurnModel", name := "film", desc := "(I)I" } : Jvm.MethodName)) ∈ lw_all := lw_g (lw_at lw_m9 160 rfl) rfl
theorem q2193 : (Jvm.Cond.methodLink "SpeaksInTurnLaw" (96 : Nat) ({ cls := "SpeaksInTurnModel", name := "wish", desc := "(II)I" } : Jvm.MethodName)) ∈ lw_all := lw_g (lw_at lw_m9 164 rfl) rfl
theorem q2197 : (Jvm.Cond.methodLink "SpeaksInTurnLaw" (108 : Nat) ({ cls := "SpeaksInTurnModel", name := "body", desc := "(I)I" } : Jvm.MethodName)) ∈ lw_all := lw_g (lw_at lw_m9 168 rfl) rfl
theorem q2202 : (Jvm.Cond.methodLink "SpeaksInTurnLaw" (112 : Nat) ({ cls := "SpeaksInTurnModel", name := "act", desc := "(III)I" } : Jvm.MethodName)) ∈ lw_all := lw_g (lw_at lw_m9 173 rfl) rfl
theorem q2230 : (Jvm.Cond.methodLink "SpeaksInTurnLaw" (116 : Nat) ({ cls := "SpeaksInTurnModel", name := "trace", desc := "(I)I" } : Jvm.MethodName)) ∈ lw_all := lw_g (lw_at lw_m9 201 rfl) rfl
theorem q2234 : (Jvm.Cond.methodLink "SpeaksInTurnLaw" (120 : Nat) ({ cls := "SpeaksInTurnModel", name := "keep", desc := "(II)I" } : Jvm.MethodName)) ∈ lw_all := lw_g (lw_at lw_m9 205 rfl) rfl
theorem q2238 : (Jvm.Cond.methodLink "SpeaksInTurnLaw" (124 : Nat) ({ cls := "SpeaksInTurnModel", name := "row", desc := "(III)I" } : Jvm.MethodName)) ∈ lw_all := lw_g (lw_at lw_m9 209 rfl) rfl
theorem q2243 : (Jvm.Cond.methodLink "SpeaksInTurnLaw" (131 : Nat) ({ cls := "SpeaksInTurnModel", name := "put", desc := "(IIJ)I" } : Jvm.MethodName)) ∈ lw_all := lw_g (lw_at lw_m9 214 rfl) rfl
theorem q2254 : (Jvm.Cond.methodLink "SpeaksInTurnLaw" (136 : Nat) ({ cls := "SpeaksInTurnModel", name := "element", desc := "(II)J" } : Jvm.MethodName)) ∈ lw_all := lw_g (lw_at lw_m9 225 rfl) rfl
theorem q2259 : (Jvm.Cond.methodLink "SpeaksInTurnLaw" (141 : Nat) ({ cls := "SpeaksInTurnModel", name := "shift", desc := "(IIIII)I" } : Jvm.MethodName)) ∈ lw_all := lw_g (lw_at lw_m9 230 rfl) rfl
theorem q2263 : (Jvm.Cond.methodLink "SpeaksInTurnLaw" (145 : Nat) ({ cls := "SpeaksInTurnModel", name := "taken", desc := "(II)I" } : Jvm.MethodName)) ∈ lw_all := lw_g (lw_at lw_m9 234 rfl) rfl
theorem q2274 : (Jvm.Cond.methodLink "SpeaksInTurnLaw" (149 : Nat) ({ cls := "SpeaksInTurnModel", name := "count", desc := "(I)I" } : Jvm.MethodName)) ∈ lw_all := lw_g (lw_at lw_m10 5 rfl) rfl
theorem q2278 : (Jvm.Cond.constantLong "SpeaksInTurnLaw" (125 : Nat) (4294967295 : Int64)) ∈ lw_all := lw_g (lw_at lw_m10 9 rfl) rfl
theorem q1281 : (Jvm.Cond.interfaceMethod "SpeaksInTurn$Knows" "SpeaksInTurn$Knows" "knows" "(I)I") ∈ lw_tbl := lw_at lw_m5 212 rfl
theorem q1282 : (Jvm.Cond.declares ({ cls := "SpeaksInTurn$Knows", name := "knows", desc := "(I)I" } : Jvm.MethodName)) ∈ lw_tbl := lw_at lw_m5 213 rfl
theorem q1326 : (Jvm.Cond.interfaceMethod "SpeaksInTurn$Tells" "SpeaksInTurn$Tells" "tells" "(I)I") ∈ lw_tbl := lw_at lw_m6 17 rfl
theorem q1327 : (Jvm.Cond.declares ({ cls := "SpeaksInTurn$Tells", name := "tells", desc := "(I)I" } : Jvm.MethodName)) ∈ lw_tbl := lw_at lw_m6 18 rfl
theorem q156 : (Jvm.Cond.initialized "java/lang/System") ∈ lw_all := lw_g (lw_at lw_m1 47 rfl) rfl
theorem q1554 : (Jvm.Cond.static ({ cls := "java/lang/System", name := "arraycopy", desc := "(Ljava/lang/Object;ILjava/lang/Object;II)V" } : Jvm.MethodName)) ∈ lw_all := lw_g (lw_at lw_m7 5 rfl) rfl
theorem q1555 : (Jvm.Cond.native ({ cls := "java/lang/System", name := "arraycopy", desc := "(Ljava/lang/Object;ILjava/lang/Object;II)V" } : Jvm.MethodName)) ∈ lw_all := lw_g (lw_at lw_m7 6 rfl) rfl
theorem q166 : (Jvm.Cond.arrayOver (Jvm.ClassFile.FieldType.object "SpeaksInTurn$Person")) ∈ lw_tbl := lw_at lw_m1 57 rfl
theorem q168 : (Jvm.Cond.arrayOver (Jvm.ClassFile.FieldType.object "SpeaksInTurn$Thing")) ∈ lw_tbl := lw_at lw_m1 59 rfl
theorem q170 : (Jvm.Cond.arrayOver (Jvm.ClassFile.FieldType.object "SpeaksInTurn$Card")) ∈ lw_tbl := lw_at lw_m1 61 rfl
theorem q172 : (Jvm.Cond.arrayOver (Jvm.ClassFile.FieldType.object "SpeaksInTurn$Change")) ∈ lw_tbl := lw_at lw_m1 63 rfl
theorem q185 : (Jvm.Cond.arrayClass Jvm.ClassFile.FieldType.byte) ∈ lw_all := lw_g (lw_at lw_m1 76 rfl) rfl
theorem q186 : (Jvm.Cond.arrayClass Jvm.ClassFile.FieldType.int) ∈ lw_all := lw_g (lw_at lw_m1 77 rfl) rfl
theorem q277 : (Jvm.Cond.arrayOver (Jvm.ClassFile.FieldType.object "SpeaksInTurn$Plain")) ∈ lw_tbl := lw_at lw_m1 168 rfl
theorem q279 : (Jvm.Cond.arrayOver (Jvm.ClassFile.FieldType.object "SpeaksInTurn$Held")) ∈ lw_tbl := lw_at lw_m1 170 rfl
theorem q1467 : (Jvm.Cond.arrayClass Jvm.ClassFile.FieldType.short) ∈ lw_all := lw_g (lw_at lw_m6 158 rfl) rfl
theorem q1488 : (Jvm.Cond.arrayClass Jvm.ClassFile.FieldType.long) ∈ lw_all := lw_g (lw_at lw_m6 179 rfl) rfl
theorem q1499 : (Jvm.Cond.arrayClass Jvm.ClassFile.FieldType.boolean) ∈ lw_all := lw_g (lw_at lw_m6 190 rfl) rfl
