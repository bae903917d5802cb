/-! the words, by their places (out of claim/names) -/
set_option maxRecDepth 100000
theorem q113 : (Jvm.Cond.initialized "ThreadTownLaw") ∈ lw_all := lw_g (lw_at lw_m1 0 rfl) rfl
theorem q114 : (Jvm.Cond.initialized "ThreadTown") ∈ lw_all := lw_g (lw_at lw_m1 1 rfl) rfl
theorem q115 : (Jvm.Cond.initialized "java/lang/Throwable") ∈ lw_all := lw_g (lw_at lw_m1 2 rfl) rfl
theorem q116 : (Jvm.Cond.initialized "java/lang/Exception") ∈ lw_all := lw_g (lw_at lw_m1 3 rfl) rfl
theorem q117 : (Jvm.Cond.initialized "java/lang/RuntimeException") ∈ lw_all := lw_g (lw_at lw_m1 4 rfl) rfl
theorem q118 : (Jvm.Cond.initialized "ThreadTown$Fault") ∈ lw_all := lw_g (lw_at lw_m1 5 rfl) rfl
theorem q119 : (Jvm.Cond.initialized "ThreadTown$Tokens") ∈ lw_all := lw_g (lw_at lw_m1 6 rfl) rfl
theorem q120 : (Jvm.Cond.initialized "ThreadTown$Parser") ∈ lw_all := lw_g (lw_at lw_m1 7 rfl) rfl
theorem q121 : (Jvm.Cond.initialized "ThreadTown$Text") ∈ lw_all := lw_g (lw_at lw_m1 8 rfl) rfl
theorem q122 : (Jvm.Cond.initialized "java/util/AbstractCollection") ∈ lw_all := lw_g (lw_at lw_m1 9 rfl) rfl
theorem q123 : (Jvm.Cond.initialized "java/util/AbstractList") ∈ lw_all := lw_g (lw_at lw_m1 10 rfl) rfl
theorem q124 : (Jvm.Cond.initialized "java/util/ArrayList") ∈ lw_all := lw_g (lw_at lw_m1 11 rfl) rfl
theorem q125 : (Jvm.Cond.initialized "ThreadTown$Cloth") ∈ lw_all := lw_g (lw_at lw_m1 12 rfl) rfl
theorem q126 : (Jvm.Cond.initialized "ThreadTown$Asked") ∈ lw_all := lw_g (lw_at lw_m1 13 rfl) rfl
theorem q127 : (Jvm.Cond.initialized "ThreadTown$Dusk") ∈ lw_all := lw_g (lw_at lw_m1 14 rfl) rfl
theorem q128 : (Jvm.Cond.initialized "ThreadTown$ByNumber") ∈ lw_all := lw_g (lw_at lw_m1 15 rfl) rfl
theorem q129 : (Jvm.Cond.initialized "ThreadTown$ByLying") ∈ lw_all := lw_g (lw_at lw_m1 16 rfl) rfl
theorem q130 : (Jvm.Cond.initialized "ThreadTown$ByLeft") ∈ lw_all := lw_g (lw_at lw_m1 17 rfl) rfl
theorem q131 : (Jvm.Cond.initialized "ThreadTown$ByLaid") ∈ lw_all := lw_g (lw_at lw_m1 18 rfl) rfl
theorem q132 : (Jvm.Cond.initialized "ThreadTown$ByLot") ∈ lw_all := lw_g (lw_at lw_m1 19 rfl) rfl
theorem q133 : (Jvm.Cond.initialized "java/util/Objects") ∈ lw_all := lw_g (lw_at lw_m1 20 rfl) rfl
theorem q134 : (Jvm.Cond.initialized "jdk/internal/util/Preconditions") ∈ lw_all := lw_g (lw_at lw_m1 21 rfl) rfl
theorem q135 : (Jvm.Cond.initialized "java/lang/Math") ∈ lw_all := lw_g (lw_at lw_m1 22 rfl) rfl
theorem q136 : (Jvm.Cond.initialized "ThreadTownModel") ∈ lw_all := lw_g (lw_at lw_m1 23 rfl) rfl
theorem q137 : (Jvm.Cond.initialized "java/lang/String") ∈ lw_all := lw_g (lw_at lw_m1 24 rfl) rfl
theorem q138 : (Jvm.Cond.initialized "java/lang/StringLatin1") ∈ lw_all := lw_g (lw_at lw_m1 25 rfl) rfl
theorem q139 : (Jvm.Cond.initialized "java/lang/StringUTF16") ∈ lw_all := lw_g (lw_at lw_m1 26 rfl) rfl
theorem q140 : (Jvm.Cond.initialized "ThreadTown$Man") ∈ lw_all := lw_g (lw_at lw_m1 27 rfl) rfl
theorem q141 : (Jvm.Cond.initialized "java/lang/AbstractStringBuilder") ∈ lw_all := lw_g (lw_at lw_m1 28 rfl) rfl
theorem q142 : (Jvm.Cond.initialized "java/lang/StringBuilder") ∈ lw_all := lw_g (lw_at lw_m1 29 rfl) rfl
theorem q143 : (Jvm.Cond.initialized "jdk/internal/util/ArraysSupport") ∈ lw_all := lw_g (lw_at lw_m1 30 rfl) rfl
theorem q144 : (Jvm.Cond.initialized "java/util/Arrays") ∈ lw_all := lw_g (lw_at lw_m1 31 rfl) rfl
theorem q145 : (Jvm.Cond.initialized "java/lang/System") ∈ lw_all := lw_g (lw_at lw_m1 32 rfl) rfl
theorem q146 : (Jvm.Cond.initialized "ThreadTown$Law") ∈ lw_all := lw_g (lw_at lw_m1 33 rfl) rfl
theorem q147 : (Jvm.Cond.initialized "ThreadTown$Sum") ∈ lw_all := lw_g (lw_at lw_m1 34 rfl) rfl
theorem q148 : (Jvm.Cond.initialized "ThreadTown$Number") ∈ lw_all := lw_g (lw_at lw_m1 35 rfl) rfl
theorem q149 : (Jvm.Cond.initialized "ThreadTown$Var") ∈ lw_all := lw_g (lw_at lw_m1 36 rfl) rfl
theorem q150 : (Jvm.Cond.initialized "ThreadTown$Joined") ∈ lw_all := lw_g (lw_at lw_m1 37 rfl) rfl
theorem q151 : (Jvm.Cond.initialized "java/lang/Integer") ∈ lw_all := lw_g (lw_at lw_m1 38 rfl) rfl
theorem q152 : (Jvm.Cond.classLink "ThreadTownLaw" (7 : Nat) "ThreadTown") ∈ lw_all := lw_g (lw_at lw_m1 39 rfl) rfl
theorem q153 : (Jvm.Cond.instantiable "ThreadTown" (25 : Nat)) ∈ lw_all := lw_g (lw_at lw_m1 40 rfl) rfl
theorem q154 : (Jvm.Cond.methodLink "ThreadTownLaw" (9 : Nat) ({ cls := "ThreadTown", name := "<init>", desc := "()V" } : Jvm.MethodName)) ∈ lw_all := lw_g (lw_at lw_m1 41 rfl) rfl
theorem q155 : (Jvm.Cond.instanceMethod ({ cls := "ThreadTown", name := "<init>", desc := "()V" } : Jvm.MethodName)) ∈ lw_all := lw_g (lw_at lw_m1 42 rfl) rfl
theorem q156 : (Jvm.Cond.code ({ cls := "ThreadTown", name := "<init>", desc := "()V" } : Jvm.MethodName) prog_1_method_6_code (2 : Nat) (Option.none : Option Jvm.ClassFile.FieldType)) ∈ lw_all := lw_g (lw_at lw_m1 43 rfl) rfl
theorem q157 : (Jvm.Cond.methodLink "ThreadTown" (20 : Nat) ({ cls := "java/lang/Object", name := "<init>", desc := "()V" } : Jvm.MethodName)) ∈ lw_all := lw_g (lw_at lw_m1 44 rfl) rfl
theorem q158 : (Jvm.Cond.instanceMethod ({ cls := "java/lang/Object", name := "<init>", desc := "()V" } : Jvm.MethodName)) ∈ lw_all := lw_g (lw_at lw_m1 45 rfl) rfl
theorem q159 : (Jvm.Cond.code ({ cls := "java/lang/Object", name := "<init>", desc := "()V" } : Jvm.MethodName) object_method_1_code (1 : Nat) (Option.none : Option Jvm.ClassFile.FieldType)) ∈ lw_all := lw_g (lw_at lw_m1 46 rfl) rfl
theorem q160 : (Jvm.Cond.classLink "ThreadTown" (26 : Nat) "ThreadTown$Fault") ∈ lw_all := lw_g (lw_at lw_m1 47 rfl) rfl
theorem q161 : (Jvm.Cond.instantiable "ThreadTown$Fault" (8 : Nat)) ∈ lw_all := lw_g (lw_at lw_m1 48 rfl) rfl
theorem q162 : (Jvm.Cond.castable "ThreadTown$Fault" "ThreadTown$Fault") ∈ lw_tbl := lw_at lw_m1 49 rfl
theorem q163 : (Jvm.Cond.declares ({ cls := "java/lang/RuntimeException", name := "<init>", desc := "()V" } : Jvm.MethodName)) ∈ lw_tbl := lw_at lw_m1 50 rfl
theorem q164 : (Jvm.Cond.declares ({ cls := "java/lang/RuntimeException", name := "<init>", desc := "(Ljava/lang/String;)V" } : Jvm.MethodName)) ∈ lw_tbl := lw_at lw_m1 51 rfl
theorem q165 : (Jvm.Cond.declares ({ cls := "java/lang/Exception", name := "<init>", desc := "()V" } : Jvm.MethodName)) ∈ lw_tbl := lw_at lw_m1 52 rfl
theorem q166 : (Jvm.Cond.declares ({ cls := "java/lang/Exception", name := "<init>", desc := "(Ljava/lang/String;)V" } : Jvm.MethodName)) ∈ lw_tbl := lw_at lw_m1 53 rfl
theorem q167 : (Jvm.Cond.declares ({ cls := "java/lang/Throwable", name := "<init>", desc := "()V" } : Jvm.MethodName)) ∈ lw_tbl := lw_at lw_m1 54 rfl
theorem q168 : (Jvm.Cond.declares ({ cls := "java/lang/Throwable", name := "<init>", desc := "(Ljava/lang/String;)V" } : Jvm.MethodName)) ∈ lw_tbl := lw_at lw_m1 55 rfl
theorem q169 : (Jvm.Cond.selects "ThreadTown$Fault" ({ cls := "java/lang/Throwable", name := "fillInStackTrace", desc := "(I)Ljava/lang/Throwable;" } : Jvm.MethodName) ({ cls := "java/lang/Throwable", name := "fillInStackTrace", desc := "(I)Ljava/lang/Throwable;" } : Jvm.MethodName)) ∈ lw_all := lw_g (lw_at lw_m1 56 rfl) rfl
theorem q170 : (Jvm.Cond.selects "ThreadTown$Fault" ({ cls := "java/lang/Throwable", name := "fillInStackTrace", desc := "()Ljava/lang/Throwable;" } : Jvm.MethodName) ({ cls := "java/lang/Throwable", name := "fillInStackTrace", desc := "()Ljava/lang/Throwable;" } : Jvm.MethodName)) ∈ lw_all := lw_g (lw_at lw_m1 57 rfl) rfl
theorem q171 : (Jvm.Cond.lays "ThreadTown$Fault" "java/lang/Throwable" "cause" "Ljava/lang/Throwable;") ∈ lw_all := lw_g (lw_at lw_m1 58 rfl) rfl
theorem q172 : (Jvm.Cond.lays "java/lang/Throwable" "java/lang/Throwable" "cause" "Ljava/lang/Throwable;") ∈ lw_all := lw_g (lw_at lw_m1 59 rfl) rfl
theorem q173 : (Jvm.Cond.lays "ThreadTown$Fault" "java/lang/Throwable" "stackTrace" "[Ljava/lang/StackTraceElement;") ∈ lw_all := lw_g (lw_at lw_m1 60 rfl) rfl
theorem q174 : (Jvm.Cond.lays "java/lang/Throwable" "java/lang/Throwable" "stackTrace" "[Ljava/lang/StackTraceElement;") ∈ lw_all := lw_g (lw_at lw_m1 61 rfl) rfl
theorem q175 : (Jvm.Cond.lays "ThreadTown$Fault" "java/lang/Throwable" "suppressedExceptions" "Ljava/util/List;") ∈ lw_all := lw_g (lw_at lw_m1 62 rfl) rfl
theorem q176 : (Jvm.Cond.lays "java/lang/Throwable" "java/lang/Throwable" "suppressedExceptions" "Ljava/util/List;") ∈ lw_all := lw_g (lw_at lw_m1 63 rfl) rfl
theorem q177 : (Jvm.Cond.lays "ThreadTown$Fault" "java/lang/Throwable" "detailMessage" "Ljava/lang/String;") ∈ lw_all := lw_g (lw_at lw_m1 64 rfl) rfl
theorem q178 : (Jvm.Cond.lays "java/lang/Throwable" "java/lang/Throwable" "detailMessage" "Ljava/lang/String;") ∈ lw_all := lw_g (lw_at lw_m1 65 rfl) rfl
theorem q179 : (Jvm.Cond.lays "ThreadTown$Fault" "java/lang/Throwable" "backtrace" "Ljava/lang/Object;") ∈ lw_all := lw_g (lw_at lw_m1 66 rfl) rfl
theorem q180 : (Jvm.Cond.lays "java/lang/Throwable" "java/lang/Throwable" "backtrace" "Ljava/lang/Object;") ∈ lw_all := lw_g (lw_at lw_m1 67 rfl) rfl
theorem q181 : (Jvm.Cond.fieldLink "java/lang/Throwable" (198 : Nat) "java/lang/Throwable" "backtrace" "Ljava/lang/Object;") ∈ lw_all := lw_g (lw_at lw_m1 68 rfl) rfl
theorem q182 : (Jvm.Cond.superclass "java/lang/Throwable" "java/lang/Object") ∈ lw_all := lw_g (lw_at lw_m1 69 rfl) rfl
theorem q183 : (Jvm.Cond.instanceMethod ({ cls := "java/lang/Throwable", name := "<init>", desc := "()V" } : Jvm.MethodName)) ∈ lw_all := lw_g (lw_at lw_m1 70 rfl) rfl
theorem q184 : (Jvm.Cond.code ({ cls := "java/lang/Throwable", name := "<init>", desc := "()V" } : Jvm.MethodName) prog_38_method_1_code (1 : Nat) (Option.none : Option Jvm.ClassFile.FieldType)) ∈ lw_all := lw_g (lw_at lw_m1 71 rfl) rfl
theorem q185 : (Jvm.Cond.methodLink "java/lang/Throwable" (1 : Nat) ({ cls := "java/lang/Object", name := "<init>", desc := "()V" } : Jvm.MethodName)) ∈ lw_all := lw_g (lw_at lw_m1 72 rfl) rfl
theorem q186 : (Jvm.Cond.fieldLink "java/lang/Throwable" (13 : Nat) "java/lang/Throwable" "UNASSIGNED_STACK" "[Ljava/lang/StackTraceElement;") ∈ lw_all := lw_g (lw_at lw_m1 73 rfl) rfl
theorem q187 : (Jvm.Cond.laysStatic "java/lang/Throwable" "UNASSIGNED_STACK" "[Ljava/lang/StackTraceElement;") ∈ lw_tbl := lw_at lw_m1 74 rfl
theorem q188 : (Jvm.Cond.fieldLink "java/lang/Throwable" (20 : Nat) "java/lang/Throwable" "SUPPRESSED_SENTINEL" "Ljava/util/List;") ∈ lw_all := lw_g (lw_at lw_m1 75 rfl) rfl
theorem q189 : (Jvm.Cond.laysStatic "java/lang/Throwable" "SUPPRESSED_SENTINEL" "Ljava/util/List;") ∈ lw_tbl := lw_at lw_m1 76 rfl
theorem q190 : (Jvm.Cond.methodLink "java/lang/Throwable" (27 : Nat) ({ cls := "java/lang/Throwable", name := "fillInStackTrace", desc := "()Ljava/lang/Throwable;" } : Jvm.MethodName)) ∈ lw_all := lw_g (lw_at lw_m1 77 rfl) rfl
theorem q191 : (Jvm.Cond.instanceMethod ({ cls := "java/lang/Throwable", name := "fillInStackTrace", desc := "()Ljava/lang/Throwable;" } : Jvm.MethodName)) ∈ lw_all := lw_g (lw_at lw_m1 78 rfl) rfl
theorem q192 : (Jvm.Cond.sameMethod "java/lang/Throwable" "java/lang/Throwable" "fillInStackTrace" "()Ljava/lang/Throwable;") ∈ lw_all := lw_g (lw_at lw_m1 79 rfl) rfl
theorem q193 : (Jvm.Cond.codeSync ({ cls := "java/lang/Throwable", name := "fillInStackTrace", desc := "()Ljava/lang/Throwable;" } : Jvm.MethodName) prog_38_method_18_code (1 : Nat) (Option.some (Jvm.ClassFile.FieldType.object "java/lang/Throwable"))) ∈ lw_all := lw_g (lw_at lw_m1 80 rfl) rfl
theorem q194 : (Jvm.Cond.methodLink "java/lang/Throwable" (202 : Nat) ({ cls := "java/lang/Throwable", name := "fillInStackTrace", desc := "(I)Ljava/lang/Throwable;" } : Jvm.MethodName)) ∈ lw_all := lw_g (lw_at lw_m1 81 rfl) rfl
theorem q195 : (Jvm.Cond.privateMethod ({ cls := "java/lang/Throwable", name := "fillInStackTrace", desc := "(I)Ljava/lang/Throwable;" } : Jvm.MethodName)) ∈ lw_tbl := lw_at lw_m1 82 rfl
theorem q196 : (Jvm.Cond.instanceMethod ({ cls := "java/lang/Throwable", name := "fillInStackTrace", desc := "(I)Ljava/lang/Throwable;" } : Jvm.MethodName)) ∈ lw_all := lw_g (lw_at lw_m1 83 rfl) rfl
theorem q197 : (Jvm.Cond.instantiable "java/lang/Throwable" (6 : Nat)) ∈ lw_all := lw_g (lw_at lw_m1 84 rfl) rfl
theorem q198 : (Jvm.Cond.native ({ cls := "java/lang/Throwable", name := "fillInStackTrace", desc := "(I)Ljava/lang/Throwable;" } : Jvm.MethodName)) ∈ lw_all := lw_g (lw_at lw_m1 85 rfl) rfl
theorem q199 : (Jvm.Cond.methodLink "ThreadTown" (28 : Nat) ({ cls := "ThreadTown$Fault", name := "<init>", desc := "()V" } : Jvm.MethodName)) ∈ lw_all := lw_g (lw_at lw_m1 86 rfl) rfl
theorem q200 : (Jvm.Cond.instanceMethod ({ cls := "ThreadTown$Fault", name := "<init>", desc := "()V" } : Jvm.MethodName)) ∈ lw_all := lw_g (lw_at lw_m1 87 rfl) rfl
theorem q201 : (Jvm.Cond.code ({ cls := "ThreadTown$Fault", name := "<init>", desc := "()V" } : Jvm.MethodName) prog_10_method_1_code (1 : Nat) (Option.none : Option Jvm.ClassFile.FieldType)) ∈ lw_all := lw_g (lw_at lw_m1 88 rfl) rfl
theorem q202 : (Jvm.Cond.stringRef "ThreadTown$Fault" (1 : Nat) "") ∈ lw_tbl := lw_at lw_m1 89 rfl
theorem q203 : (Jvm.Cond.methodLink "ThreadTown$Fault" (3 : Nat) ({ cls := "java/lang/RuntimeException", name := "<init>", desc := "(Ljava/lang/String;Ljava/lang/Throwable;ZZ)V" } : Jvm.MethodName)) ∈ lw_all := lw_g (lw_at lw_m1 90 rfl) rfl
theorem q204 : (Jvm.Cond.instanceMethod ({ cls := "java/lang/RuntimeException", name := "<init>", desc := "(Ljava/lang/String;Ljava/lang/Throwable;ZZ)V" } : Jvm.MethodName)) ∈ lw_all := lw_g (lw_at lw_m1 91 rfl) rfl
theorem q205 : (Jvm.Cond.code ({ cls := "java/lang/RuntimeException", name := "<init>", desc := "(Ljava/lang/String;Ljava/lang/Throwable;ZZ)V" } : Jvm.MethodName) prog_32_method_5_code (5 : Nat) (Option.none : Option Jvm.ClassFile.FieldType)) ∈ lw_all := lw_g (lw_at lw_m1 92 rfl) rfl
theorem q206 : (Jvm.Cond.methodLink "java/lang/RuntimeException" (16 : Nat) ({ cls := "java/lang/Exception", name := "<init>", desc := "(Ljava/lang/String;Ljava/lang/Throwable;ZZ)V" } : Jvm.MethodName)) ∈ lw_all := lw_g (lw_at lw_m1 93 rfl) rfl
theorem q207 : (Jvm.Cond.instanceMethod ({ cls := "java/lang/Exception", name := "<init>", desc := "(Ljava/lang/String;Ljava/lang/Throwable;ZZ)V" } : Jvm.MethodName)) ∈ lw_all := lw_g (lw_at lw_m1 94 rfl) rfl
theorem q208 : (Jvm.Cond.code ({ cls := "java/lang/Exception", name := "<init>", desc := "(Ljava/lang/String;Ljava/lang/Throwable;ZZ)V" } : Jvm.MethodName) prog_28_method_5_code (5 : Nat) (Option.none : Option Jvm.ClassFile.FieldType)) ∈ lw_all := lw_g (lw_at lw_m1 95 rfl) rfl
theorem q209 : (Jvm.Cond.methodLink "java/lang/Exception" (16 : Nat) ({ cls := "java/lang/Throwable", name := "<init>", desc := "(Ljava/lang/String;Ljava/lang/Throwable;ZZ)V" } : Jvm.MethodName)) ∈ lw_all := lw_g (lw_at lw_m1 96 rfl) rfl
theorem q210 : (Jvm.Cond.instanceMethod ({ cls := "java/lang/Throwable", name := "<init>", desc := "(Ljava/lang/String;Ljava/lang/Throwable;ZZ)V" } : Jvm.MethodName)) ∈ lw_all := lw_g (lw_at lw_m1 97 rfl) rfl
theorem q211 : (Jvm.Cond.code ({ cls := "java/lang/Throwable", name := "<init>", desc := "(Ljava/lang/String;Ljava/lang/Throwable;ZZ)V" } : Jvm.MethodName) prog_38_method_5_code (5 : Nat) (Option.none : Option Jvm.ClassFile.FieldType)) ∈ lw_all := lw_g (lw_at lw_m1 98 rfl) rfl
theorem q212 : (Jvm.Cond.fieldLink "ThreadTown$Fault" (9 : Nat) "ThreadTown$Fault" "number" "I") ∈ lw_all := lw_g (lw_at lw_m1 99 rfl) rfl
theorem q213 : (Jvm.Cond.fieldLink "ThreadTown" (159 : Nat) "ThreadTown$Fault" "number" "I") ∈ lw_all := lw_g (lw_at lw_m1 100 rfl) rfl
theorem q214 : (Jvm.Cond.fieldLink "ThreadTown$Fault" (15 : Nat) "ThreadTown$Fault" "place" "I") ∈ lw_all := lw_g (lw_at lw_m1 101 rfl) rfl
theorem q215 : (Jvm.Cond.fieldLink "ThreadTown" (162 : Nat) "ThreadTown$Fault" "place" "I") ∈ lw_all := lw_g (lw_at lw_m1 102 rfl) rfl
theorem q216 : (Jvm.Cond.fieldLink "java/lang/Throwable" (198 : Nat) "java/lang/Throwable" "backtrace" "Ljava/lang/Object;") ∈ lw_all := lw_g (lw_at lw_m1 103 rfl) rfl
theorem q217 : (Jvm.Cond.fieldLink "java/lang/Throwable" (31 : Nat) "java/lang/Throwable" "detailMessage" "Ljava/lang/String;") ∈ lw_all := lw_g (lw_at lw_m1 104 rfl) rfl
theorem q218 : (Jvm.Cond.fieldLink "java/lang/Throwable" (7 : Nat) "java/lang/Throwable" "cause" "Ljava/lang/Throwable;") ∈ lw_all := lw_g (lw_at lw_m1 105 rfl) rfl
theorem q219 : (Jvm.Cond.fieldLink "java/lang/Throwable" (17 : Nat) "java/lang/Throwable" "stackTrace" "[Ljava/lang/StackTraceElement;") ∈ lw_all := lw_g (lw_at lw_m1 106 rfl) rfl
theorem q220 : (Jvm.Cond.fieldLink "java/lang/Throwable" (24 : Nat) "java/lang/Throwable" "suppressedExceptions" "Ljava/util/List;") ∈ lw_all := lw_g (lw_at lw_m1 107 rfl) rfl
theorem q221 : (Jvm.Cond.lays "ThreadTown$Fault" "ThreadTown$Fault" "number" "I") ∈ lw_all := lw_g (lw_at lw_m1 108 rfl) rfl
theorem q222 : (Jvm.Cond.soleField "ThreadTown$Fault" "number") ∈ lw_all := lw_g (lw_at lw_m1 109 rfl) rfl
theorem q223 : (Jvm.Cond.lays "ThreadTown$Fault" "ThreadTown$Fault" "place" "I") ∈ lw_all := lw_g (lw_at lw_m1 110 rfl) rfl
theorem q224 : (Jvm.Cond.soleField "ThreadTown$Fault" "place") ∈ lw_all := lw_g (lw_at lw_m1 111 rfl) rfl
theorem q225 : (Jvm.Cond.soleField "java/lang/Throwable" "backtrace") ∈ lw_all := lw_g (lw_at lw_m1 112 rfl) rfl
theorem q226 : (Jvm.Cond.soleField "java/lang/Throwable" "detailMessage") ∈ lw_all := lw_g (lw_at lw_m1 113 rfl) rfl
theorem q227 : (Jvm.Cond.soleField "java/lang/Throwable" "cause") ∈ lw_all := lw_g (lw_at lw_m1 114 rfl) rfl
theorem q228 : (Jvm.Cond.soleField "java/lang/Throwable" "stackTrace") ∈ lw_all := lw_g (lw_at lw_m1 115 rfl) rfl
theorem q229 : (Jvm.Cond.lays "ThreadTown$Fault" "java/lang/Throwable" "depth" "I") ∈ lw_all := lw_g (lw_at lw_m1 116 rfl) rfl
theorem q230 : (Jvm.Cond.soleField "java/lang/Throwable" "depth") ∈ lw_all := lw_g (lw_at lw_m1 117 rfl) rfl
theorem q231 : (Jvm.Cond.soleField "java/lang/Throwable" "suppressedExceptions") ∈ lw_all := lw_g (lw_at lw_m1 118 rfl) rfl
theorem q232 : (Jvm.Cond.superclass "ThreadTown$Fault" "java/lang/RuntimeException") ∈ lw_all := lw_g (lw_at lw_m1 119 rfl) rfl
theorem q233 : (Jvm.Cond.arrayClass Jvm.ClassFile.FieldType.byte) ∈ lw_all := lw_g (lw_at lw_m1 120 rfl) rfl
theorem q234 : (Jvm.Cond.classLink "ThreadTown" (33 : Nat) "ThreadTown$Tokens") ∈ lw_all := lw_g (lw_at lw_m1 121 rfl) rfl
theorem q235 : (Jvm.Cond.instantiable "ThreadTown$Tokens" (8 : Nat)) ∈ lw_all := lw_g (lw_at lw_m1 122 rfl) rfl
theorem q236 : (Jvm.Cond.methodLinkNest "ThreadTown" (35 : Nat) ({ cls := "ThreadTown$Tokens", name := "<init>", desc := "()V" } : Jvm.MethodName) "ThreadTown") ∈ lw_tbl := lw_at lw_m1 123 rfl
theorem q237 : (Jvm.Cond.instanceMethod ({ cls := "ThreadTown$Tokens", name := "<init>", desc := "()V" } : Jvm.MethodName)) ∈ lw_all := lw_g (lw_at lw_m1 124 rfl) rfl
theorem q238 : (Jvm.Cond.code ({ cls := "ThreadTown$Tokens", name := "<init>", desc := "()V" } : Jvm.MethodName) prog_18_method_1_code (1 : Nat) (Option.none : Option Jvm.ClassFile.FieldType)) ∈ lw_all := lw_g (lw_at lw_m1 125 rfl) rfl
theorem q239 : (Jvm.Cond.methodLink "ThreadTown$Tokens" (3 : Nat) ({ cls := "java/lang/Object", name := "<init>", desc := "()V" } : Jvm.MethodName)) ∈ lw_all := lw_g (lw_at lw_m1 126 rfl) rfl
theorem q240 : (Jvm.Cond.classLink "ThreadTown$Tokens" (9 : Nat) "java/lang/String") ∈ lw_all := lw_g (lw_at lw_m1 127 rfl) rfl
theorem q241 : (Jvm.Cond.arrayOver (Jvm.ClassFile.FieldType.object "java/lang/String")) ∈ lw_tbl := lw_at lw_m1 128 rfl
theorem q242 : (Jvm.Cond.stringRef "ThreadTown$Tokens" (11 : Nat) "town") ∈ lw_tbl := lw_at lw_m1 129 rfl
theorem q243 : (Jvm.Cond.stringRef "ThreadTown$Tokens" (13 : Nat) "man") ∈ lw_tbl := lw_at lw_m1 130 rfl
theorem q244 : (Jvm.Cond.stringRef "ThreadTown$Tokens" (15 : Nat) "goes") ∈ lw_tbl := lw_at lw_m1 131 rfl
theorem q245 : (Jvm.Cond.stringRef "ThreadTown$Tokens" (17 : Nat) "long") ∈ lw_tbl := lw_at lw_m1 132 rfl
theorem q246 : (Jvm.Cond.stringRef "ThreadTown$Tokens" (19 : Nat) "errand") ∈ lw_tbl := lw_at lw_m1 133 rfl
theorem q247 : (Jvm.Cond.stringRef "ThreadTown$Tokens" (21 : Nat) "pillar") ∈ lw_tbl := lw_at lw_m1 134 rfl
theorem q248 : (Jvm.Cond.stringRef "ThreadTown$Tokens" (23 : Nat) "dye") ∈ lw_tbl := lw_at lw_m1 135 rfl
theorem q249 : (Jvm.Cond.stringRef "ThreadTown$Tokens" (25 : Nat) "seed") ∈ lw_tbl := lw_at lw_m1 136 rfl
theorem q250 : (Jvm.Cond.stringRef "ThreadTown$Tokens" (27 : Nat) "if") ∈ lw_tbl := lw_at lw_m1 137 rfl
theorem q251 : (Jvm.Cond.stringRef "ThreadTown$Tokens" (29 : Nat) "then") ∈ lw_tbl := lw_at lw_m1 138 rfl
theorem q252 : (Jvm.Cond.stringRef "ThreadTown$Tokens" (31 : Nat) "else") ∈ lw_tbl := lw_at lw_m1 139 rfl
theorem q253 : (Jvm.Cond.stringRef "ThreadTown$Tokens" (33 : Nat) "x") ∈ lw_tbl := lw_at lw_m1 140 rfl
theorem q254 : (Jvm.Cond.stringRef "ThreadTown$Tokens" (35 : Nat) "y") ∈ lw_tbl := lw_at lw_m1 141 rfl
theorem q255 : (Jvm.Cond.stringRef "ThreadTown$Tokens" (37 : Nat) "minute") ∈ lw_tbl := lw_at lw_m1 142 rfl
theorem q256 : (Jvm.Cond.stringRef "ThreadTown$Tokens" (39 : Nat) "left") ∈ lw_tbl := lw_at lw_m1 143 rfl
theorem q257 : (Jvm.Cond.stringRef "ThreadTown$Tokens" (41 : Nat) "lot") ∈ lw_tbl := lw_at lw_m1 144 rfl
theorem q258 : (Jvm.Cond.stringRef "ThreadTown$Tokens" (43 : Nat) "rank") ∈ lw_tbl := lw_at lw_m1 145 rfl
theorem q259 : (Jvm.Cond.fieldLink "ThreadTown$Tokens" (45 : Nat) "ThreadTown$Tokens" "words" "[Ljava/lang/String;") ∈ lw_all := lw_g (lw_at lw_m1 146 rfl) rfl
theorem q260 : (Jvm.Cond.fieldLink "ThreadTown$Tokens" (51 : Nat) "ThreadTown$Tokens" "tape" "[B") ∈ lw_all := lw_g (lw_at lw_m1 147 rfl) rfl
theorem q261 : (Jvm.Cond.fieldLink "ThreadTown" (145 : Nat) "ThreadTown$Tokens" "tape" "[B") ∈ lw_all := lw_g (lw_at lw_m1 148 rfl) rfl
theorem q262 : (Jvm.Cond.fieldLink "ThreadTown$Tokens" (68 : Nat) "ThreadTown$Tokens" "taped" "I") ∈ lw_all := lw_g (lw_at lw_m1 149 rfl) rfl
theorem q263 : (Jvm.Cond.fieldLink "ThreadTown" (138 : Nat) "ThreadTown$Tokens" "taped" "I") ∈ lw_all := lw_g (lw_at lw_m1 150 rfl) rfl
theorem q264 : (Jvm.Cond.fieldLink "ThreadTown$Tokens" (55 : Nat) "ThreadTown$Tokens" "sort" "[B") ∈ lw_all := lw_g (lw_at lw_m1 151 rfl) rfl
theorem q265 : (Jvm.Cond.fieldLink "ThreadTown$Parser" (44 : Nat) "ThreadTown$Tokens" "sort" "[B") ∈ lw_all := lw_g (lw_at lw_m1 152 rfl) rfl
theorem q266 : (Jvm.Cond.fieldLink "ThreadTown$Tokens" (58 : Nat) "ThreadTown$Tokens" "from" "[S") ∈ lw_all := lw_g (lw_at lw_m1 153 rfl) rfl
theorem q267 : (Jvm.Cond.fieldLink "ThreadTown$Parser" (19 : Nat) "ThreadTown$Tokens" "from" "[S") ∈ lw_all := lw_g (lw_at lw_m1 154 rfl) rfl
theorem q268 : (Jvm.Cond.fieldLink "ThreadTown$Tokens" (62 : Nat) "ThreadTown$Tokens" "to" "[S") ∈ lw_all := lw_g (lw_at lw_m1 155 rfl) rfl
theorem q269 : (Jvm.Cond.fieldLink "ThreadTown$Tokens" (65 : Nat) "ThreadTown$Tokens" "what" "[S") ∈ lw_all := lw_g (lw_at lw_m1 156 rfl) rfl
theorem q270 : (Jvm.Cond.fieldLink "ThreadTown$Parser" (52 : Nat) "ThreadTown$Tokens" "what" "[S") ∈ lw_all := lw_g (lw_at lw_m1 157 rfl) rfl
theorem q271 : (Jvm.Cond.fieldLink "ThreadTown$Tokens" (76 : Nat) "ThreadTown$Tokens" "many" "I") ∈ lw_all := lw_g (lw_at lw_m1 158 rfl) rfl
theorem q272 : (Jvm.Cond.laysFinal "ThreadTown$Tokens" "ThreadTown$Tokens" "words" "[Ljava/lang/String;") ∈ lw_all := lw_g (lw_at lw_m1 159 rfl) rfl
theorem q273 : (Jvm.Cond.soleField "ThreadTown$Tokens" "words") ∈ lw_all := lw_g (lw_at lw_m1 160 rfl) rfl
theorem q274 : (Jvm.Cond.laysFinal "ThreadTown$Tokens" "ThreadTown$Tokens" "tape" "[B") ∈ lw_all := lw_g (lw_at lw_m1 161 rfl) rfl
theorem q275 : (Jvm.Cond.soleField "ThreadTown$Tokens" "tape") ∈ lw_all := lw_g (lw_at lw_m1 162 rfl) rfl
theorem q276 : (Jvm.Cond.lays "ThreadTown$Tokens" "ThreadTown$Tokens" "taped" "I") ∈ lw_all := lw_g (lw_at lw_m1 163 rfl) rfl
theorem q277 : (Jvm.Cond.soleField "ThreadTown$Tokens" "taped") ∈ lw_all := lw_g (lw_at lw_m1 164 rfl) rfl
theorem q278 : (Jvm.Cond.laysFinal "ThreadTown$Tokens" "ThreadTown$Tokens" "sort" "[B") ∈ lw_all := lw_g (lw_at lw_m1 165 rfl) rfl
theorem q279 : (Jvm.Cond.soleField "ThreadTown$Tokens" "sort") ∈ lw_all := lw_g (lw_at lw_m1 166 rfl) rfl
theorem q280 : (Jvm.Cond.laysFinal "ThreadTown$Tokens" "ThreadTown$Tokens" "from" "[S") ∈ lw_all := lw_g (lw_at lw_m1 167 rfl) rfl
theorem q281 : (Jvm.Cond.soleField "ThreadTown$Tokens" "from") ∈ lw_all := lw_g (lw_at lw_m1 168 rfl) rfl
theorem q282 : (Jvm.Cond.laysFinal "ThreadTown$Tokens" "ThreadTown$Tokens" "to" "[S") ∈ lw_all := lw_g (lw_at lw_m1 169 rfl) rfl
theorem q283 : (Jvm.Cond.soleField "ThreadTown$Tokens" "to") ∈ lw_all := lw_g (lw_at lw_m1 170 rfl) rfl
theorem q284 : (Jvm.Cond.laysFinal "ThreadTown$Tokens" "ThreadTown$Tokens" "what" "[S") ∈ lw_all := lw_g (lw_at lw_m1 171 rfl) rfl
theorem q285 : (Jvm.Cond.soleField "ThreadTown$Tokens" "what") ∈ lw_all := lw_g (lw_at lw_m1 172 rfl) rfl
theorem q286 : (Jvm.Cond.lays "ThreadTown$Tokens" "ThreadTown$Tokens" "many" "I") ∈ lw_all := lw_g (lw_at lw_m1 173 rfl) rfl
theorem q287 : (Jvm.Cond.soleField "ThreadTown$Tokens" "many") ∈ lw_all := lw_g (lw_at lw_m1 174 rfl) rfl
theorem q288 : (Jvm.Cond.superclass "ThreadTown$Tokens" "java/lang/Object") ∈ lw_all := lw_g (lw_at lw_m1 175 rfl) rfl
theorem q289 : (Jvm.Cond.arrayClass Jvm.ClassFile.FieldType.short) ∈ lw_all := lw_g (lw_at lw_m1 176 rfl) rfl
theorem q290 : (Jvm.Cond.classLink "ThreadTown" (40 : Nat) "ThreadTown$Parser") ∈ lw_all := lw_g (lw_at lw_m1 177 rfl) rfl
theorem q291 : (Jvm.Cond.instantiable "ThreadTown$Parser" (7 : Nat)) ∈ lw_all := lw_g (lw_at lw_m1 178 rfl) rfl
theorem q292 : (Jvm.Cond.methodLink "ThreadTown" (42 : Nat) ({ cls := "ThreadTown$Parser", name := "<init>", desc := "(LThreadTown$Tokens;LThreadTown$Fault;)V" } : Jvm.MethodName)) ∈ lw_all := lw_g (lw_at lw_m1 179 rfl) rfl
theorem q293 : (Jvm.Cond.instanceMethod ({ cls := "ThreadTown$Parser", name := "<init>", desc := "(LThreadTown$Tokens;LThreadTown$Fault;)V" } : Jvm.MethodName)) ∈ lw_all := lw_g (lw_at lw_m1 180 rfl) rfl
theorem q294 : (Jvm.Cond.code ({ cls := "ThreadTown$Parser", name := "<init>", desc := "(LThreadTown$Tokens;LThreadTown$Fault;)V" } : Jvm.MethodName) prog_15_method_1_code (3 : Nat) (Option.none : Option Jvm.ClassFile.FieldType)) ∈ lw_all := lw_g (lw_at lw_m1 181 rfl) rfl
theorem q295 : (Jvm.Cond.methodLink "ThreadTown$Parser" (3 : Nat) ({ cls := "java/lang/Object", name := "<init>", desc := "()V" } : Jvm.MethodName)) ∈ lw_all := lw_g (lw_at lw_m1 182 rfl) rfl
theorem q296 : (Jvm.Cond.fieldLink "ThreadTown$Parser" (9 : Nat) "ThreadTown$Parser" "t" "LThreadTown$Tokens;") ∈ lw_all := lw_g (lw_at lw_m1 183 rfl) rfl
theorem q297 : (Jvm.Cond.fieldLink "ThreadTown$Parser" (15 : Nat) "ThreadTown$Parser" "fault" "LThreadTown$Fault;") ∈ lw_all := lw_g (lw_at lw_m1 184 rfl) rfl
theorem q298 : (Jvm.Cond.fieldLink "ThreadTown$Parser" (83 : Nat) "ThreadTown$Parser" "text" "LThreadTown$Text;") ∈ lw_all := lw_g (lw_at lw_m1 185 rfl) rfl
theorem q299 : (Jvm.Cond.fieldLink "ThreadTown$Parser" (31 : Nat) "ThreadTown$Parser" "at" "I") ∈ lw_all := lw_g (lw_at lw_m1 186 rfl) rfl
theorem q300 : (Jvm.Cond.fieldLink "ThreadTown$Parser" (96 : Nat) "ThreadTown$Parser" "open" "I") ∈ lw_all := lw_g (lw_at lw_m1 187 rfl) rfl
theorem q301 : (Jvm.Cond.fieldLink "ThreadTown$Parser" (38 : Nat) "ThreadTown$Parser" "worst" "I") ∈ lw_all := lw_g (lw_at lw_m1 188 rfl) rfl
theorem q302 : (Jvm.Cond.fieldLink "ThreadTown$Parser" (41 : Nat) "ThreadTown$Parser" "worstToken" "I") ∈ lw_all := lw_g (lw_at lw_m1 189 rfl) rfl
theorem q303 : (Jvm.Cond.laysFinal "ThreadTown$Parser" "ThreadTown$Parser" "t" "LThreadTown$Tokens;") ∈ lw_all := lw_g (lw_at lw_m1 190 rfl) rfl
theorem q304 : (Jvm.Cond.soleField "ThreadTown$Parser" "t") ∈ lw_all := lw_g (lw_at lw_m1 191 rfl) rfl
theorem q305 : (Jvm.Cond.laysFinal "ThreadTown$Parser" "ThreadTown$Parser" "fault" "LThreadTown$Fault;") ∈ lw_all := lw_g (lw_at lw_m1 192 rfl) rfl
theorem q306 : (Jvm.Cond.soleField "ThreadTown$Parser" "fault") ∈ lw_all := lw_g (lw_at lw_m1 193 rfl) rfl
theorem q307 : (Jvm.Cond.lays "ThreadTown$Parser" "ThreadTown$Parser" "text" "LThreadTown$Text;") ∈ lw_all := lw_g (lw_at lw_m1 194 rfl) rfl
theorem q308 : (Jvm.Cond.soleField "ThreadTown$Parser" "text") ∈ lw_all := lw_g (lw_at lw_m1 195 rfl) rfl
theorem q309 : (Jvm.Cond.lays "ThreadTown$Parser" "ThreadTown$Parser" "at" "I") ∈ lw_all := lw_g (lw_at lw_m1 196 rfl) rfl
theorem q310 : (Jvm.Cond.soleField "ThreadTown$Parser" "at") ∈ lw_all := lw_g (lw_at lw_m1 197 rfl) rfl
theorem q311 : (Jvm.Cond.lays "ThreadTown$Parser" "ThreadTown$Parser" "open" "I") ∈ lw_all := lw_g (lw_at lw_m1 198 rfl) rfl
theorem q312 : (Jvm.Cond.soleField "ThreadTown$Parser" "open") ∈ lw_all := lw_g (lw_at lw_m1 199 rfl) rfl
theorem q313 : (Jvm.Cond.lays "ThreadTown$Parser" "ThreadTown$Parser" "worst" "I") ∈ lw_all := lw_g (lw_at lw_m1 200 rfl) rfl
theorem q314 : (Jvm.Cond.soleField "ThreadTown$Parser" "worst") ∈ lw_all := lw_g (lw_at lw_m1 201 rfl) rfl
theorem q315 : (Jvm.Cond.lays "ThreadTown$Parser" "ThreadTown$Parser" "worstToken" "I") ∈ lw_all := lw_g (lw_at lw_m1 202 rfl) rfl
theorem q316 : (Jvm.Cond.soleField "ThreadTown$Parser" "worstToken") ∈ lw_all := lw_g (lw_at lw_m1 203 rfl) rfl
theorem q317 : (Jvm.Cond.superclass "ThreadTown$Parser" "java/lang/Object") ∈ lw_all := lw_g (lw_at lw_m1 204 rfl) rfl
theorem q318 : (Jvm.Cond.classLink "ThreadTown" (49 : Nat) "ThreadTown$Text") ∈ lw_all := lw_g (lw_at lw_m1 205 rfl) rfl
theorem q319 : (Jvm.Cond.instantiable "ThreadTown$Text" (12 : Nat)) ∈ lw_all := lw_g (lw_at lw_m1 206 rfl) rfl
theorem q320 : (Jvm.Cond.methodLinkNest "ThreadTown" (51 : Nat) ({ cls := "ThreadTown$Text", name := "<init>", desc := "()V" } : Jvm.MethodName) "ThreadTown") ∈ lw_tbl := lw_at lw_m1 207 rfl
theorem q321 : (Jvm.Cond.instanceMethod ({ cls := "ThreadTown$Text", name := "<init>", desc := "()V" } : Jvm.MethodName)) ∈ lw_all := lw_g (lw_at lw_m1 208 rfl) rfl
theorem q322 : (Jvm.Cond.code ({ cls := "ThreadTown$Text", name := "<init>", desc := "()V" } : Jvm.MethodName) prog_17_method_1_code (1 : Nat) (Option.none : Option Jvm.ClassFile.FieldType)) ∈ lw_all := lw_g (lw_at lw_m1 209 rfl) rfl
theorem q323 : (Jvm.Cond.methodLink "ThreadTown$Text" (3 : Nat) ({ cls := "java/lang/Object", name := "<init>", desc := "()V" } : Jvm.MethodName)) ∈ lw_all := lw_g (lw_at lw_m1 210 rfl) rfl
theorem q324 : (Jvm.Cond.classLink "ThreadTown$Text" (9 : Nat) "java/util/ArrayList") ∈ lw_all := lw_g (lw_at lw_m1 211 rfl) rfl
theorem q325 : (Jvm.Cond.instantiable "java/util/ArrayList" (3 : Nat)) ∈ lw_all := lw_g (lw_at lw_m1 212 rfl) rfl
theorem q326 : (Jvm.Cond.methodLink "ThreadTown$Text" (11 : Nat) ({ cls := "java/util/ArrayList", name := "<init>", desc := "()V" } : Jvm.MethodName)) ∈ lw_all := lw_g (lw_at lw_m1 213 rfl) rfl
theorem q327 : (Jvm.Cond.instanceMethod ({ cls := "java/util/ArrayList", name := "<init>", desc := "()V" } : Jvm.MethodName)) ∈ lw_all := lw_g (lw_at lw_m1 214 rfl) rfl
theorem q328 : (Jvm.Cond.code ({ cls := "java/util/ArrayList", name := "<init>", desc := "()V" } : Jvm.MethodName) prog_43_method_2_code (1 : Nat) (Option.none : Option Jvm.ClassFile.FieldType)) ∈ lw_all := lw_g (lw_at lw_m1 215 rfl) rfl
theorem q329 : (Jvm.Cond.methodLink "java/util/ArrayList" (1 : Nat) ({ cls := "java/util/AbstractList", name := "<init>", desc := "()V" } : Jvm.MethodName)) ∈ lw_all := lw_g (lw_at lw_m1 216 rfl) rfl
theorem q330 : (Jvm.Cond.instanceMethod ({ cls := "java/util/AbstractList", name := "<init>", desc := "()V" } : Jvm.MethodName)) ∈ lw_all := lw_g (lw_at lw_m1 217 rfl) rfl
theorem q331 : (Jvm.Cond.code ({ cls := "java/util/AbstractList", name := "<init>", desc := "()V" } : Jvm.MethodName) prog_42_method_1_code (1 : Nat) (Option.none : Option Jvm.ClassFile.FieldType)) ∈ lw_all := lw_g (lw_at lw_m1 218 rfl) rfl
theorem q332 : (Jvm.Cond.methodLink "java/util/AbstractList" (1 : Nat) ({ cls := "java/util/AbstractCollection", name := "<init>", desc := "()V" } : Jvm.MethodName)) ∈ lw_all := lw_g (lw_at lw_m1 219 rfl) rfl
theorem q333 : (Jvm.Cond.instanceMethod ({ cls := "java/util/AbstractCollection", name := "<init>", desc := "()V" } : Jvm.MethodName)) ∈ lw_all := lw_g (lw_at lw_m1 220 rfl) rfl
theorem q334 : (Jvm.Cond.code ({ cls := "java/util/AbstractCollection", name := "<init>", desc := "()V" } : Jvm.MethodName) prog_41_method_1_code (1 : Nat) (Option.none : Option Jvm.ClassFile.FieldType)) ∈ lw_all := lw_g (lw_at lw_m1 221 rfl) rfl
theorem q335 : (Jvm.Cond.methodLink "java/util/AbstractCollection" (1 : Nat) ({ cls := "java/lang/Object", name := "<init>", desc := "()V" } : Jvm.MethodName)) ∈ lw_all := lw_g (lw_at lw_m1 222 rfl) rfl
theorem q336 : (Jvm.Cond.fieldLink "java/util/ArrayList" (39 : Nat) "java/util/ArrayList" "DEFAULTCAPACITY_EMPTY_ELEMENTDATA" "[Ljava/lang/Object;") ∈ lw_all := lw_g (lw_at lw_m1 223 rfl) rfl
theorem q337 : (Jvm.Cond.laysStatic "java/util/ArrayList" "DEFAULTCAPACITY_EMPTY_ELEMENTDATA" "[Ljava/lang/Object;") ∈ lw_tbl := lw_at lw_m1 224 rfl
theorem q338 : (Jvm.Cond.fieldLink "java/util/ArrayList" (9 : Nat) "java/util/ArrayList" "elementData" "[Ljava/lang/Object;") ∈ lw_all := lw_g (lw_at lw_m1 225 rfl) rfl
theorem q339 : (Jvm.Cond.fieldLink "java/util/ArrayList" (48 : Nat) "java/util/ArrayList" "size" "I") ∈ lw_all := lw_g (lw_at lw_m1 226 rfl) rfl
theorem q340 : (Jvm.Cond.fieldLink "java/util/AbstractList" (7 : Nat) "java/util/AbstractList" "modCount" "I") ∈ lw_all := lw_g (lw_at lw_m1 227 rfl) rfl
theorem q341 : (Jvm.Cond.fieldLink "java/util/ArrayList" (63 : Nat) "java/util/ArrayList" "modCount" "I") ∈ lw_all := lw_g (lw_at lw_m1 228 rfl) rfl
theorem q342 : (Jvm.Cond.sameField "java/util/ArrayList" "java/util/AbstractList" "modCount" "I") ∈ lw_all := lw_g (lw_at lw_m1 229 rfl) rfl
theorem q343 : (Jvm.Cond.lays "java/util/ArrayList" "java/util/ArrayList" "elementData" "[Ljava/lang/Object;") ∈ lw_all := lw_g (lw_at lw_m1 230 rfl) rfl
theorem q344 : (Jvm.Cond.soleField "java/util/ArrayList" "elementData") ∈ lw_all := lw_g (lw_at lw_m1 231 rfl) rfl
theorem q345 : (Jvm.Cond.lays "java/util/ArrayList" "java/util/ArrayList" "size" "I") ∈ lw_all := lw_g (lw_at lw_m1 232 rfl) rfl
theorem q346 : (Jvm.Cond.soleField "java/util/ArrayList" "size") ∈ lw_all := lw_g (lw_at lw_m1 233 rfl) rfl
theorem q347 : (Jvm.Cond.lays "java/util/ArrayList" "java/util/AbstractList" "modCount" "I") ∈ lw_all := lw_g (lw_at lw_m1 234 rfl) rfl
theorem q348 : (Jvm.Cond.soleField "java/util/AbstractList" "modCount") ∈ lw_all := lw_g (lw_at lw_m1 235 rfl) rfl
theorem q349 : (Jvm.Cond.superclass "java/util/ArrayList" "java/util/AbstractList") ∈ lw_all := lw_g (lw_at lw_m1 236 rfl) rfl
theorem q350 : (Jvm.Cond.fieldLink "ThreadTown$Text" (12 : Nat) "ThreadTown$Text" "men" "Ljava/util/ArrayList;") ∈ lw_all := lw_g (lw_at lw_m1 237 rfl) rfl
theorem q351 : (Jvm.Cond.fieldLink "ThreadTown$Cloth" (52 : Nat) "ThreadTown$Text" "men" "Ljava/util/ArrayList;") ∈ lw_all := lw_g (lw_at lw_m1 238 rfl) rfl
theorem q352 : (Jvm.Cond.fieldLink "ThreadTown" (163 : Nat) "ThreadTown$Text" "men" "Ljava/util/ArrayList;") ∈ lw_all := lw_g (lw_at lw_m1 239 rfl) rfl
theorem q353 : (Jvm.Cond.fieldLink "ThreadTown$Parser" (132 : Nat) "ThreadTown$Text" "men" "Ljava/util/ArrayList;") ∈ lw_all := lw_g (lw_at lw_m2 0 rfl) rfl
theorem q354 : (Jvm.Cond.fieldLink "ThreadTown$Text" (18 : Nat) "ThreadTown$Text" "pillarX" "[I") ∈ lw_all := lw_g (lw_at lw_m2 1 rfl) rfl
theorem q355 : (Jvm.Cond.fieldLink "ThreadTown$Parser" (191 : Nat) "ThreadTown$Text" "pillarX" "[I") ∈ lw_all := lw_g (lw_at lw_m2 2 rfl) rfl
theorem q356 : (Jvm.Cond.fieldLink "ThreadTown" (307 : Nat) "ThreadTown$Text" "pillarX" "[I") ∈ lw_all := lw_g (lw_at lw_m2 3 rfl) rfl
theorem q357 : (Jvm.Cond.fieldLink "ThreadTown$Text" (22 : Nat) "ThreadTown$Text" "pillarY" "[I") ∈ lw_all := lw_g (lw_at lw_m2 4 rfl) rfl
theorem q358 : (Jvm.Cond.fieldLink "ThreadTown$Parser" (194 : Nat) "ThreadTown$Text" "pillarY" "[I") ∈ lw_all := lw_g (lw_at lw_m2 5 rfl) rfl
theorem q359 : (Jvm.Cond.fieldLink "ThreadTown" (310 : Nat) "ThreadTown$Text" "pillarY" "[I") ∈ lw_all := lw_g (lw_at lw_m2 6 rfl) rfl
theorem q360 : (Jvm.Cond.fieldLink "ThreadTown$Text" (25 : Nat) "ThreadTown$Text" "cornerX" "[I") ∈ lw_all := lw_g (lw_at lw_m2 7 rfl) rfl
theorem q361 : (Jvm.Cond.fieldLink "ThreadTown$Parser" (109 : Nat) "ThreadTown$Text" "cornerX" "[I") ∈ lw_all := lw_g (lw_at lw_m2 8 rfl) rfl
theorem q362 : (Jvm.Cond.fieldLink "ThreadTown$Text" (28 : Nat) "ThreadTown$Text" "cornerY" "[I") ∈ lw_all := lw_g (lw_at lw_m2 9 rfl) rfl
theorem q363 : (Jvm.Cond.fieldLink "ThreadTown$Parser" (113 : Nat) "ThreadTown$Text" "cornerY" "[I") ∈ lw_all := lw_g (lw_at lw_m2 10 rfl) rfl
theorem q364 : (Jvm.Cond.fieldLink "ThreadTown$Text" (31 : Nat) "ThreadTown$Text" "cornerToken" "[I") ∈ lw_all := lw_g (lw_at lw_m2 11 rfl) rfl
theorem q365 : (Jvm.Cond.fieldLink "ThreadTown$Parser" (120 : Nat) "ThreadTown$Text" "cornerToken" "[I") ∈ lw_all := lw_g (lw_at lw_m2 12 rfl) rfl
theorem q366 : (Jvm.Cond.fieldLink "ThreadTown$Text" (34 : Nat) "ThreadTown$Text" "wide" "I") ∈ lw_all := lw_g (lw_at lw_m2 13 rfl) rfl
theorem q367 : (Jvm.Cond.fieldLink "ThreadTown$Parser" (126 : Nat) "ThreadTown$Text" "wide" "I") ∈ lw_all := lw_g (lw_at lw_m2 14 rfl) rfl
theorem q368 : (Jvm.Cond.fieldLink "ThreadTown" (301 : Nat) "ThreadTown$Text" "wide" "I") ∈ lw_all := lw_g (lw_at lw_m2 15 rfl) rfl
theorem q369 : (Jvm.Cond.fieldLink "ThreadTown$Text" (38 : Nat) "ThreadTown$Text" "deep" "I") ∈ lw_all := lw_g (lw_at lw_m2 16 rfl) rfl
theorem q370 : (Jvm.Cond.fieldLink "ThreadTown$Parser" (129 : Nat) "ThreadTown$Text" "deep" "I") ∈ lw_all := lw_g (lw_at lw_m2 17 rfl) rfl
theorem q371 : (Jvm.Cond.fieldLink "ThreadTown" (298 : Nat) "ThreadTown$Text" "deep" "I") ∈ lw_all := lw_g (lw_at lw_m2 18 rfl) rfl
theorem q372 : (Jvm.Cond.fieldLink "ThreadTown$Parser" (188 : Nat) "ThreadTown$Text" "pillars" "I") ∈ lw_all := lw_g (lw_at lw_m2 19 rfl) rfl
theorem q373 : (Jvm.Cond.fieldLink "ThreadTown" (304 : Nat) "ThreadTown$Text" "pillars" "I") ∈ lw_all := lw_g (lw_at lw_m2 20 rfl) rfl
theorem q374 : (Jvm.Cond.fieldLink "ThreadTown$Text" (65 : Nat) "ThreadTown$Text" "corners" "I") ∈ lw_all := lw_g (lw_at lw_m2 21 rfl) rfl
theorem q375 : (Jvm.Cond.fieldLink "ThreadTown$Parser" (106 : Nat) "ThreadTown$Text" "corners" "I") ∈ lw_all := lw_g (lw_at lw_m2 22 rfl) rfl
theorem q376 : (Jvm.Cond.fieldLink "ThreadTown$ByLot" (7 : Nat) "ThreadTown$Text" "seed" "I") ∈ lw_all := lw_g (lw_at lw_m2 23 rfl) rfl
theorem q377 : (Jvm.Cond.fieldLink "ThreadTown$Cloth" (128 : Nat) "ThreadTown$Text" "seed" "I") ∈ lw_all := lw_g (lw_at lw_m2 24 rfl) rfl
theorem q378 : (Jvm.Cond.fieldLink "ThreadTown$Parser" (200 : Nat) "ThreadTown$Text" "seed" "I") ∈ lw_all := lw_g (lw_at lw_m2 25 rfl) rfl
theorem q379 : (Jvm.Cond.fieldLink "ThreadTown$Cloth" (74 : Nat) "ThreadTown$Text" "thread" "LThreadTown$Law;") ∈ lw_all := lw_g (lw_at lw_m2 26 rfl) rfl
theorem q380 : (Jvm.Cond.fieldLink "ThreadTown$Parser" (182 : Nat) "ThreadTown$Text" "thread" "LThreadTown$Law;") ∈ lw_all := lw_g (lw_at lw_m2 27 rfl) rfl
theorem q381 : (Jvm.Cond.laysFinal "ThreadTown$Text" "ThreadTown$Text" "men" "Ljava/util/ArrayList;") ∈ lw_all := lw_g (lw_at lw_m2 28 rfl) rfl
theorem q382 : (Jvm.Cond.soleField "ThreadTown$Text" "men") ∈ lw_all := lw_g (lw_at lw_m2 29 rfl) rfl
theorem q383 : (Jvm.Cond.laysFinal "ThreadTown$Text" "ThreadTown$Text" "pillarX" "[I") ∈ lw_all := lw_g (lw_at lw_m2 30 rfl) rfl
theorem q384 : (Jvm.Cond.soleField "ThreadTown$Text" "pillarX") ∈ lw_all := lw_g (lw_at lw_m2 31 rfl) rfl
theorem q385 : (Jvm.Cond.laysFinal "ThreadTown$Text" "ThreadTown$Text" "pillarY" "[I") ∈ lw_all := lw_g (lw_at lw_m2 32 rfl) rfl
theorem q386 : (Jvm.Cond.soleField "ThreadTown$Text" "pillarY") ∈ lw_all := lw_g (lw_at lw_m2 33 rfl) rfl
theorem q387 : (Jvm.Cond.laysFinal "ThreadTown$Text" "ThreadTown$Text" "cornerX" "[I") ∈ lw_all := lw_g (lw_at lw_m2 34 rfl) rfl
theorem q388 : (Jvm.Cond.soleField "ThreadTown$Text" "cornerX") ∈ lw_all := lw_g (lw_at lw_m2 35 rfl) rfl
theorem q389 : (Jvm.Cond.laysFinal "ThreadTown$Text" "ThreadTown$Text" "cornerY" "[I") ∈ lw_all := lw_g (lw_at lw_m2 36 rfl) rfl
theorem q390 : (Jvm.Cond.soleField "ThreadTown$Text" "cornerY") ∈ lw_all := lw_g (lw_at lw_m2 37 rfl) rfl
theorem q391 : (Jvm.Cond.laysFinal "ThreadTown$Text" "ThreadTown$Text" "cornerToken" "[I") ∈ lw_all := lw_g (lw_at lw_m2 38 rfl) rfl
theorem q392 : (Jvm.Cond.soleField "ThreadTown$Text" "cornerToken") ∈ lw_all := lw_g (lw_at lw_m2 39 rfl) rfl
theorem q393 : (Jvm.Cond.lays "ThreadTown$Text" "ThreadTown$Text" "wide" "I") ∈ lw_all := lw_g (lw_at lw_m2 40 rfl) rfl
theorem q394 : (Jvm.Cond.soleField "ThreadTown$Text" "wide") ∈ lw_all := lw_g (lw_at lw_m2 41 rfl) rfl
theorem q395 : (Jvm.Cond.lays "ThreadTown$Text" "ThreadTown$Text" "deep" "I") ∈ lw_all := lw_g (lw_at lw_m2 42 rfl) rfl
theorem q396 : (Jvm.Cond.soleField "ThreadTown$Text" "deep") ∈ lw_all := lw_g (lw_at lw_m2 43 rfl) rfl
theorem q397 : (Jvm.Cond.lays "ThreadTown$Text" "ThreadTown$Text" "pillars" "I") ∈ lw_all := lw_g (lw_at lw_m2 44 rfl) rfl
theorem q398 : (Jvm.Cond.soleField "ThreadTown$Text" "pillars") ∈ lw_all := lw_g (lw_at lw_m2 45 rfl) rfl
theorem q399 : (Jvm.Cond.lays "ThreadTown$Text" "ThreadTown$Text" "corners" "I") ∈ lw_all := lw_g (lw_at lw_m2 46 rfl) rfl
theorem q400 : (Jvm.Cond.soleField "ThreadTown$Text" "corners") ∈ lw_all := lw_g (lw_at lw_m2 47 rfl) rfl
theorem q401 : (Jvm.Cond.lays "ThreadTown$Text" "ThreadTown$Text" "seed" "I") ∈ lw_all := lw_g (lw_at lw_m2 48 rfl) rfl
theorem q402 : (Jvm.Cond.soleField "ThreadTown$Text" "seed") ∈ lw_all := lw_g (lw_at lw_m2 49 rfl) rfl
theorem q403 : (Jvm.Cond.lays "ThreadTown$Text" "ThreadTown$Text" "thread" "LThreadTown$Law;") ∈ lw_all := lw_g (lw_at lw_m2 50 rfl) rfl
theorem q404 : (Jvm.Cond.soleField "ThreadTown$Text" "thread") ∈ lw_all := lw_g (lw_at lw_m2 51 rfl) rfl
theorem q405 : (Jvm.Cond.superclass "ThreadTown$Text" "java/lang/Object") ∈ lw_all := lw_g (lw_at lw_m2 52 rfl) rfl
theorem q406 : (Jvm.Cond.arrayClass Jvm.ClassFile.FieldType.int) ∈ lw_all := lw_g (lw_at lw_m2 53 rfl) rfl
theorem q407 : (Jvm.Cond.classLink "ThreadTown" (60 : Nat) "ThreadTown$Cloth") ∈ lw_all := lw_g (lw_at lw_m2 54 rfl) rfl
theorem q408 : (Jvm.Cond.instantiable "ThreadTown$Cloth" (11 : Nat)) ∈ lw_all := lw_g (lw_at lw_m2 55 rfl) rfl
theorem q409 : (Jvm.Cond.methodLinkNest "ThreadTown" (62 : Nat) ({ cls := "ThreadTown$Cloth", name := "<init>", desc := "()V" } : Jvm.MethodName) "ThreadTown") ∈ lw_tbl := lw_at lw_m2 56 rfl
theorem q410 : (Jvm.Cond.instanceMethod ({ cls := "ThreadTown$Cloth", name := "<init>", desc := "()V" } : Jvm.MethodName)) ∈ lw_all := lw_g (lw_at lw_m2 57 rfl) rfl
theorem q411 : (Jvm.Cond.code ({ cls := "ThreadTown$Cloth", name := "<init>", desc := "()V" } : Jvm.MethodName) prog_8_method_1_code (1 : Nat) (Option.none : Option Jvm.ClassFile.FieldType)) ∈ lw_all := lw_g (lw_at lw_m2 58 rfl) rfl
theorem q412 : (Jvm.Cond.methodLink "ThreadTown$Cloth" (3 : Nat) ({ cls := "java/lang/Object", name := "<init>", desc := "()V" } : Jvm.MethodName)) ∈ lw_all := lw_g (lw_at lw_m2 59 rfl) rfl
theorem q413 : (Jvm.Cond.classLink "ThreadTown$Cloth" (24 : Nat) "[[I") ∈ lw_all := lw_g (lw_at lw_m2 60 rfl) rfl
theorem q414 : (Jvm.Cond.arrayOver (Jvm.ClassFile.FieldType.array Jvm.ClassFile.FieldType.int)) ∈ lw_tbl := lw_at lw_m2 61 rfl
theorem q415 : (Jvm.Cond.classLink "ThreadTown$Cloth" (35 : Nat) "ThreadTown$Asked") ∈ lw_all := lw_g (lw_at lw_m2 62 rfl) rfl
theorem q416 : (Jvm.Cond.instantiable "ThreadTown$Asked" (2 : Nat)) ∈ lw_all := lw_g (lw_at lw_m2 63 rfl) rfl
theorem q417 : (Jvm.Cond.methodLinkNest "ThreadTown$Cloth" (37 : Nat) ({ cls := "ThreadTown$Asked", name := "<init>", desc := "()V" } : Jvm.MethodName) "ThreadTown") ∈ lw_tbl := lw_at lw_m2 64 rfl
theorem q418 : (Jvm.Cond.instanceMethod ({ cls := "ThreadTown$Asked", name := "<init>", desc := "()V" } : Jvm.MethodName)) ∈ lw_all := lw_g (lw_at lw_m2 65 rfl) rfl
theorem q419 : (Jvm.Cond.code ({ cls := "ThreadTown$Asked", name := "<init>", desc := "()V" } : Jvm.MethodName) prog_2_method_1_code (1 : Nat) (Option.none : Option Jvm.ClassFile.FieldType)) ∈ lw_all := lw_g (lw_at lw_m2 66 rfl) rfl
theorem q420 : (Jvm.Cond.methodLink "ThreadTown$Asked" (1 : Nat) ({ cls := "java/lang/Object", name := "<init>", desc := "()V" } : Jvm.MethodName)) ∈ lw_all := lw_g (lw_at lw_m2 67 rfl) rfl
theorem q421 : (Jvm.Cond.fieldLink "ThreadTown$Asked" (7 : Nat) "ThreadTown$Asked" "v" "[I") ∈ lw_all := lw_g (lw_at lw_m2 68 rfl) rfl
theorem q422 : (Jvm.Cond.fieldLink "ThreadTown$Var" (13 : Nat) "ThreadTown$Asked" "v" "[I") ∈ lw_all := lw_g (lw_at lw_m2 69 rfl) rfl
theorem q423 : (Jvm.Cond.fieldLink "ThreadTown$Cloth" (93 : Nat) "ThreadTown$Asked" "v" "[I") ∈ lw_all := lw_g (lw_at lw_m2 70 rfl) rfl
theorem q424 : (Jvm.Cond.fieldLink "ThreadTown$Law" (23 : Nat) "ThreadTown$Asked" "nought" "Z") ∈ lw_all := lw_g (lw_at lw_m2 71 rfl) rfl
theorem q425 : (Jvm.Cond.fieldLink "ThreadTown$Joined" (24 : Nat) "ThreadTown$Asked" "nought" "Z") ∈ lw_all := lw_g (lw_at lw_m2 72 rfl) rfl
theorem q426 : (Jvm.Cond.laysFinal "ThreadTown$Asked" "ThreadTown$Asked" "v" "[I") ∈ lw_all := lw_g (lw_at lw_m2 73 rfl) rfl
theorem q427 : (Jvm.Cond.soleField "ThreadTown$Asked" "v") ∈ lw_all := lw_g (lw_at lw_m2 74 rfl) rfl
theorem q428 : (Jvm.Cond.lays "ThreadTown$Asked" "ThreadTown$Asked" "nought" "Z") ∈ lw_all := lw_g (lw_at lw_m2 75 rfl) rfl
theorem q429 : (Jvm.Cond.soleField "ThreadTown$Asked" "nought") ∈ lw_all := lw_g (lw_at lw_m2 76 rfl) rfl
theorem q430 : (Jvm.Cond.superclass "ThreadTown$Asked" "java/lang/Object") ∈ lw_all := lw_g (lw_at lw_m2 77 rfl) rfl
theorem q431 : (Jvm.Cond.fieldLink "ThreadTown$Cloth" (9 : Nat) "ThreadTown$Cloth" "x" "[I") ∈ lw_all := lw_g (lw_at lw_m2 78 rfl) rfl
theorem q432 : (Jvm.Cond.fieldLink "ThreadTown" (189 : Nat) "ThreadTown$Cloth" "x" "[I") ∈ lw_all := lw_g (lw_at lw_m2 79 rfl) rfl
theorem q433 : (Jvm.Cond.fieldLink "ThreadTown$Cloth" (15 : Nat) "ThreadTown$Cloth" "y" "[I") ∈ lw_all := lw_g (lw_at lw_m2 80 rfl) rfl
theorem q434 : (Jvm.Cond.fieldLink "ThreadTown" (192 : Nat) "ThreadTown$Cloth" "y" "[I") ∈ lw_all := lw_g (lw_at lw_m2 81 rfl) rfl
theorem q435 : (Jvm.Cond.fieldLink "ThreadTown$Cloth" (18 : Nat) "ThreadTown$Cloth" "many" "[I") ∈ lw_all := lw_g (lw_at lw_m2 82 rfl) rfl
theorem q436 : (Jvm.Cond.fieldLink "ThreadTown$ByLying" (7 : Nat) "ThreadTown$Cloth" "many" "[I") ∈ lw_all := lw_g (lw_at lw_m2 83 rfl) rfl
theorem q437 : (Jvm.Cond.fieldLink "ThreadTown$ByLeft" (13 : Nat) "ThreadTown$Cloth" "many" "[I") ∈ lw_all := lw_g (lw_at lw_m2 84 rfl) rfl
theorem q438 : (Jvm.Cond.fieldLink "ThreadTown" (195 : Nat) "ThreadTown$Cloth" "many" "[I") ∈ lw_all := lw_g (lw_at lw_m2 85 rfl) rfl
theorem q439 : (Jvm.Cond.fieldLink "ThreadTown$Cloth" (21 : Nat) "ThreadTown$Cloth" "thread" "[I") ∈ lw_all := lw_g (lw_at lw_m2 86 rfl) rfl
theorem q440 : (Jvm.Cond.fieldLink "ThreadTown$ByLeft" (7 : Nat) "ThreadTown$Cloth" "thread" "[I") ∈ lw_all := lw_g (lw_at lw_m2 87 rfl) rfl
theorem q441 : (Jvm.Cond.fieldLink "ThreadTown" (198 : Nat) "ThreadTown$Cloth" "thread" "[I") ∈ lw_all := lw_g (lw_at lw_m2 88 rfl) rfl
theorem q442 : (Jvm.Cond.fieldLink "ThreadTown$Cloth" (26 : Nat) "ThreadTown$Cloth" "way" "[[I") ∈ lw_all := lw_g (lw_at lw_m2 89 rfl) rfl
theorem q443 : (Jvm.Cond.fieldLink "ThreadTown" (218 : Nat) "ThreadTown$Cloth" "way" "[[I") ∈ lw_all := lw_g (lw_at lw_m2 90 rfl) rfl
theorem q444 : (Jvm.Cond.fieldLink "ThreadTown$Cloth" (29 : Nat) "ThreadTown$Cloth" "street" "[[I") ∈ lw_all := lw_g (lw_at lw_m2 91 rfl) rfl
theorem q445 : (Jvm.Cond.fieldLink "ThreadTown" (323 : Nat) "ThreadTown$Cloth" "street" "[[I") ∈ lw_all := lw_g (lw_at lw_m2 92 rfl) rfl
theorem q446 : (Jvm.Cond.fieldLink "ThreadTown$Cloth" (32 : Nat) "ThreadTown$Cloth" "laid" "[[I") ∈ lw_all := lw_g (lw_at lw_m2 93 rfl) rfl
theorem q447 : (Jvm.Cond.fieldLink "ThreadTown$Cloth" (42 : Nat) "ThreadTown$Cloth" "lost" "I") ∈ lw_all := lw_g (lw_at lw_m2 94 rfl) rfl
theorem q448 : (Jvm.Cond.fieldLink "ThreadTown" (388 : Nat) "ThreadTown$Cloth" "lost" "I") ∈ lw_all := lw_g (lw_at lw_m2 95 rfl) rfl
theorem q449 : (Jvm.Cond.fieldLink "ThreadTown$Cloth" (46 : Nat) "ThreadTown$Cloth" "minute" "I") ∈ lw_all := lw_g (lw_at lw_m2 96 rfl) rfl
theorem q450 : (Jvm.Cond.fieldLink "ThreadTown$ByLot" (13 : Nat) "ThreadTown$Cloth" "minute" "I") ∈ lw_all := lw_g (lw_at lw_m2 97 rfl) rfl
theorem q451 : (Jvm.Cond.fieldLink "ThreadTown" (248 : Nat) "ThreadTown$Cloth" "minute" "I") ∈ lw_all := lw_g (lw_at lw_m2 98 rfl) rfl
theorem q452 : (Jvm.Cond.fieldLink "ThreadTown$Cloth" (49 : Nat) "ThreadTown$Cloth" "next" "I") ∈ lw_all := lw_g (lw_at lw_m2 99 rfl) rfl
theorem q453 : (Jvm.Cond.fieldLink "ThreadTown$Cloth" (38 : Nat) "ThreadTown$Cloth" "asked" "LThreadTown$Asked;") ∈ lw_all := lw_g (lw_at lw_m2 100 rfl) rfl
theorem q454 : (Jvm.Cond.laysFinal "ThreadTown$Cloth" "ThreadTown$Cloth" "x" "[I") ∈ lw_all := lw_g (lw_at lw_m2 101 rfl) rfl
theorem q455 : (Jvm.Cond.soleField "ThreadTown$Cloth" "x") ∈ lw_all := lw_g (lw_at lw_m2 102 rfl) rfl
theorem q456 : (Jvm.Cond.laysFinal "ThreadTown$Cloth" "ThreadTown$Cloth" "y" "[I") ∈ lw_all := lw_g (lw_at lw_m2 103 rfl) rfl
theorem q457 : (Jvm.Cond.soleField "ThreadTown$Cloth" "y") ∈ lw_all := lw_g (lw_at lw_m2 104 rfl) rfl
theorem q458 : (Jvm.Cond.laysFinal "ThreadTown$Cloth" "ThreadTown$Cloth" "many" "[I") ∈ lw_all := lw_g (lw_at lw_m2 105 rfl) rfl
theorem q459 : (Jvm.Cond.soleField "ThreadTown$Cloth" "many") ∈ lw_all := lw_g (lw_at lw_m2 106 rfl) rfl
theorem q460 : (Jvm.Cond.laysFinal "ThreadTown$Cloth" "ThreadTown$Cloth" "thread" "[I") ∈ lw_all := lw_g (lw_at lw_m2 107 rfl) rfl
theorem q461 : (Jvm.Cond.soleField "ThreadTown$Cloth" "thread") ∈ lw_all := lw_g (lw_at lw_m2 108 rfl) rfl
theorem q462 : (Jvm.Cond.laysFinal "ThreadTown$Cloth" "ThreadTown$Cloth" "way" "[[I") ∈ lw_all := lw_g (lw_at lw_m2 109 rfl) rfl
theorem q463 : (Jvm.Cond.soleField "ThreadTown$Cloth" "way") ∈ lw_all := lw_g (lw_at lw_m2 110 rfl) rfl
theorem q464 : (Jvm.Cond.laysFinal "ThreadTown$Cloth" "ThreadTown$Cloth" "street" "[[I") ∈ lw_all := lw_g (lw_at lw_m2 111 rfl) rfl
theorem q465 : (Jvm.Cond.soleField "ThreadTown$Cloth" "street") ∈ lw_all := lw_g (lw_at lw_m2 112 rfl) rfl
theorem q466 : (Jvm.Cond.laysFinal "ThreadTown$Cloth" "ThreadTown$Cloth" "laid" "[[I") ∈ lw_all := lw_g (lw_at lw_m2 113 rfl) rfl
theorem q467 : (Jvm.Cond.soleField "ThreadTown$Cloth" "laid") ∈ lw_all := lw_g (lw_at lw_m2 114 rfl) rfl
theorem q468 : (Jvm.Cond.lays "ThreadTown$Cloth" "ThreadTown$Cloth" "lost" "I") ∈ lw_all := lw_g (lw_at lw_m2 115 rfl) rfl
theorem q469 : (Jvm.Cond.soleField "ThreadTown$Cloth" "lost") ∈ lw_all := lw_g (lw_at lw_m2 116 rfl) rfl
theorem q470 : (Jvm.Cond.lays "ThreadTown$Cloth" "ThreadTown$Cloth" "minute" "I") ∈ lw_all := lw_g (lw_at lw_m2 117 rfl) rfl
theorem q471 : (Jvm.Cond.soleField "ThreadTown$Cloth" "minute") ∈ lw_all := lw_g (lw_at lw_m2 118 rfl) rfl
theorem q472 : (Jvm.Cond.lays "ThreadTown$Cloth" "ThreadTown$Cloth" "next" "I") ∈ lw_all := lw_g (lw_at lw_m2 119 rfl) rfl
theorem q473 : (Jvm.Cond.soleField "ThreadTown$Cloth" "next") ∈ lw_all := lw_g (lw_at lw_m2 120 rfl) rfl
theorem q474 : (Jvm.Cond.laysFinal "ThreadTown$Cloth" "ThreadTown$Cloth" "asked" "LThreadTown$Asked;") ∈ lw_all := lw_g (lw_at lw_m2 121 rfl) rfl
theorem q475 : (Jvm.Cond.soleField "ThreadTown$Cloth" "asked") ∈ lw_all := lw_g (lw_at lw_m2 122 rfl) rfl
theorem q476 : (Jvm.Cond.superclass "ThreadTown$Cloth" "java/lang/Object") ∈ lw_all := lw_g (lw_at lw_m2 123 rfl) rfl
theorem q477 : (Jvm.Cond.arrayOver (Jvm.ClassFile.FieldType.object "ThreadTown$Cloth")) ∈ lw_tbl := lw_at lw_m2 124 rfl
theorem q478 : (Jvm.Cond.classLink "ThreadTown" (77 : Nat) "ThreadTown$Dusk") ∈ lw_all := lw_g (lw_at lw_m2 125 rfl) rfl
theorem q479 : (Jvm.Cond.arrayOver (Jvm.ClassFile.FieldType.object "ThreadTown$Dusk")) ∈ lw_tbl := lw_at lw_m2 126 rfl
theorem q480 : (Jvm.Cond.classLink "ThreadTown" (79 : Nat) "ThreadTown$ByNumber") ∈ lw_all := lw_g (lw_at lw_m2 127 rfl) rfl
theorem q481 : (Jvm.Cond.instantiable "ThreadTown$ByNumber" (0 : Nat)) ∈ lw_all := lw_g (lw_at lw_m2 128 rfl) rfl
theorem q482 : (Jvm.Cond.methodLinkNest "ThreadTown" (81 : Nat) ({ cls := "ThreadTown$ByNumber", name := "<init>", desc := "()V" } : Jvm.MethodName) "ThreadTown") ∈ lw_tbl := lw_at lw_m2 129 rfl
theorem q483 : (Jvm.Cond.instanceMethod ({ cls := "ThreadTown$ByNumber", name := "<init>", desc := "()V" } : Jvm.MethodName)) ∈ lw_all := lw_g (lw_at lw_m2 130 rfl) rfl
theorem q484 : (Jvm.Cond.code ({ cls := "ThreadTown$ByNumber", name := "<init>", desc := "()V" } : Jvm.MethodName) prog_7_method_1_code (1 : Nat) (Option.none : Option Jvm.ClassFile.FieldType)) ∈ lw_all := lw_g (lw_at lw_m2 131 rfl) rfl
theorem q485 : (Jvm.Cond.methodLinkNest "ThreadTown$ByNumber" (1 : Nat) ({ cls := "ThreadTown$Dusk", name := "<init>", desc := "()V" } : Jvm.MethodName) "ThreadTown") ∈ lw_tbl := lw_at lw_m2 132 rfl
theorem q486 : (Jvm.Cond.instanceMethod ({ cls := "ThreadTown$Dusk", name := "<init>", desc := "()V" } : Jvm.MethodName)) ∈ lw_all := lw_g (lw_at lw_m2 133 rfl) rfl
theorem q487 : (Jvm.Cond.code ({ cls := "ThreadTown$Dusk", name := "<init>", desc := "()V" } : Jvm.MethodName) prog_9_method_1_code (1 : Nat) (Option.none : Option Jvm.ClassFile.FieldType)) ∈ lw_all := lw_g (lw_at lw_m2 134 rfl) rfl
theorem q488 : (Jvm.Cond.methodLink "ThreadTown$Dusk" (1 : Nat) ({ cls := "java/lang/Object", name := "<init>", desc := "()V" } : Jvm.MethodName)) ∈ lw_all := lw_g (lw_at lw_m2 135 rfl) rfl
theorem q489 : (Jvm.Cond.superclass "ThreadTown$ByNumber" "ThreadTown$Dusk") ∈ lw_all := lw_g (lw_at lw_m2 136 rfl) rfl
theorem q490 : (Jvm.Cond.classLink "ThreadTown" (82 : Nat) "ThreadTown$ByLying") ∈ lw_all := lw_g (lw_at lw_m2 137 rfl) rfl
theorem q491 : (Jvm.Cond.instantiable "ThreadTown$ByLying" (0 : Nat)) ∈ lw_all := lw_g (lw_at lw_m2 138 rfl) rfl
theorem q492 : (Jvm.Cond.methodLinkNest "ThreadTown" (84 : Nat) ({ cls := "ThreadTown$ByLying", name := "<init>", desc := "()V" } : Jvm.MethodName) "ThreadTown") ∈ lw_tbl := lw_at lw_m2 139 rfl
theorem q493 : (Jvm.Cond.instanceMethod ({ cls := "ThreadTown$ByLying", name := "<init>", desc := "()V" } : Jvm.MethodName)) ∈ lw_all := lw_g (lw_at lw_m2 140 rfl) rfl
theorem q494 : (Jvm.Cond.code ({ cls := "ThreadTown$ByLying", name := "<init>", desc := "()V" } : Jvm.MethodName) prog_6_method_1_code (1 : Nat) (Option.none : Option Jvm.ClassFile.FieldType)) ∈ lw_all := lw_g (lw_at lw_m2 141 rfl) rfl
theorem q495 : (Jvm.Cond.methodLinkNest "ThreadTown$ByLying" (1 : Nat) ({ cls := "ThreadTown$Dusk", name := "<init>", desc := "()V" } : Jvm.MethodName) "ThreadTown") ∈ lw_tbl := lw_at lw_m2 142 rfl
theorem q496 : (Jvm.Cond.superclass "ThreadTown$ByLying" "ThreadTown$Dusk") ∈ lw_all := lw_g (lw_at lw_m2 143 rfl) rfl
theorem q497 : (Jvm.Cond.classLink "ThreadTown" (85 : Nat) "ThreadTown$ByLeft") ∈ lw_all := lw_g (lw_at lw_m2 144 rfl) rfl
theorem q498 : (Jvm.Cond.instantiable "ThreadTown$ByLeft" (0 : Nat)) ∈ lw_all := lw_g (lw_at lw_m2 145 rfl) rfl
theorem q499 : (Jvm.Cond.methodLinkNest "ThreadTown" (87 : Nat) ({ cls := "ThreadTown$ByLeft", name := "<init>", desc := "()V" } : Jvm.MethodName) "ThreadTown") ∈ lw_tbl := lw_at lw_m2 146 rfl
theorem q500 : (Jvm.Cond.instanceMethod ({ cls := "ThreadTown$ByLeft", name := "<init>", desc := "()V" } : Jvm.MethodName)) ∈ lw_all := lw_g (lw_at lw_m2 147 rfl) rfl
theorem q501 : (Jvm.Cond.code ({ cls := "ThreadTown$ByLeft", name := "<init>", desc := "()V" } : Jvm.MethodName) prog_4_method_1_code (1 : Nat) (Option.none : Option Jvm.ClassFile.FieldType)) ∈ lw_all := lw_g (lw_at lw_m2 148 rfl) rfl
theorem q502 : (Jvm.Cond.methodLinkNest "ThreadTown$ByLeft" (1 : Nat) ({ cls := "ThreadTown$Dusk", name := "<init>", desc := "()V" } : Jvm.MethodName) "ThreadTown") ∈ lw_tbl := lw_at lw_m2 149 rfl
theorem q503 : (Jvm.Cond.superclass "ThreadTown$ByLeft" "ThreadTown$Dusk") ∈ lw_all := lw_g (lw_at lw_m2 150 rfl) rfl
theorem q504 : (Jvm.Cond.classLink "ThreadTown" (88 : Nat) "ThreadTown$ByLaid") ∈ lw_all := lw_g (lw_at lw_m2 151 rfl) rfl
theorem q505 : (Jvm.Cond.instantiable "ThreadTown$ByLaid" (0 : Nat)) ∈ lw_all := lw_g (lw_at lw_m2 152 rfl) rfl
theorem q506 : (Jvm.Cond.methodLinkNest "ThreadTown" (90 : Nat) ({ cls := "ThreadTown$ByLaid", name := "<init>", desc := "()V" } : Jvm.MethodName) "ThreadTown") ∈ lw_tbl := lw_at lw_m2 153 rfl
theorem q507 : (Jvm.Cond.instanceMethod ({ cls := "ThreadTown$ByLaid", name := "<init>", desc := "()V" } : Jvm.MethodName)) ∈ lw_all := lw_g (lw_at lw_m2 154 rfl) rfl
theorem q508 : (Jvm.Cond.code ({ cls := "ThreadTown$ByLaid", name := "<init>", desc := "()V" } : Jvm.MethodName) prog_3_method_1_code (1 : Nat) (Option.none : Option Jvm.ClassFile.FieldType)) ∈ lw_all := lw_g (lw_at lw_m2 155 rfl) rfl
theorem q509 : (Jvm.Cond.methodLinkNest "ThreadTown$ByLaid" (1 : Nat) ({ cls := "ThreadTown$Dusk", name := "<init>", desc := "()V" } : Jvm.MethodName) "ThreadTown") ∈ lw_tbl := lw_at lw_m2 156 rfl
theorem q510 : (Jvm.Cond.superclass "ThreadTown$ByLaid" "ThreadTown$Dusk") ∈ lw_all := lw_g (lw_at lw_m2 157 rfl) rfl
theorem q511 : (Jvm.Cond.classLink "ThreadTown" (91 : Nat) "ThreadTown$ByLot") ∈ lw_all := lw_g (lw_at lw_m2 158 rfl) rfl
theorem q512 : (Jvm.Cond.instantiable "ThreadTown$ByLot" (0 : Nat)) ∈ lw_all := lw_g (lw_at lw_m2 159 rfl) rfl
theorem q513 : (Jvm.Cond.methodLinkNest "ThreadTown" (93 : Nat) ({ cls := "ThreadTown$ByLot", name := "<init>", desc := "()V" } : Jvm.MethodName) "ThreadTown") ∈ lw_tbl := lw_at lw_m2 160 rfl
theorem q514 : (Jvm.Cond.instanceMethod ({ cls := "ThreadTown$ByLot", name := "<init>", desc := "()V" } : Jvm.MethodName)) ∈ lw_all := lw_g (lw_at lw_m2 161 rfl) rfl
theorem q515 : (Jvm.Cond.code ({ cls := "ThreadTown$ByLot", name := "<init>", desc := "()V" } : Jvm.MethodName) prog_5_method_1_code (1 : Nat) (Option.none : Option Jvm.ClassFile.FieldType)) ∈ lw_all := lw_g (lw_at lw_m2 162 rfl) rfl
theorem q516 : (Jvm.Cond.methodLinkNest "ThreadTown$ByLot" (1 : Nat) ({ cls := "ThreadTown$Dusk", name := "<init>", desc := "()V" } : Jvm.MethodName) "ThreadTown") ∈ lw_tbl := lw_at lw_m2 163 rfl
theorem q517 : (Jvm.Cond.superclass "ThreadTown$ByLot" "ThreadTown$Dusk") ∈ lw_all := lw_g (lw_at lw_m2 164 rfl) rfl
theorem q518 : (Jvm.Cond.classLink "ThreadTown" (109 : Nat) "[[I") ∈ lw_all := lw_g (lw_at lw_m2 165 rfl) rfl
theorem q519 : (Jvm.Cond.classLink "ThreadTown" (117 : Nat) "[[[I") ∈ lw_all := lw_g (lw_at lw_m2 166 rfl) rfl
theorem q520 : (Jvm.Cond.arrayOver (Jvm.ClassFile.FieldType.array (Jvm.ClassFile.FieldType.array Jvm.ClassFile.FieldType.int))) ∈ lw_tbl := lw_at lw_m2 167 rfl
theorem q521 : (Jvm.Cond.methodLink "ThreadTown" (134 : Nat) ({ cls := "ThreadTown$Cloth", name := "begins", desc := "(LThreadTown$Text;)V" } : Jvm.MethodName)) ∈ lw_all := lw_g (lw_at lw_m2 168 rfl) rfl
theorem q522 : (Jvm.Cond.instanceMethod ({ cls := "ThreadTown$Cloth", name := "begins", desc := "(LThreadTown$Text;)V" } : Jvm.MethodName)) ∈ lw_all := lw_g (lw_at lw_m2 169 rfl) rfl
theorem q523 : (Jvm.Cond.selects "ThreadTown$Cloth" ({ cls := "ThreadTown$Cloth", name := "begins", desc := "(LThreadTown$Text;)V" } : Jvm.MethodName) ({ cls := "ThreadTown$Cloth", name := "begins", desc := "(LThreadTown$Text;)V" } : Jvm.MethodName)) ∈ lw_all := lw_g (lw_at lw_m2 170 rfl) rfl
theorem q524 : (Jvm.Cond.code ({ cls := "ThreadTown$Cloth", name := "begins", desc := "(LThreadTown$Text;)V" } : Jvm.MethodName) prog_8_method_2_code (3 : Nat) (Option.none : Option Jvm.ClassFile.FieldType)) ∈ lw_all := lw_g (lw_at lw_m2 171 rfl) rfl
theorem q525 : (Jvm.Cond.methodLink "ThreadTown$Cloth" (58 : Nat) ({ cls := "java/util/ArrayList", name := "size", desc := "()I" } : Jvm.MethodName)) ∈ lw_all := lw_g (lw_at lw_m2 172 rfl) rfl
theorem q526 : (Jvm.Cond.instanceMethod ({ cls := "java/util/ArrayList", name := "size", desc := "()I" } : Jvm.MethodName)) ∈ lw_all := lw_g (lw_at lw_m2 173 rfl) rfl
theorem q527 : (Jvm.Cond.selects "java/util/ArrayList" ({ cls := "java/util/ArrayList", name := "size", desc := "()I" } : Jvm.MethodName) ({ cls := "java/util/ArrayList", name := "size", desc := "()I" } : Jvm.MethodName)) ∈ lw_all := lw_g (lw_at lw_m2 174 rfl) rfl
theorem q528 : (Jvm.Cond.code ({ cls := "java/util/ArrayList", name := "size", desc := "()I" } : Jvm.MethodName) prog_43_method_8_code (1 : Nat) (Option.some Jvm.ClassFile.FieldType.int)) ∈ lw_all := lw_g (lw_at lw_m2 175 rfl) rfl
theorem q529 : (Jvm.Cond.methodLink "ThreadTown$Cloth" (64 : Nat) ({ cls := "java/util/ArrayList", name := "get", desc := "(I)Ljava/lang/Object;" } : Jvm.MethodName)) ∈ lw_all := lw_g (lw_at lw_m2 176 rfl) rfl
theorem q530 : (Jvm.Cond.instanceMethod ({ cls := "java/util/ArrayList", name := "get", desc := "(I)Ljava/lang/Object;" } : Jvm.MethodName)) ∈ lw_all := lw_g (lw_at lw_m2 177 rfl) rfl
theorem q531 : (Jvm.Cond.selects "java/util/ArrayList" ({ cls := "java/util/ArrayList", name := "get", desc := "(I)Ljava/lang/Object;" } : Jvm.MethodName) ({ cls := "java/util/ArrayList", name := "get", desc := "(I)Ljava/lang/Object;" } : Jvm.MethodName)) ∈ lw_all := lw_g (lw_at lw_m2 178 rfl) rfl
theorem q532 : (Jvm.Cond.code ({ cls := "java/util/ArrayList", name := "get", desc := "(I)Ljava/lang/Object;" } : Jvm.MethodName) prog_43_method_20_code (2 : Nat) (Option.some (Jvm.ClassFile.FieldType.object "java/lang/Object"))) ∈ lw_all := lw_g (lw_at lw_m2 179 rfl) rfl
theorem q533 : (Jvm.Cond.methodLink "java/util/ArrayList" (118 : Nat) ({ cls := "java/util/Objects", name := "checkIndex", desc := "(II)I" } : Jvm.MethodName)) ∈ lw_all := lw_g (lw_at lw_m2 180 rfl) rfl
theorem q534 : (Jvm.Cond.static ({ cls := "java/util/Objects", name := "checkIndex", desc := "(II)I" } : Jvm.MethodName)) ∈ lw_all := lw_g (lw_at lw_m2 181 rfl) rfl
theorem q535 : (Jvm.Cond.code ({ cls := "java/util/Objects", name := "checkIndex", desc := "(II)I" } : Jvm.MethodName) prog_47_method_17_code (2 : Nat) (Option.some Jvm.ClassFile.FieldType.int)) ∈ lw_all := lw_g (lw_at lw_m2 182 rfl) rfl
theorem q536 : (Jvm.Cond.methodLink "java/util/Objects" (105 : Nat) ({ cls := "jdk/internal/util/Preconditions", name := "checkIndex", desc := "(IILjava/util/function/BiFunction;)I" } : Jvm.MethodName)) ∈ lw_all := lw_g (lw_at lw_m2 183 rfl) rfl
theorem q537 : (Jvm.Cond.static ({ cls := "jdk/internal/util/Preconditions", name := "checkIndex", desc := "(IILjava/util/function/BiFunction;)I" } : Jvm.MethodName)) ∈ lw_all := lw_g (lw_at lw_m2 184 rfl) rfl
theorem q538 : (Jvm.Cond.code ({ cls := "jdk/internal/util/Preconditions", name := "checkIndex", desc := "(IILjava/util/function/BiFunction;)I" } : Jvm.MethodName) prog_51_method_11_code (3 : Nat) (Option.some Jvm.ClassFile.FieldType.int)) ∈ lw_all := lw_g (lw_at lw_m2 185 rfl) rfl
theorem q539 : (Jvm.Cond.methodLink "java/util/ArrayList" (123 : Nat) ({ cls := "java/util/ArrayList", name := "elementData", desc := "(I)Ljava/lang/Object;" } : Jvm.MethodName)) ∈ lw_all := lw_g (lw_at lw_m2 186 rfl) rfl
theorem q540 : (Jvm.Cond.instanceMethod ({ cls := "java/util/ArrayList", name := "elementData", desc := "(I)Ljava/lang/Object;" } : Jvm.MethodName)) ∈ lw_all := lw_g (lw_at lw_m2 187 rfl) rfl
theorem q541 : (Jvm.Cond.selects "java/util/ArrayList" ({ cls := "java/util/ArrayList", name := "elementData", desc := "(I)Ljava/lang/Object;" } : Jvm.MethodName) ({ cls := "java/util/ArrayList", name := "elementData", desc := "(I)Ljava/lang/Object;" } : Jvm.MethodName)) ∈ lw_all := lw_g (lw_at lw_m2 188 rfl) rfl
theorem q542 : (Jvm.Cond.code ({ cls := "java/util/ArrayList", name := "elementData", desc := "(I)Ljava/lang/Object;" } : Jvm.MethodName) prog_43_method_18_code (2 : Nat) (Option.some (Jvm.ClassFile.FieldType.object "java/lang/Object"))) ∈ lw_all := lw_g (lw_at lw_m2 189 rfl) rfl
theorem q543 : (Jvm.Cond.classLink "ThreadTown$Cloth" (68 : Nat) "ThreadTown$Man") ∈ lw_all := lw_g (lw_at lw_m2 190 rfl) rfl
theorem q544 : (Jvm.Cond.methodLink "ThreadTown$Cloth" (77 : Nat) ({ cls := "ThreadTown$Cloth", name := "asks", desc := "(LThreadTown$Law;IIII)I" } : Jvm.MethodName)) ∈ lw_all := lw_g (lw_at lw_m2 191 rfl) rfl
theorem q545 : (Jvm.Cond.privateMethod ({ cls := "ThreadTown$Cloth", name := "asks", desc := "(LThreadTown$Law;IIII)I" } : Jvm.MethodName)) ∈ lw_tbl := lw_at lw_m2 192 rfl
theorem q546 : (Jvm.Cond.instanceMethod ({ cls := "ThreadTown$Cloth", name := "asks", desc := "(LThreadTown$Law;IIII)I" } : Jvm.MethodName)) ∈ lw_all := lw_g (lw_at lw_m2 193 rfl) rfl
theorem q547 : (Jvm.Cond.code ({ cls := "ThreadTown$Cloth", name := "asks", desc := "(LThreadTown$Law;IIII)I" } : Jvm.MethodName) prog_8_method_4_code (6 : Nat) (Option.some Jvm.ClassFile.FieldType.int)) ∈ lw_all := lw_g (lw_at lw_m2 194 rfl) rfl
theorem q548 : (Jvm.Cond.methodLink "ThreadTown$Cloth" (96 : Nat) ({ cls := "ThreadTown$Law", name := "of", desc := "(LThreadTown$Asked;)I" } : Jvm.MethodName)) ∈ lw_all := lw_g (lw_at lw_m2 195 rfl) rfl
theorem q549 : (Jvm.Cond.instanceMethod ({ cls := "ThreadTown$Law", name := "of", desc := "(LThreadTown$Asked;)I" } : Jvm.MethodName)) ∈ lw_all := lw_g (lw_at lw_m2 196 rfl) rfl
theorem q550 : (Jvm.Cond.selects "ThreadTown$Law" ({ cls := "ThreadTown$Law", name := "of", desc := "(LThreadTown$Asked;)I" } : Jvm.MethodName) ({ cls := "ThreadTown$Law", name := "of", desc := "(LThreadTown$Asked;)I" } : Jvm.MethodName)) ∈ lw_all := lw_g (lw_at lw_m2 197 rfl) rfl
theorem q551 : (Jvm.Cond.code ({ cls := "ThreadTown$Law", name := "of", desc := "(LThreadTown$Asked;)I" } : Jvm.MethodName) prog_12_method_2_code (4 : Nat) (Option.some Jvm.ClassFile.FieldType.int)) ∈ lw_all := lw_g (lw_at lw_m2 198 rfl) rfl
theorem q552 : (Jvm.Cond.methodLink "ThreadTown$Law" (33 : Nat) ({ cls := "ThreadTown$Sum", name := "of", desc := "(LThreadTown$Asked;)I" } : Jvm.MethodName)) ∈ lw_all := lw_g (lw_at lw_m2 199 rfl) rfl
theorem q553 : (Jvm.Cond.declares ({ cls := "ThreadTown$Sum", name := "of", desc := "(LThreadTown$Asked;)I" } : Jvm.MethodName)) ∈ lw_tbl := lw_at lw_m2 200 rfl
theorem q554 : (Jvm.Cond.sameMethod "ThreadTown$Sum" "ThreadTown$Sum" "of" "(LThreadTown$Asked;)I") ∈ lw_all := lw_g (lw_at lw_m2 201 rfl) rfl
theorem q555 : (Jvm.Cond.selects "ThreadTown$Joined" ({ cls := "ThreadTown$Sum", name := "of", desc := "(LThreadTown$Asked;)I" } : Jvm.MethodName) ({ cls := "ThreadTown$Joined", name := "of", desc := "(LThreadTown$Asked;)I" } : Jvm.MethodName)) ∈ lw_all := lw_g (lw_at lw_m2 202 rfl) rfl
theorem q556 : (Jvm.Cond.instanceMethod ({ cls := "ThreadTown$Joined", name := "of", desc := "(LThreadTown$Asked;)I" } : Jvm.MethodName)) ∈ lw_all := lw_g (lw_at lw_m2 203 rfl) rfl
theorem q557 : (Jvm.Cond.code ({ cls := "ThreadTown$Joined", name := "of", desc := "(LThreadTown$Asked;)I" } : Jvm.MethodName) prog_11_method_2_code (4 : Nat) (Option.some Jvm.ClassFile.FieldType.int)) ∈ lw_all := lw_g (lw_at lw_m2 204 rfl) rfl
theorem q558 : (Jvm.Cond.methodLink "ThreadTown$Joined" (20 : Nat) ({ cls := "ThreadTown$Sum", name := "of", desc := "(LThreadTown$Asked;)I" } : Jvm.MethodName)) ∈ lw_all := lw_g (lw_at lw_m2 205 rfl) rfl
theorem q559 : (Jvm.Cond.instanceMethod ({ cls := "ThreadTown$Number", name := "of", desc := "(LThreadTown$Asked;)I" } : Jvm.MethodName)) ∈ lw_all := lw_g (lw_at lw_m2 206 rfl) rfl
theorem q560 : (Jvm.Cond.code ({ cls := "ThreadTown$Number", name := "of", desc := "(LThreadTown$Asked;)I" } : Jvm.MethodName) prog_14_method_2_code (2 : Nat) (Option.some Jvm.ClassFile.FieldType.int)) ∈ lw_all := lw_g (lw_at lw_m2 207 rfl) rfl
theorem q561 : (Jvm.Cond.instanceMethod ({ cls := "ThreadTown$Var", name := "of", desc := "(LThreadTown$Asked;)I" } : Jvm.MethodName)) ∈ lw_all := lw_g (lw_at lw_m2 208 rfl) rfl
theorem q562 : (Jvm.Cond.code ({ cls := "ThreadTown$Var", name := "of", desc := "(LThreadTown$Asked;)I" } : Jvm.MethodName) prog_19_method_2_code (2 : Nat) (Option.some Jvm.ClassFile.FieldType.int)) ∈ lw_all := lw_g (lw_at lw_m2 209 rfl) rfl
theorem q563 : (Jvm.Cond.selects "ThreadTown$Number" ({ cls := "ThreadTown$Sum", name := "of", desc := "(LThreadTown$Asked;)I" } : Jvm.MethodName) ({ cls := "ThreadTown$Number", name := "of", desc := "(LThreadTown$Asked;)I" } : Jvm.MethodName)) ∈ lw_all := lw_g (lw_at lw_m2 210 rfl) rfl
theorem q564 : (Jvm.Cond.selects "ThreadTown$Var" ({ cls := "ThreadTown$Sum", name := "of", desc := "(LThreadTown$Asked;)I" } : Jvm.MethodName) ({ cls := "ThreadTown$Var", name := "of", desc := "(LThreadTown$Asked;)I" } : Jvm.MethodName)) ∈ lw_all := lw_g (lw_at lw_m2 211 rfl) rfl
theorem q565 : (Jvm.Cond.methodLink "ThreadTown$Law" (37 : Nat) ({ cls := "java/lang/Math", name := "max", desc := "(II)I" } : Jvm.MethodName)) ∈ lw_all := lw_g (lw_at lw_m2 212 rfl) rfl
theorem q566 : (Jvm.Cond.static ({ cls := "java/lang/Math", name := "max", desc := "(II)I" } : Jvm.MethodName)) ∈ lw_all := lw_g (lw_at lw_m2 213 rfl) rfl
theorem q567 : (Jvm.Cond.code ({ cls := "java/lang/Math", name := "max", desc := "(II)I" } : Jvm.MethodName) prog_31_method_65_code (2 : Nat) (Option.some Jvm.ClassFile.FieldType.int)) ∈ lw_all := lw_g (lw_at lw_m2 214 rfl) rfl
theorem q568 : (Jvm.Cond.methodLink "ThreadTown$Cloth" (81 : Nat) ({ cls := "java/lang/Math", name := "min", desc := "(II)I" } : Jvm.MethodName)) ∈ lw_all := lw_g (lw_at lw_m2 215 rfl) rfl
theorem q569 : (Jvm.Cond.static ({ cls := "java/lang/Math", name := "min", desc := "(II)I" } : Jvm.MethodName)) ∈ lw_all := lw_g (lw_at lw_m2 216 rfl) rfl
theorem q570 : (Jvm.Cond.code ({ cls := "java/lang/Math", name := "min", desc := "(II)I" } : Jvm.MethodName) prog_31_method_69_code (2 : Nat) (Option.some Jvm.ClassFile.FieldType.int)) ∈ lw_all := lw_g (lw_at lw_m2 217 rfl) rfl
theorem q571 : (Jvm.Cond.fieldLink "ThreadTown" (29 : Nat) "ThreadTown" "fault" "LThreadTown$Fault;") ∈ lw_all := lw_g (lw_at lw_m2 218 rfl) rfl
theorem q572 : (Jvm.Cond.fieldLink "ThreadTown" (36 : Nat) "ThreadTown" "tokens" "LThreadTown$Tokens;") ∈ lw_all := lw_g (lw_at lw_m2 219 rfl) rfl
theorem q573 : (Jvm.Cond.fieldLink "ThreadTown" (45 : Nat) "ThreadTown" "parser" "LThreadTown$Parser;") ∈ lw_all := lw_g (lw_at lw_m2 220 rfl) rfl
theorem q574 : (Jvm.Cond.fieldLink "ThreadTown" (52 : Nat) "ThreadTown" "text" "LThreadTown$Text;") ∈ lw_all := lw_g (lw_at lw_m2 221 rfl) rfl
theorem q575 : (Jvm.Cond.fieldLink "ThreadTown" (56 : Nat) "ThreadTown" "place" "I") ∈ lw_all := lw_g (lw_at lw_m2 222 rfl) rfl
theorem q576 : (Jvm.Cond.fieldLink "ThreadTown" (153 : Nat) "ThreadTown" "undos" "I") ∈ lw_all := lw_g (lw_at lw_m2 223 rfl) rfl
theorem q577 : (Jvm.Cond.fieldLink "ThreadTown" (225 : Nat) "ThreadTown" "undoAt" "I") ∈ lw_all := lw_g (lw_at lw_m2 224 rfl) rfl
theorem q578 : (Jvm.Cond.fieldLink "ThreadTown" (63 : Nat) "ThreadTown" "cloth" "LThreadTown$Cloth;") ∈ lw_all := lw_g (lw_at lw_m2 225 rfl) rfl
theorem q579 : (Jvm.Cond.fieldLink "ThreadTown" (67 : Nat) "ThreadTown" "trial" "LThreadTown$Cloth;") ∈ lw_all := lw_g (lw_at lw_m2 226 rfl) rfl
theorem q580 : (Jvm.Cond.fieldLink "ThreadTown" (70 : Nat) "ThreadTown" "past" "[LThreadTown$Cloth;") ∈ lw_all := lw_g (lw_at lw_m2 227 rfl) rfl
theorem q581 : (Jvm.Cond.fieldLink "ThreadTown" (74 : Nat) "ThreadTown" "slots" "[LThreadTown$Cloth;") ∈ lw_all := lw_g (lw_at lw_m2 228 rfl) rfl
theorem q582 : (Jvm.Cond.fieldLink "ThreadTown" (94 : Nat) "ThreadTown" "dusks" "[LThreadTown$Dusk;") ∈ lw_all := lw_g (lw_at lw_m2 229 rfl) rfl
theorem q583 : (Jvm.Cond.fieldLink "ThreadTown" (98 : Nat) "ThreadTown" "held" "[Z") ∈ lw_all := lw_g (lw_at lw_m2 230 rfl) rfl
theorem q584 : (Jvm.Cond.fieldLink "ThreadTown" (102 : Nat) "ThreadTown" "waitsFor" "[I") ∈ lw_all := lw_g (lw_at lw_m2 231 rfl) rfl
theorem q585 : (Jvm.Cond.fieldLink "ThreadTown" (106 : Nat) "ThreadTown" "ways" "[I") ∈ lw_all := lw_g (lw_at lw_m2 232 rfl) rfl
theorem q586 : (Jvm.Cond.fieldLink "ThreadTown" (111 : Nat) "ThreadTown" "left" "[[I") ∈ lw_all := lw_g (lw_at lw_m2 233 rfl) rfl
theorem q587 : (Jvm.Cond.fieldLink "ThreadTown" (114 : Nat) "ThreadTown" "told" "[I") ∈ lw_all := lw_g (lw_at lw_m2 234 rfl) rfl
theorem q588 : (Jvm.Cond.fieldLink "ThreadTown" (333 : Nat) "ThreadTown" "duskMinutes" "I") ∈ lw_all := lw_g (lw_at lw_m2 235 rfl) rfl
theorem q589 : (Jvm.Cond.fieldLink "ThreadTown" (336 : Nat) "ThreadTown" "duskPieces" "I") ∈ lw_all := lw_g (lw_at lw_m2 236 rfl) rfl
theorem q590 : (Jvm.Cond.fieldLink "ThreadTown" (119 : Nat) "ThreadTown" "lies" "[[[I") ∈ lw_all := lw_g (lw_at lw_m2 237 rfl) rfl
theorem q591 : (Jvm.Cond.fieldLink "ThreadTown" (156 : Nat) "ThreadTown" "tolds" "I") ∈ lw_all := lw_g (lw_at lw_m2 238 rfl) rfl
theorem q592 : (Jvm.Cond.fieldLink "ThreadTown" (122 : Nat) "ThreadTown" "toldMan" "[I") ∈ lw_all := lw_g (lw_at lw_m2 239 rfl) rfl
theorem q593 : (Jvm.Cond.fieldLink "ThreadTown" (125 : Nat) "ThreadTown" "toldOther" "[I") ∈ lw_all := lw_g (lw_at lw_m3 0 rfl) rfl
theorem q594 : (Jvm.Cond.fieldLink "ThreadTown" (128 : Nat) "ThreadTown" "start" "[I") ∈ lw_all := lw_g (lw_at lw_m3 1 rfl) rfl
theorem q595 : (Jvm.Cond.fieldLink "ThreadTown" (131 : Nat) "ThreadTown" "toldOver" "[Z") ∈ lw_all := lw_g (lw_at lw_m3 2 rfl) rfl
theorem q596 : (Jvm.Cond.laysFinal "ThreadTown" "ThreadTown" "fault" "LThreadTown$Fault;") ∈ lw_all := lw_g (lw_at lw_m3 3 rfl) rfl
theorem q597 : (Jvm.Cond.soleField "ThreadTown" "fault") ∈ lw_all := lw_g (lw_at lw_m3 4 rfl) rfl
theorem q598 : (Jvm.Cond.laysFinal "ThreadTown" "ThreadTown" "tokens" "LThreadTown$Tokens;") ∈ lw_all := lw_g (lw_at lw_m3 5 rfl) rfl
theorem q599 : (Jvm.Cond.soleField "ThreadTown" "tokens") ∈ lw_all := lw_g (lw_at lw_m3 6 rfl) rfl
theorem q600 : (Jvm.Cond.laysFinal "ThreadTown" "ThreadTown" "parser" "LThreadTown$Parser;") ∈ lw_all := lw_g (lw_at lw_m3 7 rfl) rfl
theorem q601 : (Jvm.Cond.soleField "ThreadTown" "parser") ∈ lw_all := lw_g (lw_at lw_m3 8 rfl) rfl
theorem q602 : (Jvm.Cond.lays "ThreadTown" "ThreadTown" "text" "LThreadTown$Text;") ∈ lw_all := lw_g (lw_at lw_m3 9 rfl) rfl
theorem q603 : (Jvm.Cond.soleField "ThreadTown" "text") ∈ lw_all := lw_g (lw_at lw_m3 10 rfl) rfl
theorem q604 : (Jvm.Cond.lays "ThreadTown" "ThreadTown" "place" "I") ∈ lw_all := lw_g (lw_at lw_m3 11 rfl) rfl
theorem q605 : (Jvm.Cond.soleField "ThreadTown" "place") ∈ lw_all := lw_g (lw_at lw_m3 12 rfl) rfl
theorem q606 : (Jvm.Cond.lays "ThreadTown" "ThreadTown" "undos" "I") ∈ lw_all := lw_g (lw_at lw_m3 13 rfl) rfl
theorem q607 : (Jvm.Cond.soleField "ThreadTown" "undos") ∈ lw_all := lw_g (lw_at lw_m3 14 rfl) rfl
theorem q608 : (Jvm.Cond.lays "ThreadTown" "ThreadTown" "undoAt" "I") ∈ lw_all := lw_g (lw_at lw_m3 15 rfl) rfl
theorem q609 : (Jvm.Cond.soleField "ThreadTown" "undoAt") ∈ lw_all := lw_g (lw_at lw_m3 16 rfl) rfl
theorem q610 : (Jvm.Cond.laysFinal "ThreadTown" "ThreadTown" "cloth" "LThreadTown$Cloth;") ∈ lw_all := lw_g (lw_at lw_m3 17 rfl) rfl
theorem q611 : (Jvm.Cond.soleField "ThreadTown" "cloth") ∈ lw_all := lw_g (lw_at lw_m3 18 rfl) rfl
theorem q612 : (Jvm.Cond.laysFinal "ThreadTown" "ThreadTown" "trial" "LThreadTown$Cloth;") ∈ lw_all := lw_g (lw_at lw_m3 19 rfl) rfl
theorem q613 : (Jvm.Cond.soleField "ThreadTown" "trial") ∈ lw_all := lw_g (lw_at lw_m3 20 rfl) rfl
theorem q614 : (Jvm.Cond.laysFinal "ThreadTown" "ThreadTown" "past" "[LThreadTown$Cloth;") ∈ lw_all := lw_g (lw_at lw_m3 21 rfl) rfl
theorem q615 : (Jvm.Cond.soleField "ThreadTown" "past") ∈ lw_all := lw_g (lw_at lw_m3 22 rfl) rfl
theorem q616 : (Jvm.Cond.laysFinal "ThreadTown" "ThreadTown" "slots" "[LThreadTown$Cloth;") ∈ lw_all := lw_g (lw_at lw_m3 23 rfl) rfl
theorem q617 : (Jvm.Cond.soleField "ThreadTown" "slots") ∈ lw_all := lw_g (lw_at lw_m3 24 rfl) rfl
theorem q618 : (Jvm.Cond.laysFinal "ThreadTown" "ThreadTown" "dusks" "[LThreadTown$Dusk;") ∈ lw_all := lw_g (lw_at lw_m3 25 rfl) rfl
theorem q619 : (Jvm.Cond.soleField "ThreadTown" "dusks") ∈ lw_all := lw_g (lw_at lw_m3 26 rfl) rfl
theorem q620 : (Jvm.Cond.laysFinal "ThreadTown" "ThreadTown" "held" "[Z") ∈ lw_all := lw_g (lw_at lw_m3 27 rfl) rfl
theorem q621 : (Jvm.Cond.soleField "ThreadTown" "held") ∈ lw_all := lw_g (lw_at lw_m3 28 rfl) rfl
theorem q622 : (Jvm.Cond.laysFinal "ThreadTown" "ThreadTown" "waitsFor" "[I") ∈ lw_all := lw_g (lw_at lw_m3 29 rfl) rfl
theorem q623 : (Jvm.Cond.soleField "ThreadTown" "waitsFor") ∈ lw_all := lw_g (lw_at lw_m3 30 rfl) rfl
theorem q624 : (Jvm.Cond.laysFinal "ThreadTown" "ThreadTown" "ways" "[I") ∈ lw_all := lw_g (lw_at lw_m3 31 rfl) rfl
theorem q625 : (Jvm.Cond.soleField "ThreadTown" "ways") ∈ lw_all := lw_g (lw_at lw_m3 32 rfl) rfl
theorem q626 : (Jvm.Cond.laysFinal "ThreadTown" "ThreadTown" "left" "[[I") ∈ lw_all := lw_g (lw_at lw_m3 33 rfl) rfl
theorem q627 : (Jvm.Cond.soleField "ThreadTown" "left") ∈ lw_all := lw_g (lw_at lw_m3 34 rfl) rfl
theorem q628 : (Jvm.Cond.laysFinal "ThreadTown" "ThreadTown" "told" "[I") ∈ lw_all := lw_g (lw_at lw_m3 35 rfl) rfl
theorem q629 : (Jvm.Cond.soleField "ThreadTown" "told") ∈ lw_all := lw_g (lw_at lw_m3 36 rfl) rfl
theorem q630 : (Jvm.Cond.lays "ThreadTown" "ThreadTown" "duskMinutes" "I") ∈ lw_all := lw_g (lw_at lw_m3 37 rfl) rfl
theorem q631 : (Jvm.Cond.soleField "ThreadTown" "duskMinutes") ∈ lw_all := lw_g (lw_at lw_m3 38 rfl) rfl
theorem q632 : (Jvm.Cond.lays "ThreadTown" "ThreadTown" "duskPieces" "I") ∈ lw_all := lw_g (lw_at lw_m3 39 rfl) rfl
theorem q633 : (Jvm.Cond.soleField "ThreadTown" "duskPieces") ∈ lw_all := lw_g (lw_at lw_m3 40 rfl) rfl
theorem q634 : (Jvm.Cond.laysFinal "ThreadTown" "ThreadTown" "lies" "[[[I") ∈ lw_all := lw_g (lw_at lw_m3 41 rfl) rfl
theorem q635 : (Jvm.Cond.soleField "ThreadTown" "lies") ∈ lw_all := lw_g (lw_at lw_m3 42 rfl) rfl
theorem q636 : (Jvm.Cond.lays "ThreadTown" "ThreadTown" "tolds" "I") ∈ lw_all := lw_g (lw_at lw_m3 43 rfl) rfl
theorem q637 : (Jvm.Cond.soleField "ThreadTown" "tolds") ∈ lw_all := lw_g (lw_at lw_m3 44 rfl) rfl
theorem q638 : (Jvm.Cond.laysFinal "ThreadTown" "ThreadTown" "toldMan" "[I") ∈ lw_all := lw_g (lw_at lw_m3 45 rfl) rfl
theorem q639 : (Jvm.Cond.soleField "ThreadTown" "toldMan") ∈ lw_all := lw_g (lw_at lw_m3 46 rfl) rfl
theorem q640 : (Jvm.Cond.laysFinal "ThreadTown" "ThreadTown" "toldOther" "[I") ∈ lw_all := lw_g (lw_at lw_m3 47 rfl) rfl
theorem q641 : (Jvm.Cond.soleField "ThreadTown" "toldOther") ∈ lw_all := lw_g (lw_at lw_m3 48 rfl) rfl
theorem q642 : (Jvm.Cond.laysFinal "ThreadTown" "ThreadTown" "start" "[I") ∈ lw_all := lw_g (lw_at lw_m3 49 rfl) rfl
theorem q643 : (Jvm.Cond.soleField "ThreadTown" "start") ∈ lw_all := lw_g (lw_at lw_m3 50 rfl) rfl
theorem q644 : (Jvm.Cond.laysFinal "ThreadTown" "ThreadTown" "toldOver" "[Z") ∈ lw_all := lw_g (lw_at lw_m3 51 rfl) rfl
theorem q645 : (Jvm.Cond.soleField "ThreadTown" "toldOver") ∈ lw_all := lw_g (lw_at lw_m3 52 rfl) rfl
theorem q646 : (Jvm.Cond.superclass "ThreadTown" "java/lang/Object") ∈ lw_all := lw_g (lw_at lw_m3 53 rfl) rfl
theorem q647 : (Jvm.Cond.arrayClass Jvm.ClassFile.FieldType.boolean) ∈ lw_all := lw_g (lw_at lw_m3 54 rfl) rfl
theorem q648 : (Jvm.Cond.methodLink "ThreadTownLaw" (13 : Nat) ({ cls := "ThreadTown", name := "feed", desc := "(IIIII)I" } : Jvm.MethodName)) ∈ lw_all := lw_g (lw_at lw_m3 55 rfl) rfl
theorem q649 : (Jvm.Cond.instanceMethod ({ cls := "ThreadTown", name := "feed", desc := "(IIIII)I" } : Jvm.MethodName)) ∈ lw_all := lw_g (lw_at lw_m3 56 rfl) rfl
theorem q650 : (Jvm.Cond.selects "ThreadTown" ({ cls := "ThreadTown", name := "feed", desc := "(IIIII)I" } : Jvm.MethodName) ({ cls := "ThreadTown", name := "feed", desc := "(IIIII)I" } : Jvm.MethodName)) ∈ lw_all := lw_g (lw_at lw_m3 57 rfl) rfl
theorem q651 : (Jvm.Cond.code ({ cls := "ThreadTown", name := "feed", desc := "(IIIII)I" } : Jvm.MethodName) prog_1_method_7_code (6 : Nat) (Option.some Jvm.ClassFile.FieldType.int)) ∈ lw_all := lw_g (lw_at lw_m3 58 rfl) rfl
theorem q652 : (Jvm.Cond.methodLink "ThreadTown" (141 : Nat) ({ cls := "ThreadTown", name := "typed", desc := "(I)V" } : Jvm.MethodName)) ∈ lw_all := lw_g (lw_at lw_m3 59 rfl) rfl
theorem q653 : (Jvm.Cond.privateMethod ({ cls := "ThreadTown", name := "typed", desc := "(I)V" } : Jvm.MethodName)) ∈ lw_tbl := lw_at lw_m3 60 rfl
theorem q654 : (Jvm.Cond.instanceMethod ({ cls := "ThreadTown", name := "typed", desc := "(I)V" } : Jvm.MethodName)) ∈ lw_all := lw_g (lw_at lw_m3 61 rfl) rfl
theorem q655 : (Jvm.Cond.code ({ cls := "ThreadTown", name := "typed", desc := "(I)V" } : Jvm.MethodName) prog_1_method_8_code (3 : Nat) (Option.none : Option Jvm.ClassFile.FieldType)) ∈ lw_all := lw_g (lw_at lw_m3 62 rfl) rfl
theorem q656 : (Jvm.Cond.methodLink "ThreadTownLaw" (18 : Nat) ({ cls := "ThreadTown", name := "back", desc := "(I)I" } : Jvm.MethodName)) ∈ lw_all := lw_g (lw_at lw_m3 63 rfl) rfl
theorem q657 : (Jvm.Cond.instanceMethod ({ cls := "ThreadTown", name := "back", desc := "(I)I" } : Jvm.MethodName)) ∈ lw_all := lw_g (lw_at lw_m3 64 rfl) rfl
theorem q658 : (Jvm.Cond.selects "ThreadTown" ({ cls := "ThreadTown", name := "back", desc := "(I)I" } : Jvm.MethodName) ({ cls := "ThreadTown", name := "back", desc := "(I)I" } : Jvm.MethodName)) ∈ lw_all := lw_g (lw_at lw_m3 65 rfl) rfl
theorem q659 : (Jvm.Cond.code ({ cls := "ThreadTown", name := "back", desc := "(I)I" } : Jvm.MethodName) prog_1_method_9_code (2 : Nat) (Option.some Jvm.ClassFile.FieldType.int)) ∈ lw_all := lw_g (lw_at lw_m3 66 rfl) rfl
theorem q660 : (Jvm.Cond.methodLink "ThreadTownLaw" (23 : Nat) ({ cls := "ThreadTown", name := "read", desc := "()I" } : Jvm.MethodName)) ∈ lw_all := lw_g (lw_at lw_m3 67 rfl) rfl
theorem q661 : (Jvm.Cond.instanceMethod ({ cls := "ThreadTown", name := "read", desc := "()I" } : Jvm.MethodName)) ∈ lw_all := lw_g (lw_at lw_m3 68 rfl) rfl
theorem q662 : (Jvm.Cond.selects "ThreadTown" ({ cls := "ThreadTown", name := "read", desc := "()I" } : Jvm.MethodName) ({ cls := "ThreadTown", name := "read", desc := "()I" } : Jvm.MethodName)) ∈ lw_all := lw_g (lw_at lw_m3 69 rfl) rfl
theorem q663 : (Jvm.Cond.codeWith ({ cls := "ThreadTown", name := "read", desc := "()I" } : Jvm.MethodName) prog_1_method_10_code (3 : Nat) (Option.some Jvm.ClassFile.FieldType.int) [((7 : Nat), (59 : Nat), (62 : Nat), (26 : Nat))]) ∈ lw_all := lw_g (lw_at lw_m3 70 rfl) rfl
theorem q664 : (Jvm.Cond.methodLink "ThreadTown" (149 : Nat) ({ cls := "ThreadTown$Parser", name := "read", desc := "()LThreadTown$Text;" } : Jvm.MethodName)) ∈ lw_all := lw_g (lw_at lw_m3 71 rfl) rfl
theorem q665 : (Jvm.Cond.instanceMethod ({ cls := "ThreadTown$Parser", name := "read", desc := "()LThreadTown$Text;" } : Jvm.MethodName)) ∈ lw_all := lw_g (lw_at lw_m3 72 rfl) rfl
theorem q666 : (Jvm.Cond.selects "ThreadTown$Parser" ({ cls := "ThreadTown$Parser", name := "read", desc := "()LThreadTown$Text;" } : Jvm.MethodName) ({ cls := "ThreadTown$Parser", name := "read", desc := "()LThreadTown$Text;" } : Jvm.MethodName)) ∈ lw_all := lw_g (lw_at lw_m3 73 rfl) rfl
theorem q667 : (Jvm.Cond.code ({ cls := "ThreadTown$Parser", name := "read", desc := "()LThreadTown$Text;" } : Jvm.MethodName) prog_15_method_15_code (2 : Nat) (Option.some (Jvm.ClassFile.FieldType.object "ThreadTown$Text"))) ∈ lw_all := lw_g (lw_at lw_m3 74 rfl) rfl
theorem q668 : (Jvm.Cond.methodLink "ThreadTown$Parser" (92 : Nat) ({ cls := "ThreadTown$Tokens", name := "read", desc := "()V" } : Jvm.MethodName)) ∈ lw_all := lw_g (lw_at lw_m3 75 rfl) rfl
theorem q669 : (Jvm.Cond.instanceMethod ({ cls := "ThreadTown$Tokens", name := "read", desc := "()V" } : Jvm.MethodName)) ∈ lw_all := lw_g (lw_at lw_m3 76 rfl) rfl
theorem q670 : (Jvm.Cond.selects "ThreadTown$Tokens" ({ cls := "ThreadTown$Tokens", name := "read", desc := "()V" } : Jvm.MethodName) ({ cls := "ThreadTown$Tokens", name := "read", desc := "()V" } : Jvm.MethodName)) ∈ lw_all := lw_g (lw_at lw_m3 77 rfl) rfl
theorem q671 : (Jvm.Cond.code ({ cls := "ThreadTown$Tokens", name := "read", desc := "()V" } : Jvm.MethodName) prog_18_method_8_code (7 : Nat) (Option.none : Option Jvm.ClassFile.FieldType)) ∈ lw_all := lw_g (lw_at lw_m3 78 rfl) rfl
theorem q672 : (Jvm.Cond.methodLink "ThreadTown$Tokens" (87 : Nat) ({ cls := "ThreadTown$Tokens", name := "isLetter", desc := "(I)Z" } : Jvm.MethodName)) ∈ lw_all := lw_g (lw_at lw_m3 79 rfl) rfl
theorem q673 : (Jvm.Cond.privateMethod ({ cls := "ThreadTown$Tokens", name := "isLetter", desc := "(I)Z" } : Jvm.MethodName)) ∈ lw_tbl := lw_at lw_m3 80 rfl
theorem q674 : (Jvm.Cond.instanceMethod ({ cls := "ThreadTown$Tokens", name := "isLetter", desc := "(I)Z" } : Jvm.MethodName)) ∈ lw_all := lw_g (lw_at lw_m3 81 rfl) rfl
theorem q675 : (Jvm.Cond.code ({ cls := "ThreadTown$Tokens", name := "isLetter", desc := "(I)Z" } : Jvm.MethodName) prog_18_method_4_code (2 : Nat) (Option.some Jvm.ClassFile.FieldType.boolean)) ∈ lw_all := lw_g (lw_at lw_m3 82 rfl) rfl
theorem q676 : (Jvm.Cond.methodLink "ThreadTown$Tokens" (72 : Nat) ({ cls := "ThreadTown$Tokens", name := "at", desc := "(I)I" } : Jvm.MethodName)) ∈ lw_all := lw_g (lw_at lw_m3 83 rfl) rfl
theorem q677 : (Jvm.Cond.privateMethod ({ cls := "ThreadTown$Tokens", name := "at", desc := "(I)I" } : Jvm.MethodName)) ∈ lw_tbl := lw_at lw_m3 84 rfl
theorem q678 : (Jvm.Cond.instanceMethod ({ cls := "ThreadTown$Tokens", name := "at", desc := "(I)I" } : Jvm.MethodName)) ∈ lw_all := lw_g (lw_at lw_m3 85 rfl) rfl
theorem q679 : (Jvm.Cond.code ({ cls := "ThreadTown$Tokens", name := "at", desc := "(I)I" } : Jvm.MethodName) prog_18_method_2_code (2 : Nat) (Option.some Jvm.ClassFile.FieldType.int)) ∈ lw_all := lw_g (lw_at lw_m3 86 rfl) rfl
theorem q680 : (Jvm.Cond.methodLink "ThreadTown$Tokens" (91 : Nat) ({ cls := "ThreadTown$Tokens", name := "word", desc := "(II)I" } : Jvm.MethodName)) ∈ lw_all := lw_g (lw_at lw_m3 87 rfl) rfl
theorem q681 : (Jvm.Cond.privateMethod ({ cls := "ThreadTown$Tokens", name := "word", desc := "(II)I" } : Jvm.MethodName)) ∈ lw_tbl := lw_at lw_m3 88 rfl
theorem q682 : (Jvm.Cond.instanceMethod ({ cls := "ThreadTown$Tokens", name := "word", desc := "(II)I" } : Jvm.MethodName)) ∈ lw_all := lw_g (lw_at lw_m3 89 rfl) rfl
theorem q683 : (Jvm.Cond.code ({ cls := "ThreadTown$Tokens", name := "word", desc := "(II)I" } : Jvm.MethodName) prog_18_method_6_code (6 : Nat) (Option.some Jvm.ClassFile.FieldType.int)) ∈ lw_all := lw_g (lw_at lw_m3 90 rfl) rfl
theorem q684 : (Jvm.Cond.methodLink "ThreadTown$Tokens" (79 : Nat) ({ cls := "java/lang/String", name := "length", desc := "()I" } : Jvm.MethodName)) ∈ lw_all := lw_g (lw_at lw_m3 91 rfl) rfl
theorem q685 : (Jvm.Cond.instanceMethod ({ cls := "java/lang/String", name := "length", desc := "()I" } : Jvm.MethodName)) ∈ lw_all := lw_g (lw_at lw_m3 92 rfl) rfl
theorem q686 : (Jvm.Cond.selects "java/lang/String" ({ cls := "java/lang/String", name := "length", desc := "()I" } : Jvm.MethodName) ({ cls := "java/lang/String", name := "length", desc := "()I" } : Jvm.MethodName)) ∈ lw_all := lw_g (lw_at lw_m3 93 rfl) rfl
theorem q687 : (Jvm.Cond.code ({ cls := "java/lang/String", name := "length", desc := "()I" } : Jvm.MethodName) prog_33_method_54_code (1 : Nat) (Option.some Jvm.ClassFile.FieldType.int)) ∈ lw_all := lw_g (lw_at lw_m3 94 rfl) rfl
theorem q688 : (Jvm.Cond.methodLink "java/lang/String" (335 : Nat) ({ cls := "java/lang/String", name := "coder", desc := "()B" } : Jvm.MethodName)) ∈ lw_all := lw_g (lw_at lw_m3 95 rfl) rfl
theorem q689 : (Jvm.Cond.instanceMethod ({ cls := "java/lang/String", name := "coder", desc := "()B" } : Jvm.MethodName)) ∈ lw_all := lw_g (lw_at lw_m3 96 rfl) rfl
theorem q690 : (Jvm.Cond.selects "java/lang/String" ({ cls := "java/lang/String", name := "coder", desc := "()B" } : Jvm.MethodName) ({ cls := "java/lang/String", name := "coder", desc := "()B" } : Jvm.MethodName)) ∈ lw_all := lw_g (lw_at lw_m3 97 rfl) rfl
theorem q691 : (Jvm.Cond.code ({ cls := "java/lang/String", name := "coder", desc := "()B" } : Jvm.MethodName) prog_33_method_152_code (1 : Nat) (Option.some Jvm.ClassFile.FieldType.byte)) ∈ lw_all := lw_g (lw_at lw_m3 98 rfl) rfl
theorem q692 : (Jvm.Cond.fieldLink "java/lang/String" (38 : Nat) "java/lang/String" "COMPACT_STRINGS" "Z") ∈ lw_all := lw_g (lw_at lw_m3 99 rfl) rfl
theorem q693 : (Jvm.Cond.laysStatic "java/lang/String" "COMPACT_STRINGS" "Z") ∈ lw_tbl := lw_at lw_m3 100 rfl
theorem q694 : (Jvm.Cond.methodLink "ThreadTown$Tokens" (83 : Nat) ({ cls := "java/lang/String", name := "charAt", desc := "(I)C" } : Jvm.MethodName)) ∈ lw_all := lw_g (lw_at lw_m3 101 rfl) rfl
theorem q695 : (Jvm.Cond.instanceMethod ({ cls := "java/lang/String", name := "charAt", desc := "(I)C" } : Jvm.MethodName)) ∈ lw_all := lw_g (lw_at lw_m3 102 rfl) rfl
theorem q696 : (Jvm.Cond.selects "java/lang/String" ({ cls := "java/lang/String", name := "charAt", desc := "(I)C" } : Jvm.MethodName) ({ cls := "java/lang/String", name := "charAt", desc := "(I)C" } : Jvm.MethodName)) ∈ lw_all := lw_g (lw_at lw_m3 103 rfl) rfl
theorem q697 : (Jvm.Cond.code ({ cls := "java/lang/String", name := "charAt", desc := "(I)C" } : Jvm.MethodName) prog_33_method_56_code (2 : Nat) (Option.some Jvm.ClassFile.FieldType.char)) ∈ lw_all := lw_g (lw_at lw_m3 104 rfl) rfl
theorem q698 : (Jvm.Cond.methodLink "java/lang/String" (492 : Nat) ({ cls := "java/lang/String", name := "isLatin1", desc := "()Z" } : Jvm.MethodName)) ∈ lw_all := lw_g (lw_at lw_m3 105 rfl) rfl
theorem q699 : (Jvm.Cond.instanceMethod ({ cls := "java/lang/String", name := "isLatin1", desc := "()Z" } : Jvm.MethodName)) ∈ lw_all := lw_g (lw_at lw_m3 106 rfl) rfl
theorem q700 : (Jvm.Cond.selects "java/lang/String" ({ cls := "java/lang/String", name := "isLatin1", desc := "()Z" } : Jvm.MethodName) ({ cls := "java/lang/String", name := "isLatin1", desc := "()Z" } : Jvm.MethodName)) ∈ lw_all := lw_g (lw_at lw_m3 107 rfl) rfl
theorem q701 : (Jvm.Cond.code ({ cls := "java/lang/String", name := "isLatin1", desc := "()Z" } : Jvm.MethodName) prog_33_method_154_code (1 : Nat) (Option.some Jvm.ClassFile.FieldType.boolean)) ∈ lw_all := lw_g (lw_at lw_m3 108 rfl) rfl
theorem q702 : (Jvm.Cond.methodLink "java/lang/String" (495 : Nat) ({ cls := "java/lang/StringLatin1", name := "charAt", desc := "([BI)C" } : Jvm.MethodName)) ∈ lw_all := lw_g (lw_at lw_m3 109 rfl) rfl
theorem q703 : (Jvm.Cond.static ({ cls := "java/lang/StringLatin1", name := "charAt", desc := "([BI)C" } : Jvm.MethodName)) ∈ lw_all := lw_g (lw_at lw_m3 110 rfl) rfl
theorem q704 : (Jvm.Cond.code ({ cls := "java/lang/StringLatin1", name := "charAt", desc := "([BI)C" } : Jvm.MethodName) prog_35_method_2_code (2 : Nat) (Option.some Jvm.ClassFile.FieldType.char)) ∈ lw_all := lw_g (lw_at lw_m3 111 rfl) rfl
theorem q705 : (Jvm.Cond.methodLink "java/lang/StringLatin1" (9 : Nat) ({ cls := "java/lang/String", name := "checkIndex", desc := "(II)V" } : Jvm.MethodName)) ∈ lw_all := lw_g (lw_at lw_m3 112 rfl) rfl
theorem q706 : (Jvm.Cond.static ({ cls := "java/lang/String", name := "checkIndex", desc := "(II)V" } : Jvm.MethodName)) ∈ lw_all := lw_g (lw_at lw_m3 113 rfl) rfl
theorem q707 : (Jvm.Cond.code ({ cls := "java/lang/String", name := "checkIndex", desc := "(II)V" } : Jvm.MethodName) prog_33_method_155_code (2 : Nat) (Option.none : Option Jvm.ClassFile.FieldType)) ∈ lw_all := lw_g (lw_at lw_m3 114 rfl) rfl
theorem q708 : (Jvm.Cond.fieldLink "java/lang/String" (1053 : Nat) "jdk/internal/util/Preconditions" "SIOOBE_FORMATTER" "Ljava/util/function/BiFunction;") ∈ lw_all := lw_g (lw_at lw_m3 115 rfl) rfl
theorem q709 : (Jvm.Cond.laysStatic "jdk/internal/util/Preconditions" "SIOOBE_FORMATTER" "Ljava/util/function/BiFunction;") ∈ lw_tbl := lw_at lw_m3 116 rfl
theorem q710 : (Jvm.Cond.methodLink "java/lang/String" (1059 : Nat) ({ cls := "jdk/internal/util/Preconditions", name := "checkIndex", desc := "(IILjava/util/function/BiFunction;)I" } : Jvm.MethodName)) ∈ lw_all := lw_g (lw_at lw_m3 117 rfl) rfl
theorem q711 : (Jvm.Cond.methodLink "java/lang/String" (498 : Nat) ({ cls := "java/lang/StringUTF16", name := "charAt", desc := "([BI)C" } : Jvm.MethodName)) ∈ lw_all := lw_g (lw_at lw_m3 118 rfl) rfl
theorem q712 : (Jvm.Cond.static ({ cls := "java/lang/StringUTF16", name := "charAt", desc := "([BI)C" } : Jvm.MethodName)) ∈ lw_all := lw_g (lw_at lw_m3 119 rfl) rfl
theorem q713 : (Jvm.Cond.code ({ cls := "java/lang/StringUTF16", name := "charAt", desc := "([BI)C" } : Jvm.MethodName) prog_36_method_83_code (2 : Nat) (Option.some Jvm.ClassFile.FieldType.char)) ∈ lw_all := lw_g (lw_at lw_m3 120 rfl) rfl
theorem q714 : (Jvm.Cond.methodLink "java/lang/StringUTF16" (67 : Nat) ({ cls := "java/lang/StringUTF16", name := "checkIndex", desc := "(I[B)V" } : Jvm.MethodName)) ∈ lw_all := lw_g (lw_at lw_m3 121 rfl) rfl
theorem q715 : (Jvm.Cond.static ({ cls := "java/lang/StringUTF16", name := "checkIndex", desc := "(I[B)V" } : Jvm.MethodName)) ∈ lw_all := lw_g (lw_at lw_m3 122 rfl) rfl
theorem q716 : (Jvm.Cond.code ({ cls := "java/lang/StringUTF16", name := "checkIndex", desc := "(I[B)V" } : Jvm.MethodName) prog_36_method_91_code (2 : Nat) (Option.none : Option Jvm.ClassFile.FieldType)) ∈ lw_all := lw_g (lw_at lw_m3 123 rfl) rfl
theorem q717 : (Jvm.Cond.methodLink "java/lang/StringUTF16" (48 : Nat) ({ cls := "java/lang/StringUTF16", name := "length", desc := "([B)I" } : Jvm.MethodName)) ∈ lw_all := lw_g (lw_at lw_m3 124 rfl) rfl
theorem q718 : (Jvm.Cond.static ({ cls := "java/lang/StringUTF16", name := "length", desc := "([B)I" } : Jvm.MethodName)) ∈ lw_all := lw_g (lw_at lw_m3 125 rfl) rfl
theorem q719 : (Jvm.Cond.code ({ cls := "java/lang/StringUTF16", name := "length", desc := "([B)I" } : Jvm.MethodName) prog_36_method_6_code (1 : Nat) (Option.some Jvm.ClassFile.FieldType.int)) ∈ lw_all := lw_g (lw_at lw_m3 126 rfl) rfl
theorem q720 : (Jvm.Cond.methodLink "java/lang/StringUTF16" (414 : Nat) ({ cls := "java/lang/String", name := "checkIndex", desc := "(II)V" } : Jvm.MethodName)) ∈ lw_all := lw_g (lw_at lw_m3 127 rfl) rfl
theorem q721 : (Jvm.Cond.methodLink "java/lang/StringUTF16" (71 : Nat) ({ cls := "java/lang/StringUTF16", name := "getChar", desc := "([BI)C" } : Jvm.MethodName)) ∈ lw_all := lw_g (lw_at lw_m3 128 rfl) rfl
theorem q722 : (Jvm.Cond.static ({ cls := "java/lang/StringUTF16", name := "getChar", desc := "([BI)C" } : Jvm.MethodName)) ∈ lw_all := lw_g (lw_at lw_m3 129 rfl) rfl
theorem q723 : (Jvm.Cond.code ({ cls := "java/lang/StringUTF16", name := "getChar", desc := "([BI)C" } : Jvm.MethodName) prog_36_method_5_code (2 : Nat) (Option.some Jvm.ClassFile.FieldType.char)) ∈ lw_all := lw_g (lw_at lw_m3 130 rfl) rfl
theorem q724 : (Jvm.Cond.fieldLink "java/lang/StringUTF16" (44 : Nat) "java/lang/StringUTF16" "$assertionsDisabled" "Z") ∈ lw_all := lw_g (lw_at lw_m3 131 rfl) rfl
theorem q725 : (Jvm.Cond.laysStatic "java/lang/StringUTF16" "$assertionsDisabled" "Z") ∈ lw_tbl := lw_at lw_m3 132 rfl
theorem q726 : (Jvm.Cond.fieldLink "java/lang/StringUTF16" (59 : Nat) "java/lang/StringUTF16" "HI_BYTE_SHIFT" "I") ∈ lw_all := lw_g (lw_at lw_m3 133 rfl) rfl
theorem q727 : (Jvm.Cond.laysStatic "java/lang/StringUTF16" "HI_BYTE_SHIFT" "I") ∈ lw_tbl := lw_at lw_m3 134 rfl
theorem q728 : (Jvm.Cond.fieldLink "java/lang/StringUTF16" (63 : Nat) "java/lang/StringUTF16" "LO_BYTE_SHIFT" "I") ∈ lw_all := lw_g (lw_at lw_m3 135 rfl) rfl
theorem q729 : (Jvm.Cond.laysStatic "java/lang/StringUTF16" "LO_BYTE_SHIFT" "I") ∈ lw_tbl := lw_at lw_m3 136 rfl
theorem q730 : (Jvm.Cond.methodLink "ThreadTown$Tokens" (95 : Nat) ({ cls := "ThreadTown$Tokens", name := "isDigit", desc := "(I)Z" } : Jvm.MethodName)) ∈ lw_all := lw_g (lw_at lw_m3 137 rfl) rfl
theorem q731 : (Jvm.Cond.privateMethod ({ cls := "ThreadTown$Tokens", name := "isDigit", desc := "(I)Z" } : Jvm.MethodName)) ∈ lw_tbl := lw_at lw_m3 138 rfl
theorem q732 : (Jvm.Cond.instanceMethod ({ cls := "ThreadTown$Tokens", name := "isDigit", desc := "(I)Z" } : Jvm.MethodName)) ∈ lw_all := lw_g (lw_at lw_m3 139 rfl) rfl
theorem q733 : (Jvm.Cond.code ({ cls := "ThreadTown$Tokens", name := "isDigit", desc := "(I)Z" } : Jvm.MethodName) prog_18_method_3_code (2 : Nat) (Option.some Jvm.ClassFile.FieldType.boolean)) ∈ lw_all := lw_g (lw_at lw_m3 140 rfl) rfl
theorem q734 : (Jvm.Cond.methodLink "ThreadTown$Tokens" (98 : Nat) ({ cls := "ThreadTown$Tokens", name := "sign", desc := "(I)I" } : Jvm.MethodName)) ∈ lw_all := lw_g (lw_at lw_m3 141 rfl) rfl
theorem q735 : (Jvm.Cond.privateMethod ({ cls := "ThreadTown$Tokens", name := "sign", desc := "(I)I" } : Jvm.MethodName)) ∈ lw_tbl := lw_at lw_m3 142 rfl
theorem q736 : (Jvm.Cond.instanceMethod ({ cls := "ThreadTown$Tokens", name := "sign", desc := "(I)I" } : Jvm.MethodName)) ∈ lw_all := lw_g (lw_at lw_m3 143 rfl) rfl
theorem q737 : (Jvm.Cond.code ({ cls := "ThreadTown$Tokens", name := "sign", desc := "(I)I" } : Jvm.MethodName) prog_18_method_7_code (3 : Nat) (Option.some Jvm.ClassFile.FieldType.int)) ∈ lw_all := lw_g (lw_at lw_m3 144 rfl) rfl
theorem q738 : (Jvm.Cond.methodLink "ThreadTown$Tokens" (101 : Nat) ({ cls := "ThreadTown$Tokens", name := "add", desc := "(IIII)V" } : Jvm.MethodName)) ∈ lw_all := lw_g (lw_at lw_m3 145 rfl) rfl
theorem q739 : (Jvm.Cond.privateMethod ({ cls := "ThreadTown$Tokens", name := "add", desc := "(IIII)V" } : Jvm.MethodName)) ∈ lw_tbl := lw_at lw_m3 146 rfl
theorem q740 : (Jvm.Cond.instanceMethod ({ cls := "ThreadTown$Tokens", name := "add", desc := "(IIII)V" } : Jvm.MethodName)) ∈ lw_all := lw_g (lw_at lw_m3 147 rfl) rfl
theorem q741 : (Jvm.Cond.code ({ cls := "ThreadTown$Tokens", name := "add", desc := "(IIII)V" } : Jvm.MethodName) prog_18_method_5_code (5 : Nat) (Option.none : Option Jvm.ClassFile.FieldType)) ∈ lw_all := lw_g (lw_at lw_m3 148 rfl) rfl
theorem q742 : (Jvm.Cond.classLink "ThreadTown$Parser" (87 : Nat) "ThreadTown$Text") ∈ lw_all := lw_g (lw_at lw_m3 149 rfl) rfl
theorem q743 : (Jvm.Cond.methodLinkNest "ThreadTown$Parser" (95 : Nat) ({ cls := "ThreadTown$Text", name := "<init>", desc := "()V" } : Jvm.MethodName) "ThreadTown") ∈ lw_tbl := lw_at lw_m3 150 rfl
theorem q744 : (Jvm.Cond.methodLink "ThreadTown$Parser" (65 : Nat) ({ cls := "ThreadTown$Parser", name := "sort", desc := "()I" } : Jvm.MethodName)) ∈ lw_all := lw_g (lw_at lw_m3 151 rfl) rfl
theorem q745 : (Jvm.Cond.privateMethod ({ cls := "ThreadTown$Parser", name := "sort", desc := "()I" } : Jvm.MethodName)) ∈ lw_tbl := lw_at lw_m3 152 rfl
theorem q746 : (Jvm.Cond.instanceMethod ({ cls := "ThreadTown$Parser", name := "sort", desc := "()I" } : Jvm.MethodName)) ∈ lw_all := lw_g (lw_at lw_m3 153 rfl) rfl
theorem q747 : (Jvm.Cond.code ({ cls := "ThreadTown$Parser", name := "sort", desc := "()I" } : Jvm.MethodName) prog_15_method_5_code (1 : Nat) (Option.some Jvm.ClassFile.FieldType.int)) ∈ lw_all := lw_g (lw_at lw_m3 154 rfl) rfl
theorem q748 : (Jvm.Cond.methodLink "ThreadTown$Parser" (48 : Nat) ({ cls := "ThreadTown$Parser", name := "wrong", desc := "(I)LThreadTown$Fault;" } : Jvm.MethodName)) ∈ lw_all := lw_g (lw_at lw_m3 155 rfl) rfl
theorem q749 : (Jvm.Cond.privateMethod ({ cls := "ThreadTown$Parser", name := "wrong", desc := "(I)LThreadTown$Fault;" } : Jvm.MethodName)) ∈ lw_tbl := lw_at lw_m3 156 rfl
theorem q750 : (Jvm.Cond.instanceMethod ({ cls := "ThreadTown$Parser", name := "wrong", desc := "(I)LThreadTown$Fault;" } : Jvm.MethodName)) ∈ lw_all := lw_g (lw_at lw_m3 157 rfl) rfl
theorem q751 : (Jvm.Cond.code ({ cls := "ThreadTown$Parser", name := "wrong", desc := "(I)LThreadTown$Fault;" } : Jvm.MethodName) prog_15_method_3_code (2 : Nat) (Option.some (Jvm.ClassFile.FieldType.object "ThreadTown$Fault"))) ∈ lw_all := lw_g (lw_at lw_m3 158 rfl) rfl
theorem q752 : (Jvm.Cond.methodLink "ThreadTown$Parser" (35 : Nat) ({ cls := "ThreadTown$Parser", name := "wrongAt", desc := "(II)LThreadTown$Fault;" } : Jvm.MethodName)) ∈ lw_all := lw_g (lw_at lw_m3 159 rfl) rfl
theorem q753 : (Jvm.Cond.privateMethod ({ cls := "ThreadTown$Parser", name := "wrongAt", desc := "(II)LThreadTown$Fault;" } : Jvm.MethodName)) ∈ lw_tbl := lw_at lw_m3 160 rfl
theorem q754 : (Jvm.Cond.instanceMethod ({ cls := "ThreadTown$Parser", name := "wrongAt", desc := "(II)LThreadTown$Fault;" } : Jvm.MethodName)) ∈ lw_all := lw_g (lw_at lw_m3 161 rfl) rfl
theorem q755 : (Jvm.Cond.code ({ cls := "ThreadTown$Parser", name := "wrongAt", desc := "(II)LThreadTown$Fault;" } : Jvm.MethodName) prog_15_method_2_code (3 : Nat) (Option.some (Jvm.ClassFile.FieldType.object "ThreadTown$Fault"))) ∈ lw_all := lw_g (lw_at lw_m3 162 rfl) rfl
theorem q756 : (Jvm.Cond.methodLink "ThreadTown$Parser" (25 : Nat) ({ cls := "ThreadTown$Fault", name := "of", desc := "(II)LThreadTown$Fault;" } : Jvm.MethodName)) ∈ lw_all := lw_g (lw_at lw_m3 163 rfl) rfl
theorem q757 : (Jvm.Cond.instanceMethod ({ cls := "ThreadTown$Fault", name := "of", desc := "(II)LThreadTown$Fault;" } : Jvm.MethodName)) ∈ lw_all := lw_g (lw_at lw_m3 164 rfl) rfl
theorem q758 : (Jvm.Cond.selects "ThreadTown$Fault" ({ cls := "ThreadTown$Fault", name := "of", desc := "(II)LThreadTown$Fault;" } : Jvm.MethodName) ({ cls := "ThreadTown$Fault", name := "of", desc := "(II)LThreadTown$Fault;" } : Jvm.MethodName)) ∈ lw_all := lw_g (lw_at lw_m3 165 rfl) rfl
theorem q759 : (Jvm.Cond.code ({ cls := "ThreadTown$Fault", name := "of", desc := "(II)LThreadTown$Fault;" } : Jvm.MethodName) prog_10_method_2_code (3 : Nat) (Option.some (Jvm.ClassFile.FieldType.object "ThreadTown$Fault"))) ∈ lw_all := lw_g (lw_at lw_m3 166 rfl) rfl
theorem q760 : (Jvm.Cond.methodLink "ThreadTown$Parser" (99 : Nat) ({ cls := "ThreadTown$Parser", name := "told", desc := "()V" } : Jvm.MethodName)) ∈ lw_all := lw_g (lw_at lw_m3 167 rfl) rfl
theorem q761 : (Jvm.Cond.privateMethod ({ cls := "ThreadTown$Parser", name := "told", desc := "()V" } : Jvm.MethodName)) ∈ lw_tbl := lw_at lw_m3 168 rfl
theorem q762 : (Jvm.Cond.instanceMethod ({ cls := "ThreadTown$Parser", name := "told", desc := "()V" } : Jvm.MethodName)) ∈ lw_all := lw_g (lw_at lw_m3 169 rfl) rfl
theorem q763 : (Jvm.Cond.code ({ cls := "ThreadTown$Parser", name := "told", desc := "()V" } : Jvm.MethodName) prog_15_method_16_code (4 : Nat) (Option.none : Option Jvm.ClassFile.FieldType)) ∈ lw_all := lw_g (lw_at lw_m3 170 rfl) rfl
theorem q764 : (Jvm.Cond.methodLink "ThreadTown$Parser" (59 : Nat) ({ cls := "ThreadTown$Parser", name := "pass", desc := "()V" } : Jvm.MethodName)) ∈ lw_all := lw_g (lw_at lw_m3 171 rfl) rfl
theorem q765 : (Jvm.Cond.privateMethod ({ cls := "ThreadTown$Parser", name := "pass", desc := "()V" } : Jvm.MethodName)) ∈ lw_tbl := lw_at lw_m3 172 rfl
theorem q766 : (Jvm.Cond.instanceMethod ({ cls := "ThreadTown$Parser", name := "pass", desc := "()V" } : Jvm.MethodName)) ∈ lw_all := lw_g (lw_at lw_m3 173 rfl) rfl
theorem q767 : (Jvm.Cond.code ({ cls := "ThreadTown$Parser", name := "pass", desc := "()V" } : Jvm.MethodName) prog_15_method_6_code (1 : Nat) (Option.none : Option Jvm.ClassFile.FieldType)) ∈ lw_all := lw_g (lw_at lw_m3 174 rfl) rfl
theorem q768 : (Jvm.Cond.methodLink "ThreadTown$Parser" (123 : Nat) ({ cls := "ThreadTown$Parser", name := "number", desc := "(II)I" } : Jvm.MethodName)) ∈ lw_all := lw_g (lw_at lw_m3 175 rfl) rfl
theorem q769 : (Jvm.Cond.privateMethod ({ cls := "ThreadTown$Parser", name := "number", desc := "(II)I" } : Jvm.MethodName)) ∈ lw_tbl := lw_at lw_m3 176 rfl
theorem q770 : (Jvm.Cond.instanceMethod ({ cls := "ThreadTown$Parser", name := "number", desc := "(II)I" } : Jvm.MethodName)) ∈ lw_all := lw_g (lw_at lw_m3 177 rfl) rfl
theorem q771 : (Jvm.Cond.code ({ cls := "ThreadTown$Parser", name := "number", desc := "(II)I" } : Jvm.MethodName) prog_15_method_12_code (5 : Nat) (Option.some Jvm.ClassFile.FieldType.int)) ∈ lw_all := lw_g (lw_at lw_m3 178 rfl) rfl
theorem q772 : (Jvm.Cond.methodLink "ThreadTown$Parser" (68 : Nat) ({ cls := "ThreadTown$Parser", name := "take", desc := "(I)I" } : Jvm.MethodName)) ∈ lw_all := lw_g (lw_at lw_m3 179 rfl) rfl
theorem q773 : (Jvm.Cond.privateMethod ({ cls := "ThreadTown$Parser", name := "take", desc := "(I)I" } : Jvm.MethodName)) ∈ lw_tbl := lw_at lw_m3 180 rfl
theorem q774 : (Jvm.Cond.instanceMethod ({ cls := "ThreadTown$Parser", name := "take", desc := "(I)I" } : Jvm.MethodName)) ∈ lw_all := lw_g (lw_at lw_m3 181 rfl) rfl
theorem q775 : (Jvm.Cond.code ({ cls := "ThreadTown$Parser", name := "take", desc := "(I)I" } : Jvm.MethodName) prog_15_method_11_code (2 : Nat) (Option.some Jvm.ClassFile.FieldType.int)) ∈ lw_all := lw_g (lw_at lw_m3 182 rfl) rfl
theorem q776 : (Jvm.Cond.methodLink "ThreadTown$Parser" (72 : Nat) ({ cls := "ThreadTown$Tokens", name := "number", desc := "(I)I" } : Jvm.MethodName)) ∈ lw_all := lw_g (lw_at lw_m3 183 rfl) rfl
theorem q777 : (Jvm.Cond.instanceMethod ({ cls := "ThreadTown$Tokens", name := "number", desc := "(I)I" } : Jvm.MethodName)) ∈ lw_all := lw_g (lw_at lw_m3 184 rfl) rfl
theorem q778 : (Jvm.Cond.selects "ThreadTown$Tokens" ({ cls := "ThreadTown$Tokens", name := "number", desc := "(I)I" } : Jvm.MethodName) ({ cls := "ThreadTown$Tokens", name := "number", desc := "(I)I" } : Jvm.MethodName)) ∈ lw_all := lw_g (lw_at lw_m3 185 rfl) rfl
theorem q779 : (Jvm.Cond.code ({ cls := "ThreadTown$Tokens", name := "number", desc := "(I)I" } : Jvm.MethodName) prog_18_method_10_code (4 : Nat) (Option.some Jvm.ClassFile.FieldType.int)) ∈ lw_all := lw_g (lw_at lw_m3 186 rfl) rfl
theorem q780 : (Jvm.Cond.methodLink "ThreadTown$Parser" (75 : Nat) ({ cls := "ThreadTown$Parser", name := "tell", desc := "(II)V" } : Jvm.MethodName)) ∈ lw_all := lw_g (lw_at lw_m3 187 rfl) rfl
theorem q781 : (Jvm.Cond.privateMethod ({ cls := "ThreadTown$Parser", name := "tell", desc := "(II)V" } : Jvm.MethodName)) ∈ lw_tbl := lw_at lw_m3 188 rfl
theorem q782 : (Jvm.Cond.instanceMethod ({ cls := "ThreadTown$Parser", name := "tell", desc := "(II)V" } : Jvm.MethodName)) ∈ lw_all := lw_g (lw_at lw_m3 189 rfl) rfl
theorem q783 : (Jvm.Cond.code ({ cls := "ThreadTown$Parser", name := "tell", desc := "(II)V" } : Jvm.MethodName) prog_15_method_4_code (3 : Nat) (Option.none : Option Jvm.ClassFile.FieldType)) ∈ lw_all := lw_g (lw_at lw_m3 190 rfl) rfl
theorem q784 : (Jvm.Cond.methodLink "ThreadTown$Parser" (136 : Nat) ({ cls := "java/util/ArrayList", name := "size", desc := "()I" } : Jvm.MethodName)) ∈ lw_all := lw_g (lw_at lw_m3 191 rfl) rfl
theorem q785 : (Jvm.Cond.methodLink "ThreadTown$Parser" (141 : Nat) ({ cls := "ThreadTown$Parser", name := "begins", desc := "(II)V" } : Jvm.MethodName)) ∈ lw_all := lw_g (lw_at lw_m3 192 rfl) rfl
theorem q786 : (Jvm.Cond.privateMethod ({ cls := "ThreadTown$Parser", name := "begins", desc := "(II)V" } : Jvm.MethodName)) ∈ lw_tbl := lw_at lw_m3 193 rfl
theorem q787 : (Jvm.Cond.instanceMethod ({ cls := "ThreadTown$Parser", name := "begins", desc := "(II)V" } : Jvm.MethodName)) ∈ lw_all := lw_g (lw_at lw_m3 194 rfl) rfl
theorem q788 : (Jvm.Cond.code ({ cls := "ThreadTown$Parser", name := "begins", desc := "(II)V" } : Jvm.MethodName) prog_15_method_14_code (3 : Nat) (Option.none : Option Jvm.ClassFile.FieldType)) ∈ lw_all := lw_g (lw_at lw_m3 195 rfl) rfl
theorem q789 : (Jvm.Cond.classLink "ThreadTown$Parser" (144 : Nat) "ThreadTown$Man") ∈ lw_all := lw_g (lw_at lw_m3 196 rfl) rfl
theorem q790 : (Jvm.Cond.instantiable "ThreadTown$Man" (8 : Nat)) ∈ lw_all := lw_g (lw_at lw_m3 197 rfl) rfl
theorem q791 : (Jvm.Cond.methodLink "ThreadTown$Parser" (146 : Nat) ({ cls := "ThreadTown$Parser", name := "name", desc := "()Ljava/lang/String;" } : Jvm.MethodName)) ∈ lw_all := lw_g (lw_at lw_m3 198 rfl) rfl
theorem q792 : (Jvm.Cond.privateMethod ({ cls := "ThreadTown$Parser", name := "name", desc := "()Ljava/lang/String;" } : Jvm.MethodName)) ∈ lw_tbl := lw_at lw_m3 199 rfl
theorem q793 : (Jvm.Cond.instanceMethod ({ cls := "ThreadTown$Parser", name := "name", desc := "()Ljava/lang/String;" } : Jvm.MethodName)) ∈ lw_all := lw_g (lw_at lw_m3 200 rfl) rfl
theorem q794 : (Jvm.Cond.code ({ cls := "ThreadTown$Parser", name := "name", desc := "()Ljava/lang/String;" } : Jvm.MethodName) prog_15_method_13_code (3 : Nat) (Option.some (Jvm.ClassFile.FieldType.object "java/lang/String"))) ∈ lw_all := lw_g (lw_at lw_m3 201 rfl) rfl
theorem q795 : (Jvm.Cond.methodLink "ThreadTown$Parser" (79 : Nat) ({ cls := "ThreadTown$Tokens", name := "text", desc := "(I)Ljava/lang/String;" } : Jvm.MethodName)) ∈ lw_all := lw_g (lw_at lw_m3 202 rfl) rfl
theorem q796 : (Jvm.Cond.instanceMethod ({ cls := "ThreadTown$Tokens", name := "text", desc := "(I)Ljava/lang/String;" } : Jvm.MethodName)) ∈ lw_all := lw_g (lw_at lw_m3 203 rfl) rfl
theorem q797 : (Jvm.Cond.selects "ThreadTown$Tokens" ({ cls := "ThreadTown$Tokens", name := "text", desc := "(I)Ljava/lang/String;" } : Jvm.MethodName) ({ cls := "ThreadTown$Tokens", name := "text", desc := "(I)Ljava/lang/String;" } : Jvm.MethodName)) ∈ lw_all := lw_g (lw_at lw_m3 204 rfl) rfl
theorem q798 : (Jvm.Cond.code ({ cls := "ThreadTown$Tokens", name := "text", desc := "(I)Ljava/lang/String;" } : Jvm.MethodName) prog_18_method_9_code (4 : Nat) (Option.some (Jvm.ClassFile.FieldType.object "java/lang/String"))) ∈ lw_all := lw_g (lw_at lw_m3 205 rfl) rfl
theorem q799 : (Jvm.Cond.classLink "ThreadTown$Tokens" (105 : Nat) "java/lang/StringBuilder") ∈ lw_all := lw_g (lw_at lw_m3 206 rfl) rfl
theorem q800 : (Jvm.Cond.instantiable "java/lang/StringBuilder" (4 : Nat)) ∈ lw_all := lw_g (lw_at lw_m3 207 rfl) rfl
theorem q801 : (Jvm.Cond.methodLink "ThreadTown$Tokens" (107 : Nat) ({ cls := "java/lang/StringBuilder", name := "<init>", desc := "()V" } : Jvm.MethodName)) ∈ lw_all := lw_g (lw_at lw_m3 208 rfl) rfl
theorem q802 : (Jvm.Cond.instanceMethod ({ cls := "java/lang/StringBuilder", name := "<init>", desc := "()V" } : Jvm.MethodName)) ∈ lw_all := lw_g (lw_at lw_m3 209 rfl) rfl
theorem q803 : (Jvm.Cond.code ({ cls := "java/lang/StringBuilder", name := "<init>", desc := "()V" } : Jvm.MethodName) prog_34_method_1_code (1 : Nat) (Option.none : Option Jvm.ClassFile.FieldType)) ∈ lw_all := lw_g (lw_at lw_m3 210 rfl) rfl
theorem q804 : (Jvm.Cond.methodLink "java/lang/StringBuilder" (1 : Nat) ({ cls := "java/lang/AbstractStringBuilder", name := "<init>", desc := "(I)V" } : Jvm.MethodName)) ∈ lw_all := lw_g (lw_at lw_m3 211 rfl) rfl
theorem q805 : (Jvm.Cond.instanceMethod ({ cls := "java/lang/AbstractStringBuilder", name := "<init>", desc := "(I)V" } : Jvm.MethodName)) ∈ lw_all := lw_g (lw_at lw_m3 212 rfl) rfl
theorem q806 : (Jvm.Cond.code ({ cls := "java/lang/AbstractStringBuilder", name := "<init>", desc := "(I)V" } : Jvm.MethodName) prog_23_method_2_code (2 : Nat) (Option.none : Option Jvm.ClassFile.FieldType)) ∈ lw_all := lw_g (lw_at lw_m3 213 rfl) rfl
theorem q807 : (Jvm.Cond.methodLink "java/lang/AbstractStringBuilder" (3 : Nat) ({ cls := "java/lang/Object", name := "<init>", desc := "()V" } : Jvm.MethodName)) ∈ lw_all := lw_g (lw_at lw_m3 214 rfl) rfl
theorem q808 : (Jvm.Cond.fieldLink "java/lang/AbstractStringBuilder" (18 : Nat) "java/lang/String" "COMPACT_STRINGS" "Z") ∈ lw_all := lw_g (lw_at lw_m3 215 rfl) rfl
theorem q809 : (Jvm.Cond.methodLink "java/lang/AbstractStringBuilder" (26 : Nat) ({ cls := "java/lang/StringUTF16", name := "newBytesFor", desc := "(I)[B" } : Jvm.MethodName)) ∈ lw_all := lw_g (lw_at lw_m3 216 rfl) rfl
theorem q810 : (Jvm.Cond.static ({ cls := "java/lang/StringUTF16", name := "newBytesFor", desc := "(I)[B" } : Jvm.MethodName)) ∈ lw_all := lw_g (lw_at lw_m3 217 rfl) rfl
theorem q811 : (Jvm.Cond.code ({ cls := "java/lang/StringUTF16", name := "newBytesFor", desc := "(I)[B" } : Jvm.MethodName) prog_36_method_2_code (1 : Nat) (Option.some (Jvm.ClassFile.FieldType.array Jvm.ClassFile.FieldType.byte))) ∈ lw_all := lw_g (lw_at lw_m3 218 rfl) rfl
theorem q812 : (Jvm.Cond.methodLink "java/lang/StringUTF16" (11 : Nat) ({ cls := "java/lang/StringUTF16", name := "newBytesLength", desc := "(I)I" } : Jvm.MethodName)) ∈ lw_all := lw_g (lw_at lw_m3 219 rfl) rfl
theorem q813 : (Jvm.Cond.static ({ cls := "java/lang/StringUTF16", name := "newBytesLength", desc := "(I)I" } : Jvm.MethodName)) ∈ lw_all := lw_g (lw_at lw_m3 220 rfl) rfl
theorem q814 : (Jvm.Cond.code ({ cls := "java/lang/StringUTF16", name := "newBytesLength", desc := "(I)I" } : Jvm.MethodName) prog_36_method_3_code (1 : Nat) (Option.some Jvm.ClassFile.FieldType.int)) ∈ lw_all := lw_g (lw_at lw_m3 221 rfl) rfl
theorem q815 : (Jvm.Cond.constant "java/lang/StringUTF16" (20 : Nat) (1073741823 : Int32)) ∈ lw_all := lw_g (lw_at lw_m3 222 rfl) rfl
theorem q816 : (Jvm.Cond.fieldLink "java/lang/AbstractStringBuilder" (15 : Nat) "java/lang/AbstractStringBuilder" "value" "[B") ∈ lw_all := lw_g (lw_at lw_m3 223 rfl) rfl
theorem q817 : (Jvm.Cond.fieldLink "java/lang/AbstractStringBuilder" (22 : Nat) "java/lang/AbstractStringBuilder" "coder" "B") ∈ lw_all := lw_g (lw_at lw_m3 224 rfl) rfl
theorem q818 : (Jvm.Cond.fieldLink "java/lang/String" (1048 : Nat) "java/lang/AbstractStringBuilder" "maybeLatin1" "Z") ∈ lw_all := lw_g (lw_at lw_m3 225 rfl) rfl
theorem q819 : (Jvm.Cond.fieldLink "java/lang/AbstractStringBuilder" (79 : Nat) "java/lang/AbstractStringBuilder" "count" "I") ∈ lw_all := lw_g (lw_at lw_m3 226 rfl) rfl
theorem q820 : (Jvm.Cond.lays "java/lang/StringBuilder" "java/lang/AbstractStringBuilder" "value" "[B") ∈ lw_all := lw_g (lw_at lw_m3 227 rfl) rfl
theorem q821 : (Jvm.Cond.soleField "java/lang/AbstractStringBuilder" "value") ∈ lw_all := lw_g (lw_at lw_m3 228 rfl) rfl
theorem q822 : (Jvm.Cond.lays "java/lang/StringBuilder" "java/lang/AbstractStringBuilder" "coder" "B") ∈ lw_all := lw_g (lw_at lw_m3 229 rfl) rfl
theorem q823 : (Jvm.Cond.soleField "java/lang/AbstractStringBuilder" "coder") ∈ lw_all := lw_g (lw_at lw_m3 230 rfl) rfl
theorem q824 : (Jvm.Cond.lays "java/lang/StringBuilder" "java/lang/AbstractStringBuilder" "maybeLatin1" "Z") ∈ lw_all := lw_g (lw_at lw_m3 231 rfl) rfl
theorem q825 : (Jvm.Cond.soleField "java/lang/AbstractStringBuilder" "maybeLatin1") ∈ lw_all := lw_g (lw_at lw_m3 232 rfl) rfl
theorem q826 : (Jvm.Cond.lays "java/lang/StringBuilder" "java/lang/AbstractStringBuilder" "count" "I") ∈ lw_all := lw_g (lw_at lw_m3 233 rfl) rfl
theorem q827 : (Jvm.Cond.soleField "java/lang/AbstractStringBuilder" "count") ∈ lw_all := lw_g (lw_at lw_m3 234 rfl) rfl
theorem q828 : (Jvm.Cond.superclass "java/lang/StringBuilder" "java/lang/AbstractStringBuilder") ∈ lw_all := lw_g (lw_at lw_m3 235 rfl) rfl
theorem q829 : (Jvm.Cond.methodLink "ThreadTown$Tokens" (108 : Nat) ({ cls := "java/lang/StringBuilder", name := "append", desc := "(C)Ljava/lang/StringBuilder;" } : Jvm.MethodName)) ∈ lw_all := lw_g (lw_at lw_m3 236 rfl) rfl
theorem q830 : (Jvm.Cond.instanceMethod ({ cls := "java/lang/StringBuilder", name := "append", desc := "(C)Ljava/lang/StringBuilder;" } : Jvm.MethodName)) ∈ lw_all := lw_g (lw_at lw_m3 237 rfl) rfl
theorem q831 : (Jvm.Cond.selects "java/lang/StringBuilder" ({ cls := "java/lang/StringBuilder", name := "append", desc := "(C)Ljava/lang/StringBuilder;" } : Jvm.MethodName) ({ cls := "java/lang/StringBuilder", name := "append", desc := "(C)Ljava/lang/StringBuilder;" } : Jvm.MethodName)) ∈ lw_all := lw_g (lw_at lw_m3 238 rfl) rfl
theorem q832 : (Jvm.Cond.code ({ cls := "java/lang/StringBuilder", name := "append", desc := "(C)Ljava/lang/StringBuilder;" } : Jvm.MethodName) prog_34_method_14_code (2 : Nat) (Option.some (Jvm.ClassFile.FieldType.object "java/lang/StringBuilder"))) ∈ lw_all := lw_g (lw_at lw_m3 239 rfl) rfl
theorem q833 : (Jvm.Cond.methodLink "java/lang/StringBuilder" (50 : Nat) ({ cls := "java/lang/AbstractStringBuilder", name := "append", desc := "(C)Ljava/lang/AbstractStringBuilder;" } : Jvm.MethodName)) ∈ lw_all := lw_g (lw_at lw_m4 0 rfl) rfl
theorem q834 : (Jvm.Cond.instanceMethod ({ cls := "java/lang/AbstractStringBuilder", name := "append", desc := "(C)Ljava/lang/AbstractStringBuilder;" } : Jvm.MethodName)) ∈ lw_all := lw_g (lw_at lw_m4 1 rfl) rfl
theorem q835 : (Jvm.Cond.code ({ cls := "java/lang/AbstractStringBuilder", name := "append", desc := "(C)Ljava/lang/AbstractStringBuilder;" } : Jvm.MethodName) prog_23_method_31_code (2 : Nat) (Option.some (Jvm.ClassFile.FieldType.object "java/lang/AbstractStringBuilder"))) ∈ lw_all := lw_g (lw_at lw_m4 2 rfl) rfl
theorem q836 : (Jvm.Cond.methodLink "java/lang/AbstractStringBuilder" (100 : Nat) ({ cls := "java/lang/AbstractStringBuilder", name := "ensureCapacityInternal", desc := "(I)V" } : Jvm.MethodName)) ∈ lw_all := lw_g (lw_at lw_m4 3 rfl) rfl
theorem q837 : (Jvm.Cond.privateMethod ({ cls := "java/lang/AbstractStringBuilder", name := "ensureCapacityInternal", desc := "(I)V" } : Jvm.MethodName)) ∈ lw_tbl := lw_at lw_m4 4 rfl
theorem q838 : (Jvm.Cond.instanceMethod ({ cls := "java/lang/AbstractStringBuilder", name := "ensureCapacityInternal", desc := "(I)V" } : Jvm.MethodName)) ∈ lw_all := lw_g (lw_at lw_m4 5 rfl) rfl
theorem q839 : (Jvm.Cond.code ({ cls := "java/lang/AbstractStringBuilder", name := "ensureCapacityInternal", desc := "(I)V" } : Jvm.MethodName) prog_23_method_9_code (3 : Nat) (Option.none : Option Jvm.ClassFile.FieldType)) ∈ lw_all := lw_g (lw_at lw_m4 6 rfl) rfl
theorem q840 : (Jvm.Cond.methodLink "java/lang/AbstractStringBuilder" (104 : Nat) ({ cls := "java/lang/AbstractStringBuilder", name := "newCapacity", desc := "(I)I" } : Jvm.MethodName)) ∈ lw_all := lw_g (lw_at lw_m4 7 rfl) rfl
theorem q841 : (Jvm.Cond.privateMethod ({ cls := "java/lang/AbstractStringBuilder", name := "newCapacity", desc := "(I)I" } : Jvm.MethodName)) ∈ lw_tbl := lw_at lw_m4 8 rfl
theorem q842 : (Jvm.Cond.instanceMethod ({ cls := "java/lang/AbstractStringBuilder", name := "newCapacity", desc := "(I)I" } : Jvm.MethodName)) ∈ lw_all := lw_g (lw_at lw_m4 9 rfl) rfl
theorem q843 : (Jvm.Cond.code ({ cls := "java/lang/AbstractStringBuilder", name := "newCapacity", desc := "(I)I" } : Jvm.MethodName) prog_23_method_10_code (6 : Nat) (Option.some Jvm.ClassFile.FieldType.int)) ∈ lw_all := lw_g (lw_at lw_m4 10 rfl) rfl
theorem q844 : (Jvm.Cond.methodLink "java/lang/AbstractStringBuilder" (114 : Nat) ({ cls := "jdk/internal/util/ArraysSupport", name := "newLength", desc := "(III)I" } : Jvm.MethodName)) ∈ lw_all := lw_g (lw_at lw_m4 11 rfl) rfl
theorem q845 : (Jvm.Cond.static ({ cls := "jdk/internal/util/ArraysSupport", name := "newLength", desc := "(III)I" } : Jvm.MethodName)) ∈ lw_all := lw_g (lw_at lw_m4 12 rfl) rfl
theorem q846 : (Jvm.Cond.code ({ cls := "jdk/internal/util/ArraysSupport", name := "newLength", desc := "(III)I" } : Jvm.MethodName) prog_50_method_27_code (4 : Nat) (Option.some Jvm.ClassFile.FieldType.int)) ∈ lw_all := lw_g (lw_at lw_m4 13 rfl) rfl
theorem q847 : (Jvm.Cond.methodLink "jdk/internal/util/ArraysSupport" (194 : Nat) ({ cls := "java/lang/Math", name := "max", desc := "(II)I" } : Jvm.MethodName)) ∈ lw_all := lw_g (lw_at lw_m4 14 rfl) rfl
theorem q848 : (Jvm.Cond.constant "jdk/internal/util/ArraysSupport" (200 : Nat) (2147483639 : Int32)) ∈ lw_all := lw_g (lw_at lw_m4 15 rfl) rfl
theorem q849 : (Jvm.Cond.methodLink "jdk/internal/util/ArraysSupport" (201 : Nat) ({ cls := "jdk/internal/util/ArraysSupport", name := "hugeLength", desc := "(II)I" } : Jvm.MethodName)) ∈ lw_all := lw_g (lw_at lw_m4 16 rfl) rfl
theorem q850 : (Jvm.Cond.static ({ cls := "jdk/internal/util/ArraysSupport", name := "hugeLength", desc := "(II)I" } : Jvm.MethodName)) ∈ lw_all := lw_g (lw_at lw_m4 17 rfl) rfl
theorem q851 : (Jvm.Cond.code ({ cls := "jdk/internal/util/ArraysSupport", name := "hugeLength", desc := "(II)I" } : Jvm.MethodName) prog_50_method_28_code (3 : Nat) (Option.some Jvm.ClassFile.FieldType.int)) ∈ lw_all := lw_g (lw_at lw_m4 18 rfl) rfl
theorem q852 : (Jvm.Cond.constant "java/lang/AbstractStringBuilder" (39 : Nat) (2147483647 : Int32)) ∈ lw_all := lw_g (lw_at lw_m4 19 rfl) rfl
theorem q853 : (Jvm.Cond.methodLink "java/lang/AbstractStringBuilder" (108 : Nat) ({ cls := "java/util/Arrays", name := "copyOf", desc := "([BI)[B" } : Jvm.MethodName)) ∈ lw_all := lw_g (lw_at lw_m4 20 rfl) rfl
theorem q854 : (Jvm.Cond.static ({ cls := "java/util/Arrays", name := "copyOf", desc := "([BI)[B" } : Jvm.MethodName)) ∈ lw_all := lw_g (lw_at lw_m4 21 rfl) rfl
theorem q855 : (Jvm.Cond.code ({ cls := "java/util/Arrays", name := "copyOf", desc := "([BI)[B" } : Jvm.MethodName) prog_44_method_121_code (3 : Nat) (Option.some (Jvm.ClassFile.FieldType.array Jvm.ClassFile.FieldType.byte))) ∈ lw_all := lw_g (lw_at lw_m4 22 rfl) rfl
theorem q856 : (Jvm.Cond.methodLink "java/util/Arrays" (310 : Nat) ({ cls := "[B", name := "clone", desc := "()Ljava/lang/Object;" } : Jvm.MethodName)) ∈ lw_all := lw_g (lw_at lw_m4 23 rfl) rfl
theorem q857 : (Jvm.Cond.sameMethod "[B" "java/lang/Object" "clone" "()Ljava/lang/Object;") ∈ lw_all := lw_g (lw_at lw_m4 24 rfl) rfl
theorem q858 : (Jvm.Cond.native ({ cls := "java/lang/Object", name := "clone", desc := "()Ljava/lang/Object;" } : Jvm.MethodName)) ∈ lw_all := lw_g (lw_at lw_m4 25 rfl) rfl
theorem q859 : (Jvm.Cond.instanceMethod ({ cls := "java/lang/Object", name := "clone", desc := "()Ljava/lang/Object;" } : Jvm.MethodName)) ∈ lw_all := lw_g (lw_at lw_m4 26 rfl) rfl
theorem q860 : (Jvm.Cond.selects "[B" ({ cls := "[B", name := "clone", desc := "()Ljava/lang/Object;" } : Jvm.MethodName) ({ cls := "java/lang/Object", name := "clone", desc := "()Ljava/lang/Object;" } : Jvm.MethodName)) ∈ lw_all := lw_g (lw_at lw_m4 27 rfl) rfl
theorem q861 : (Jvm.Cond.castable "[B" "java/lang/Cloneable") ∈ lw_tbl := lw_at lw_m4 28 rfl
theorem q862 : (Jvm.Cond.classLink "java/util/Arrays" (311 : Nat) "[B") ∈ lw_all := lw_g (lw_at lw_m4 29 rfl) rfl
theorem q863 : (Jvm.Cond.methodLink "java/util/Arrays" (304 : Nat) ({ cls := "java/lang/Math", name := "min", desc := "(II)I" } : Jvm.MethodName)) ∈ lw_all := lw_g (lw_at lw_m4 30 rfl) rfl
theorem q864 : (Jvm.Cond.methodLink "java/util/Arrays" (150 : Nat) ({ cls := "java/lang/System", name := "arraycopy", desc := "(Ljava/lang/Object;ILjava/lang/Object;II)V" } : Jvm.MethodName)) ∈ lw_all := lw_g (lw_at lw_m4 31 rfl) rfl
theorem q865 : (Jvm.Cond.static ({ cls := "java/lang/System", name := "arraycopy", desc := "(Ljava/lang/Object;ILjava/lang/Object;II)V" } : Jvm.MethodName)) ∈ lw_all := lw_g (lw_at lw_m4 32 rfl) rfl
theorem q866 : (Jvm.Cond.native ({ cls := "java/lang/System", name := "arraycopy", desc := "(Ljava/lang/Object;ILjava/lang/Object;II)V" } : Jvm.MethodName)) ∈ lw_all := lw_g (lw_at lw_m4 33 rfl) rfl
theorem q867 : (Jvm.Cond.methodLink "java/lang/AbstractStringBuilder" (83 : Nat) ({ cls := "java/lang/AbstractStringBuilder", name := "isLatin1", desc := "()Z" } : Jvm.MethodName)) ∈ lw_all := lw_g (lw_at lw_m4 34 rfl) rfl
theorem q868 : (Jvm.Cond.instanceMethod ({ cls := "java/lang/AbstractStringBuilder", name := "isLatin1", desc := "()Z" } : Jvm.MethodName)) ∈ lw_all := lw_g (lw_at lw_m4 35 rfl) rfl
theorem q869 : (Jvm.Cond.sameMethod "java/lang/AbstractStringBuilder" "java/lang/AbstractStringBuilder" "isLatin1" "()Z") ∈ lw_all := lw_g (lw_at lw_m4 36 rfl) rfl
theorem q870 : (Jvm.Cond.selects "java/lang/StringBuilder" ({ cls := "java/lang/AbstractStringBuilder", name := "isLatin1", desc := "()Z" } : Jvm.MethodName) ({ cls := "java/lang/AbstractStringBuilder", name := "isLatin1", desc := "()Z" } : Jvm.MethodName)) ∈ lw_all := lw_g (lw_at lw_m4 37 rfl) rfl
theorem q871 : (Jvm.Cond.code ({ cls := "java/lang/AbstractStringBuilder", name := "isLatin1", desc := "()Z" } : Jvm.MethodName) prog_23_method_68_code (1 : Nat) (Option.some Jvm.ClassFile.FieldType.boolean)) ∈ lw_all := lw_g (lw_at lw_m4 38 rfl) rfl
theorem q872 : (Jvm.Cond.methodLink "java/lang/AbstractStringBuilder" (191 : Nat) ({ cls := "java/lang/StringLatin1", name := "canEncode", desc := "(C)Z" } : Jvm.MethodName)) ∈ lw_all := lw_g (lw_at lw_m4 39 rfl) rfl
theorem q873 : (Jvm.Cond.static ({ cls := "java/lang/StringLatin1", name := "canEncode", desc := "(C)Z" } : Jvm.MethodName)) ∈ lw_all := lw_g (lw_at lw_m4 40 rfl) rfl
theorem q874 : (Jvm.Cond.code ({ cls := "java/lang/StringLatin1", name := "canEncode", desc := "(C)Z" } : Jvm.MethodName) prog_35_method_3_code (1 : Nat) (Option.some Jvm.ClassFile.FieldType.boolean)) ∈ lw_all := lw_g (lw_at lw_m4 41 rfl) rfl
theorem q875 : (Jvm.Cond.methodLink "java/lang/AbstractStringBuilder" (195 : Nat) ({ cls := "java/lang/AbstractStringBuilder", name := "inflate", desc := "()V" } : Jvm.MethodName)) ∈ lw_all := lw_g (lw_at lw_m4 42 rfl) rfl
theorem q876 : (Jvm.Cond.privateMethod ({ cls := "java/lang/AbstractStringBuilder", name := "inflate", desc := "()V" } : Jvm.MethodName)) ∈ lw_tbl := lw_at lw_m4 43 rfl
theorem q877 : (Jvm.Cond.instanceMethod ({ cls := "java/lang/AbstractStringBuilder", name := "inflate", desc := "()V" } : Jvm.MethodName)) ∈ lw_all := lw_g (lw_at lw_m4 44 rfl) rfl
theorem q878 : (Jvm.Cond.code ({ cls := "java/lang/AbstractStringBuilder", name := "inflate", desc := "()V" } : Jvm.MethodName) prog_23_method_11_code (2 : Nat) (Option.none : Option Jvm.ClassFile.FieldType)) ∈ lw_all := lw_g (lw_at lw_m4 45 rfl) rfl
theorem q879 : (Jvm.Cond.methodLink "java/lang/AbstractStringBuilder" (125 : Nat) ({ cls := "java/lang/StringLatin1", name := "inflate", desc := "([BI[BII)V" } : Jvm.MethodName)) ∈ lw_all := lw_g (lw_at lw_m4 46 rfl) rfl
theorem q880 : (Jvm.Cond.static ({ cls := "java/lang/StringLatin1", name := "inflate", desc := "([BI[BII)V" } : Jvm.MethodName)) ∈ lw_all := lw_g (lw_at lw_m4 47 rfl) rfl
theorem q881 : (Jvm.Cond.code ({ cls := "java/lang/StringLatin1", name := "inflate", desc := "([BI[BII)V" } : Jvm.MethodName) prog_35_method_50_code (5 : Nat) (Option.none : Option Jvm.ClassFile.FieldType)) ∈ lw_all := lw_g (lw_at lw_m4 48 rfl) rfl
theorem q882 : (Jvm.Cond.methodLink "java/lang/StringLatin1" (240 : Nat) ({ cls := "java/lang/StringUTF16", name := "inflate", desc := "([BI[BII)V" } : Jvm.MethodName)) ∈ lw_all := lw_g (lw_at lw_m4 49 rfl) rfl
theorem q883 : (Jvm.Cond.static ({ cls := "java/lang/StringUTF16", name := "inflate", desc := "([BI[BII)V" } : Jvm.MethodName)) ∈ lw_all := lw_g (lw_at lw_m4 50 rfl) rfl
theorem q884 : (Jvm.Cond.code ({ cls := "java/lang/StringUTF16", name := "inflate", desc := "([BI[BII)V" } : Jvm.MethodName) prog_36_method_86_code (6 : Nat) (Option.none : Option Jvm.ClassFile.FieldType)) ∈ lw_all := lw_g (lw_at lw_m4 51 rfl) rfl
theorem q885 : (Jvm.Cond.methodLink "java/lang/StringUTF16" (173 : Nat) ({ cls := "java/lang/StringUTF16", name := "checkBoundsOffCount", desc := "(II[B)V" } : Jvm.MethodName)) ∈ lw_all := lw_g (lw_at lw_m4 52 rfl) rfl
theorem q886 : (Jvm.Cond.static ({ cls := "java/lang/StringUTF16", name := "checkBoundsOffCount", desc := "(II[B)V" } : Jvm.MethodName)) ∈ lw_all := lw_g (lw_at lw_m4 53 rfl) rfl
theorem q887 : (Jvm.Cond.code ({ cls := "java/lang/StringUTF16", name := "checkBoundsOffCount", desc := "(II[B)V" } : Jvm.MethodName) prog_36_method_94_code (3 : Nat) (Option.none : Option Jvm.ClassFile.FieldType)) ∈ lw_all := lw_g (lw_at lw_m4 54 rfl) rfl
theorem q888 : (Jvm.Cond.methodLink "java/lang/StringUTF16" (419 : Nat) ({ cls := "java/lang/String", name := "checkBoundsOffCount", desc := "(III)I" } : Jvm.MethodName)) ∈ lw_all := lw_g (lw_at lw_m4 55 rfl) rfl
theorem q889 : (Jvm.Cond.static ({ cls := "java/lang/String", name := "checkBoundsOffCount", desc := "(III)I" } : Jvm.MethodName)) ∈ lw_all := lw_g (lw_at lw_m4 56 rfl) rfl
theorem q890 : (Jvm.Cond.code ({ cls := "java/lang/String", name := "checkBoundsOffCount", desc := "(III)I" } : Jvm.MethodName) prog_33_method_157_code (3 : Nat) (Option.some Jvm.ClassFile.FieldType.int)) ∈ lw_all := lw_g (lw_at lw_m4 57 rfl) rfl
theorem q891 : (Jvm.Cond.methodLink "java/lang/String" (1065 : Nat) ({ cls := "jdk/internal/util/Preconditions", name := "checkFromIndexSize", desc := "(IIILjava/util/function/BiFunction;)I" } : Jvm.MethodName)) ∈ lw_all := lw_g (lw_at lw_m4 58 rfl) rfl
theorem q892 : (Jvm.Cond.static ({ cls := "jdk/internal/util/Preconditions", name := "checkFromIndexSize", desc := "(IIILjava/util/function/BiFunction;)I" } : Jvm.MethodName)) ∈ lw_all := lw_g (lw_at lw_m4 59 rfl) rfl
theorem q893 : (Jvm.Cond.code ({ cls := "jdk/internal/util/Preconditions", name := "checkFromIndexSize", desc := "(IIILjava/util/function/BiFunction;)I" } : Jvm.MethodName) prog_51_method_13_code (4 : Nat) (Option.some Jvm.ClassFile.FieldType.int)) ∈ lw_all := lw_g (lw_at lw_m4 60 rfl) rfl
theorem q894 : (Jvm.Cond.methodLink "java/lang/StringUTF16" (111 : Nat) ({ cls := "java/lang/StringUTF16", name := "putChar", desc := "([BII)V" } : Jvm.MethodName)) ∈ lw_all := lw_g (lw_at lw_m4 61 rfl) rfl
theorem q895 : (Jvm.Cond.static ({ cls := "java/lang/StringUTF16", name := "putChar", desc := "([BII)V" } : Jvm.MethodName)) ∈ lw_all := lw_g (lw_at lw_m4 62 rfl) rfl
theorem q896 : (Jvm.Cond.code ({ cls := "java/lang/StringUTF16", name := "putChar", desc := "([BII)V" } : Jvm.MethodName) prog_36_method_4_code (3 : Nat) (Option.none : Option Jvm.ClassFile.FieldType)) ∈ lw_all := lw_g (lw_at lw_m4 63 rfl) rfl
theorem q897 : (Jvm.Cond.methodLink "java/lang/AbstractStringBuilder" (197 : Nat) ({ cls := "java/lang/StringUTF16", name := "putCharSB", desc := "([BII)V" } : Jvm.MethodName)) ∈ lw_all := lw_g (lw_at lw_m4 64 rfl) rfl
theorem q898 : (Jvm.Cond.static ({ cls := "java/lang/StringUTF16", name := "putCharSB", desc := "([BII)V" } : Jvm.MethodName)) ∈ lw_all := lw_g (lw_at lw_m4 65 rfl) rfl
theorem q899 : (Jvm.Cond.code ({ cls := "java/lang/StringUTF16", name := "putCharSB", desc := "([BII)V" } : Jvm.MethodName) prog_36_method_71_code (3 : Nat) (Option.none : Option Jvm.ClassFile.FieldType)) ∈ lw_all := lw_g (lw_at lw_m4 66 rfl) rfl
theorem q900 : (Jvm.Cond.methodLink "ThreadTown$Tokens" (112 : Nat) ({ cls := "java/lang/StringBuilder", name := "toString", desc := "()Ljava/lang/String;" } : Jvm.MethodName)) ∈ lw_all := lw_g (lw_at lw_m4 67 rfl) rfl
theorem q901 : (Jvm.Cond.instanceMethod ({ cls := "java/lang/StringBuilder", name := "toString", desc := "()Ljava/lang/String;" } : Jvm.MethodName)) ∈ lw_all := lw_g (lw_at lw_m4 68 rfl) rfl
theorem q902 : (Jvm.Cond.selects "java/lang/StringBuilder" ({ cls := "java/lang/StringBuilder", name := "toString", desc := "()Ljava/lang/String;" } : Jvm.MethodName) ({ cls := "java/lang/StringBuilder", name := "toString", desc := "()Ljava/lang/String;" } : Jvm.MethodName)) ∈ lw_all := lw_g (lw_at lw_m4 69 rfl) rfl
theorem q903 : (Jvm.Cond.code ({ cls := "java/lang/StringBuilder", name := "toString", desc := "()Ljava/lang/String;" } : Jvm.MethodName) prog_34_method_42_code (1 : Nat) (Option.some (Jvm.ClassFile.FieldType.object "java/lang/String"))) ∈ lw_all := lw_g (lw_at lw_m4 70 rfl) rfl
theorem q904 : (Jvm.Cond.classLink "java/lang/StringBuilder" (18 : Nat) "java/lang/String") ∈ lw_all := lw_g (lw_at lw_m4 71 rfl) rfl
theorem q905 : (Jvm.Cond.instantiable "java/lang/String" (4 : Nat)) ∈ lw_all := lw_g (lw_at lw_m4 72 rfl) rfl
theorem q906 : (Jvm.Cond.methodLink "java/lang/StringBuilder" (137 : Nat) ({ cls := "java/lang/String", name := "<init>", desc := "(Ljava/lang/StringBuilder;)V" } : Jvm.MethodName)) ∈ lw_all := lw_g (lw_at lw_m4 73 rfl) rfl
theorem q907 : (Jvm.Cond.instanceMethod ({ cls := "java/lang/String", name := "<init>", desc := "(Ljava/lang/StringBuilder;)V" } : Jvm.MethodName)) ∈ lw_all := lw_g (lw_at lw_m4 74 rfl) rfl
theorem q908 : (Jvm.Cond.code ({ cls := "java/lang/String", name := "<init>", desc := "(Ljava/lang/StringBuilder;)V" } : Jvm.MethodName) prog_33_method_53_code (2 : Nat) (Option.none : Option Jvm.ClassFile.FieldType)) ∈ lw_all := lw_g (lw_at lw_m4 75 rfl) rfl
theorem q909 : (Jvm.Cond.methodLink "java/lang/String" (489 : Nat) ({ cls := "java/lang/String", name := "<init>", desc := "(Ljava/lang/AbstractStringBuilder;Ljava/lang/Void;)V" } : Jvm.MethodName)) ∈ lw_all := lw_g (lw_at lw_m4 76 rfl) rfl
theorem q910 : (Jvm.Cond.instanceMethod ({ cls := "java/lang/String", name := "<init>", desc := "(Ljava/lang/AbstractStringBuilder;Ljava/lang/Void;)V" } : Jvm.MethodName)) ∈ lw_all := lw_g (lw_at lw_m4 77 rfl) rfl
theorem q911 : (Jvm.Cond.code ({ cls := "java/lang/String", name := "<init>", desc := "(Ljava/lang/AbstractStringBuilder;Ljava/lang/Void;)V" } : Jvm.MethodName) prog_33_method_150_code (5 : Nat) (Option.none : Option Jvm.ClassFile.FieldType)) ∈ lw_all := lw_g (lw_at lw_m4 78 rfl) rfl
theorem q912 : (Jvm.Cond.methodLink "java/lang/String" (1 : Nat) ({ cls := "java/lang/Object", name := "<init>", desc := "()V" } : Jvm.MethodName)) ∈ lw_all := lw_g (lw_at lw_m4 79 rfl) rfl
theorem q913 : (Jvm.Cond.methodLink "java/lang/String" (552 : Nat) ({ cls := "java/lang/AbstractStringBuilder", name := "getValue", desc := "()[B" } : Jvm.MethodName)) ∈ lw_all := lw_g (lw_at lw_m4 80 rfl) rfl
theorem q914 : (Jvm.Cond.instanceMethod ({ cls := "java/lang/AbstractStringBuilder", name := "getValue", desc := "()[B" } : Jvm.MethodName)) ∈ lw_all := lw_g (lw_at lw_m4 81 rfl) rfl
theorem q915 : (Jvm.Cond.sameMethod "java/lang/AbstractStringBuilder" "java/lang/AbstractStringBuilder" "getValue" "()[B") ∈ lw_all := lw_g (lw_at lw_m4 82 rfl) rfl
theorem q916 : (Jvm.Cond.selects "java/lang/StringBuilder" ({ cls := "java/lang/AbstractStringBuilder", name := "getValue", desc := "()[B" } : Jvm.MethodName) ({ cls := "java/lang/AbstractStringBuilder", name := "getValue", desc := "()[B" } : Jvm.MethodName)) ∈ lw_all := lw_g (lw_at lw_m4 83 rfl) rfl
theorem q917 : (Jvm.Cond.code ({ cls := "java/lang/AbstractStringBuilder", name := "getValue", desc := "()[B" } : Jvm.MethodName) prog_23_method_64_code (1 : Nat) (Option.some (Jvm.ClassFile.FieldType.array Jvm.ClassFile.FieldType.byte))) ∈ lw_all := lw_g (lw_at lw_m4 84 rfl) rfl
theorem q918 : (Jvm.Cond.methodLink "java/lang/String" (549 : Nat) ({ cls := "java/lang/AbstractStringBuilder", name := "length", desc := "()I" } : Jvm.MethodName)) ∈ lw_all := lw_g (lw_at lw_m4 85 rfl) rfl
theorem q919 : (Jvm.Cond.instanceMethod ({ cls := "java/lang/AbstractStringBuilder", name := "length", desc := "()I" } : Jvm.MethodName)) ∈ lw_all := lw_g (lw_at lw_m4 86 rfl) rfl
theorem q920 : (Jvm.Cond.sameMethod "java/lang/AbstractStringBuilder" "java/lang/AbstractStringBuilder" "length" "()I") ∈ lw_all := lw_g (lw_at lw_m4 87 rfl) rfl
theorem q921 : (Jvm.Cond.selects "java/lang/StringBuilder" ({ cls := "java/lang/AbstractStringBuilder", name := "length", desc := "()I" } : Jvm.MethodName) ({ cls := "java/lang/StringBuilder", name := "length", desc := "()I" } : Jvm.MethodName)) ∈ lw_all := lw_g (lw_at lw_m4 88 rfl) rfl
theorem q922 : (Jvm.Cond.instanceMethod ({ cls := "java/lang/StringBuilder", name := "length", desc := "()I" } : Jvm.MethodName)) ∈ lw_all := lw_g (lw_at lw_m4 89 rfl) rfl
theorem q923 : (Jvm.Cond.code ({ cls := "java/lang/StringBuilder", name := "length", desc := "()I" } : Jvm.MethodName) prog_34_method_93_code (1 : Nat) (Option.some Jvm.ClassFile.FieldType.int)) ∈ lw_all := lw_g (lw_at lw_m4 90 rfl) rfl
theorem q924 : (Jvm.Cond.methodLink "java/lang/StringBuilder" (343 : Nat) ({ cls := "java/lang/AbstractStringBuilder", name := "length", desc := "()I" } : Jvm.MethodName)) ∈ lw_all := lw_g (lw_at lw_m4 91 rfl) rfl
theorem q925 : (Jvm.Cond.code ({ cls := "java/lang/AbstractStringBuilder", name := "length", desc := "()I" } : Jvm.MethodName) prog_23_method_6_code (1 : Nat) (Option.some Jvm.ClassFile.FieldType.int)) ∈ lw_all := lw_g (lw_at lw_m4 92 rfl) rfl
theorem q926 : (Jvm.Cond.methodLink "java/lang/String" (1047 : Nat) ({ cls := "java/lang/AbstractStringBuilder", name := "isLatin1", desc := "()Z" } : Jvm.MethodName)) ∈ lw_all := lw_g (lw_at lw_m4 93 rfl) rfl
theorem q927 : (Jvm.Cond.methodLink "java/lang/String" (54 : Nat) ({ cls := "java/util/Arrays", name := "copyOfRange", desc := "([BII)[B" } : Jvm.MethodName)) ∈ lw_all := lw_g (lw_at lw_m4 94 rfl) rfl
theorem q928 : (Jvm.Cond.static ({ cls := "java/util/Arrays", name := "copyOfRange", desc := "([BII)[B" } : Jvm.MethodName)) ∈ lw_all := lw_g (lw_at lw_m4 95 rfl) rfl
theorem q929 : (Jvm.Cond.code ({ cls := "java/util/Arrays", name := "copyOfRange", desc := "([BII)[B" } : Jvm.MethodName) prog_44_method_132_code (3 : Nat) (Option.some (Jvm.ClassFile.FieldType.array Jvm.ClassFile.FieldType.byte))) ∈ lw_all := lw_g (lw_at lw_m4 96 rfl) rfl
theorem q930 : (Jvm.Cond.methodLink "java/util/Arrays" (339 : Nat) ({ cls := "java/util/Arrays", name := "copyOfRangeByte", desc := "([BII)[B" } : Jvm.MethodName)) ∈ lw_all := lw_g (lw_at lw_m4 97 rfl) rfl
theorem q931 : (Jvm.Cond.static ({ cls := "java/util/Arrays", name := "copyOfRangeByte", desc := "([BII)[B" } : Jvm.MethodName)) ∈ lw_all := lw_g (lw_at lw_m4 98 rfl) rfl
theorem q932 : (Jvm.Cond.code ({ cls := "java/util/Arrays", name := "copyOfRangeByte", desc := "([BII)[B" } : Jvm.MethodName) prog_44_method_133_code (5 : Nat) (Option.some (Jvm.ClassFile.FieldType.array Jvm.ClassFile.FieldType.byte))) ∈ lw_all := lw_g (lw_at lw_m4 99 rfl) rfl
theorem q933 : (Jvm.Cond.methodLink "java/util/Arrays" (343 : Nat) ({ cls := "java/util/Arrays", name := "checkLength", desc := "(II)V" } : Jvm.MethodName)) ∈ lw_all := lw_g (lw_at lw_m4 100 rfl) rfl
theorem q934 : (Jvm.Cond.static ({ cls := "java/util/Arrays", name := "checkLength", desc := "(II)V" } : Jvm.MethodName)) ∈ lw_all := lw_g (lw_at lw_m4 101 rfl) rfl
theorem q935 : (Jvm.Cond.code ({ cls := "java/util/Arrays", name := "checkLength", desc := "(II)V" } : Jvm.MethodName) prog_44_method_131_code (2 : Nat) (Option.none : Option Jvm.ClassFile.FieldType)) ∈ lw_all := lw_g (lw_at lw_m4 102 rfl) rfl
theorem q936 : (Jvm.Cond.methodLink "java/lang/String" (1051 : Nat) ({ cls := "java/lang/StringUTF16", name := "compress", desc := "([BII)[B" } : Jvm.MethodName)) ∈ lw_all := lw_g (lw_at lw_m4 103 rfl) rfl
theorem q937 : (Jvm.Cond.static ({ cls := "java/lang/StringUTF16", name := "compress", desc := "([BII)[B" } : Jvm.MethodName)) ∈ lw_all := lw_g (lw_at lw_m4 104 rfl) rfl
theorem q938 : (Jvm.Cond.code ({ cls := "java/lang/StringUTF16", name := "compress", desc := "([BII)[B" } : Jvm.MethodName) prog_36_method_17_code (6 : Nat) (Option.some (Jvm.ClassFile.FieldType.array Jvm.ClassFile.FieldType.byte))) ∈ lw_all := lw_g (lw_at lw_m4 105 rfl) rfl
theorem q939 : (Jvm.Cond.methodLink "java/lang/StringUTF16" (123 : Nat) ({ cls := "java/lang/StringUTF16", name := "compress", desc := "([BI[BII)I" } : Jvm.MethodName)) ∈ lw_all := lw_g (lw_at lw_m4 106 rfl) rfl
theorem q940 : (Jvm.Cond.static ({ cls := "java/lang/StringUTF16", name := "compress", desc := "([BI[BII)I" } : Jvm.MethodName)) ∈ lw_all := lw_g (lw_at lw_m4 107 rfl) rfl
theorem q941 : (Jvm.Cond.code ({ cls := "java/lang/StringUTF16", name := "compress", desc := "([BI[BII)I" } : Jvm.MethodName) prog_36_method_22_code (7 : Nat) (Option.some Jvm.ClassFile.FieldType.int)) ∈ lw_all := lw_g (lw_at lw_m4 108 rfl) rfl
theorem q942 : (Jvm.Cond.methodLink "java/lang/StringUTF16" (126 : Nat) ({ cls := "java/util/Arrays", name := "copyOfRange", desc := "([BII)[B" } : Jvm.MethodName)) ∈ lw_all := lw_g (lw_at lw_m4 109 rfl) rfl
theorem q943 : (Jvm.Cond.methodLink "java/lang/String" (47 : Nat) ({ cls := "java/lang/StringUTF16", name := "coderFromArrayLen", desc := "([BI)B" } : Jvm.MethodName)) ∈ lw_all := lw_g (lw_at lw_m4 110 rfl) rfl
theorem q944 : (Jvm.Cond.static ({ cls := "java/lang/StringUTF16", name := "coderFromArrayLen", desc := "([BI)B" } : Jvm.MethodName)) ∈ lw_all := lw_g (lw_at lw_m4 111 rfl) rfl
theorem q945 : (Jvm.Cond.code ({ cls := "java/lang/StringUTF16", name := "coderFromArrayLen", desc := "([BI)B" } : Jvm.MethodName) prog_36_method_15_code (2 : Nat) (Option.some Jvm.ClassFile.FieldType.byte)) ∈ lw_all := lw_g (lw_at lw_m4 112 rfl) rfl
theorem q946 : (Jvm.Cond.fieldLink "java/lang/String" (9 : Nat) "java/lang/String" "value" "[B") ∈ lw_all := lw_g (lw_at lw_m4 113 rfl) rfl
theorem q947 : (Jvm.Cond.fieldLink "java/lang/String" (15 : Nat) "java/lang/String" "coder" "B") ∈ lw_all := lw_g (lw_at lw_m4 114 rfl) rfl
theorem q948 : (Jvm.Cond.laysFinal "java/lang/String" "java/lang/String" "value" "[B") ∈ lw_all := lw_g (lw_at lw_m4 115 rfl) rfl
theorem q949 : (Jvm.Cond.soleField "java/lang/String" "value") ∈ lw_all := lw_g (lw_at lw_m4 116 rfl) rfl
theorem q950 : (Jvm.Cond.laysFinal "java/lang/String" "java/lang/String" "coder" "B") ∈ lw_all := lw_g (lw_at lw_m4 117 rfl) rfl
theorem q951 : (Jvm.Cond.soleField "java/lang/String" "coder") ∈ lw_all := lw_g (lw_at lw_m4 118 rfl) rfl
theorem q952 : (Jvm.Cond.lays "java/lang/String" "java/lang/String" "hash" "I") ∈ lw_all := lw_g (lw_at lw_m4 119 rfl) rfl
theorem q953 : (Jvm.Cond.soleField "java/lang/String" "hash") ∈ lw_all := lw_g (lw_at lw_m4 120 rfl) rfl
theorem q954 : (Jvm.Cond.lays "java/lang/String" "java/lang/String" "hashIsZero" "Z") ∈ lw_all := lw_g (lw_at lw_m4 121 rfl) rfl
theorem q955 : (Jvm.Cond.soleField "java/lang/String" "hashIsZero") ∈ lw_all := lw_g (lw_at lw_m4 122 rfl) rfl
theorem q956 : (Jvm.Cond.superclass "java/lang/String" "java/lang/Object") ∈ lw_all := lw_g (lw_at lw_m4 123 rfl) rfl
theorem q957 : (Jvm.Cond.methodLink "ThreadTown$Parser" (86 : Nat) ({ cls := "ThreadTown$Text", name := "has", desc := "(Ljava/lang/String;)Z" } : Jvm.MethodName)) ∈ lw_all := lw_g (lw_at lw_m4 124 rfl) rfl
theorem q958 : (Jvm.Cond.instanceMethod ({ cls := "ThreadTown$Text", name := "has", desc := "(Ljava/lang/String;)Z" } : Jvm.MethodName)) ∈ lw_all := lw_g (lw_at lw_m4 125 rfl) rfl
theorem q959 : (Jvm.Cond.selects "ThreadTown$Text" ({ cls := "ThreadTown$Text", name := "has", desc := "(Ljava/lang/String;)Z" } : Jvm.MethodName) ({ cls := "ThreadTown$Text", name := "has", desc := "(Ljava/lang/String;)Z" } : Jvm.MethodName)) ∈ lw_all := lw_g (lw_at lw_m4 126 rfl) rfl
theorem q960 : (Jvm.Cond.code ({ cls := "ThreadTown$Text", name := "has", desc := "(Ljava/lang/String;)Z" } : Jvm.MethodName) prog_17_method_3_code (2 : Nat) (Option.some Jvm.ClassFile.FieldType.boolean)) ∈ lw_all := lw_g (lw_at lw_m4 127 rfl) rfl
theorem q961 : (Jvm.Cond.methodLink "ThreadTown$Text" (61 : Nat) ({ cls := "ThreadTown$Text", name := "at", desc := "(Ljava/lang/String;)I" } : Jvm.MethodName)) ∈ lw_all := lw_g (lw_at lw_m4 128 rfl) rfl
theorem q962 : (Jvm.Cond.instanceMethod ({ cls := "ThreadTown$Text", name := "at", desc := "(Ljava/lang/String;)I" } : Jvm.MethodName)) ∈ lw_all := lw_g (lw_at lw_m4 129 rfl) rfl
theorem q963 : (Jvm.Cond.selects "ThreadTown$Text" ({ cls := "ThreadTown$Text", name := "at", desc := "(Ljava/lang/String;)I" } : Jvm.MethodName) ({ cls := "ThreadTown$Text", name := "at", desc := "(Ljava/lang/String;)I" } : Jvm.MethodName)) ∈ lw_all := lw_g (lw_at lw_m4 130 rfl) rfl
theorem q964 : (Jvm.Cond.code ({ cls := "ThreadTown$Text", name := "at", desc := "(Ljava/lang/String;)I" } : Jvm.MethodName) prog_17_method_2_code (3 : Nat) (Option.some Jvm.ClassFile.FieldType.int)) ∈ lw_all := lw_g (lw_at lw_m4 131 rfl) rfl
theorem q965 : (Jvm.Cond.methodLink "ThreadTown$Text" (41 : Nat) ({ cls := "java/util/ArrayList", name := "size", desc := "()I" } : Jvm.MethodName)) ∈ lw_all := lw_g (lw_at lw_m4 132 rfl) rfl
theorem q966 : (Jvm.Cond.methodLink "ThreadTown$Text" (45 : Nat) ({ cls := "java/util/ArrayList", name := "get", desc := "(I)Ljava/lang/Object;" } : Jvm.MethodName)) ∈ lw_all := lw_g (lw_at lw_m4 133 rfl) rfl
theorem q967 : (Jvm.Cond.classLink "ThreadTown$Text" (49 : Nat) "ThreadTown$Man") ∈ lw_all := lw_g (lw_at lw_m4 134 rfl) rfl
theorem q968 : (Jvm.Cond.methodLink "ThreadTown$Text" (55 : Nat) ({ cls := "java/lang/String", name := "equals", desc := "(Ljava/lang/Object;)Z" } : Jvm.MethodName)) ∈ lw_all := lw_g (lw_at lw_m4 135 rfl) rfl
theorem q969 : (Jvm.Cond.instanceMethod ({ cls := "java/lang/String", name := "equals", desc := "(Ljava/lang/Object;)Z" } : Jvm.MethodName)) ∈ lw_all := lw_g (lw_at lw_m4 136 rfl) rfl
theorem q970 : (Jvm.Cond.selects "java/lang/String" ({ cls := "java/lang/String", name := "equals", desc := "(Ljava/lang/Object;)Z" } : Jvm.MethodName) ({ cls := "java/lang/String", name := "equals", desc := "(Ljava/lang/Object;)Z" } : Jvm.MethodName)) ∈ lw_all := lw_g (lw_at lw_m4 137 rfl) rfl
theorem q971 : (Jvm.Cond.code ({ cls := "java/lang/String", name := "equals", desc := "(Ljava/lang/Object;)Z" } : Jvm.MethodName) prog_33_method_66_code (3 : Nat) (Option.some Jvm.ClassFile.FieldType.boolean)) ∈ lw_all := lw_g (lw_at lw_m4 138 rfl) rfl
theorem q972 : (Jvm.Cond.classLink "java/lang/String" (10 : Nat) "java/lang/String") ∈ lw_all := lw_g (lw_at lw_m4 139 rfl) rfl
theorem q973 : (Jvm.Cond.methodLink "java/lang/String" (541 : Nat) ({ cls := "java/lang/StringLatin1", name := "equals", desc := "([B[B)Z" } : Jvm.MethodName)) ∈ lw_all := lw_g (lw_at lw_m4 140 rfl) rfl
theorem q974 : (Jvm.Cond.static ({ cls := "java/lang/StringLatin1", name := "equals", desc := "([B[B)Z" } : Jvm.MethodName)) ∈ lw_all := lw_g (lw_at lw_m4 141 rfl) rfl
theorem q975 : (Jvm.Cond.code ({ cls := "java/lang/StringLatin1", name := "equals", desc := "([B[B)Z" } : Jvm.MethodName) prog_35_method_13_code (3 : Nat) (Option.some Jvm.ClassFile.FieldType.boolean)) ∈ lw_all := lw_g (lw_at lw_m4 142 rfl) rfl
theorem q976 : (Jvm.Cond.methodLink "ThreadTown$Parser" (150 : Nat) ({ cls := "ThreadTown$Man", name := "<init>", desc := "(Ljava/lang/String;)V" } : Jvm.MethodName)) ∈ lw_all := lw_g (lw_at lw_m4 143 rfl) rfl
theorem q977 : (Jvm.Cond.instanceMethod ({ cls := "ThreadTown$Man", name := "<init>", desc := "(Ljava/lang/String;)V" } : Jvm.MethodName)) ∈ lw_all := lw_g (lw_at lw_m4 144 rfl) rfl
theorem q978 : (Jvm.Cond.code ({ cls := "ThreadTown$Man", name := "<init>", desc := "(Ljava/lang/String;)V" } : Jvm.MethodName) prog_13_method_1_code (2 : Nat) (Option.none : Option Jvm.ClassFile.FieldType)) ∈ lw_all := lw_g (lw_at lw_m4 145 rfl) rfl
theorem q979 : (Jvm.Cond.methodLink "ThreadTown$Man" (3 : Nat) ({ cls := "java/lang/Object", name := "<init>", desc := "()V" } : Jvm.MethodName)) ∈ lw_all := lw_g (lw_at lw_m4 146 rfl) rfl
theorem q980 : (Jvm.Cond.fieldLink "ThreadTown$Man" (18 : Nat) "ThreadTown$Man" "name" "Ljava/lang/String;") ∈ lw_all := lw_g (lw_at lw_m4 147 rfl) rfl
theorem q981 : (Jvm.Cond.fieldLink "ThreadTown$Text" (51 : Nat) "ThreadTown$Man" "name" "Ljava/lang/String;") ∈ lw_all := lw_g (lw_at lw_m4 148 rfl) rfl
theorem q982 : (Jvm.Cond.fieldLink "ThreadTown$Man" (9 : Nat) "ThreadTown$Man" "errandX" "[I") ∈ lw_all := lw_g (lw_at lw_m4 149 rfl) rfl
theorem q983 : (Jvm.Cond.fieldLink "ThreadTown$Parser" (209 : Nat) "ThreadTown$Man" "errandX" "[I") ∈ lw_all := lw_g (lw_at lw_m4 150 rfl) rfl
theorem q984 : (Jvm.Cond.fieldLink "ThreadTown" (278 : Nat) "ThreadTown$Man" "errandX" "[I") ∈ lw_all := lw_g (lw_at lw_m4 151 rfl) rfl
theorem q985 : (Jvm.Cond.fieldLink "ThreadTown$Man" (15 : Nat) "ThreadTown$Man" "errandY" "[I") ∈ lw_all := lw_g (lw_at lw_m4 152 rfl) rfl
theorem q986 : (Jvm.Cond.fieldLink "ThreadTown$Parser" (212 : Nat) "ThreadTown$Man" "errandY" "[I") ∈ lw_all := lw_g (lw_at lw_m4 153 rfl) rfl
theorem q987 : (Jvm.Cond.fieldLink "ThreadTown" (281 : Nat) "ThreadTown$Man" "errandY" "[I") ∈ lw_all := lw_g (lw_at lw_m4 154 rfl) rfl
theorem q988 : (Jvm.Cond.fieldLink "ThreadTown$Cloth" (70 : Nat) "ThreadTown$Man" "x" "I") ∈ lw_all := lw_g (lw_at lw_m4 155 rfl) rfl
theorem q989 : (Jvm.Cond.fieldLink "ThreadTown$Parser" (153 : Nat) "ThreadTown$Man" "x" "I") ∈ lw_all := lw_g (lw_at lw_m4 156 rfl) rfl
theorem q990 : (Jvm.Cond.fieldLink "ThreadTown" (204 : Nat) "ThreadTown$Man" "x" "I") ∈ lw_all := lw_g (lw_at lw_m4 157 rfl) rfl
theorem q991 : (Jvm.Cond.fieldLink "ThreadTown$Cloth" (72 : Nat) "ThreadTown$Man" "y" "I") ∈ lw_all := lw_g (lw_at lw_m4 158 rfl) rfl
theorem q992 : (Jvm.Cond.fieldLink "ThreadTown$Parser" (156 : Nat) "ThreadTown$Man" "y" "I") ∈ lw_all := lw_g (lw_at lw_m4 159 rfl) rfl
theorem q993 : (Jvm.Cond.fieldLink "ThreadTown" (209 : Nat) "ThreadTown$Man" "y" "I") ∈ lw_all := lw_g (lw_at lw_m4 160 rfl) rfl
theorem q994 : (Jvm.Cond.fieldLink "ThreadTown$Parser" (206 : Nat) "ThreadTown$Man" "errands" "I") ∈ lw_all := lw_g (lw_at lw_m4 161 rfl) rfl
theorem q995 : (Jvm.Cond.fieldLink "ThreadTown" (274 : Nat) "ThreadTown$Man" "errands" "I") ∈ lw_all := lw_g (lw_at lw_m4 162 rfl) rfl
theorem q996 : (Jvm.Cond.fieldLink "ThreadTown" (215 : Nat) "ThreadTown$Man" "dye" "I") ∈ lw_all := lw_g (lw_at lw_m4 163 rfl) rfl
theorem q997 : (Jvm.Cond.fieldLink "ThreadTown$Parser" (197 : Nat) "ThreadTown$Man" "dye" "I") ∈ lw_all := lw_g (lw_at lw_m4 164 rfl) rfl
theorem q998 : (Jvm.Cond.fieldLink "ThreadTown$Cloth" (125 : Nat) "ThreadTown$Man" "goes" "LThreadTown$Law;") ∈ lw_all := lw_g (lw_at lw_m4 165 rfl) rfl
theorem q999 : (Jvm.Cond.fieldLink "ThreadTown$Parser" (178 : Nat) "ThreadTown$Man" "goes" "LThreadTown$Law;") ∈ lw_all := lw_g (lw_at lw_m4 166 rfl) rfl
theorem q1000 : (Jvm.Cond.laysFinal "ThreadTown$Man" "ThreadTown$Man" "name" "Ljava/lang/String;") ∈ lw_all := lw_g (lw_at lw_m4 167 rfl) rfl
theorem q1001 : (Jvm.Cond.soleField "ThreadTown$Man" "name") ∈ lw_all := lw_g (lw_at lw_m4 168 rfl) rfl
theorem q1002 : (Jvm.Cond.laysFinal "ThreadTown$Man" "ThreadTown$Man" "errandX" "[I") ∈ lw_all := lw_g (lw_at lw_m4 169 rfl) rfl
theorem q1003 : (Jvm.Cond.soleField "ThreadTown$Man" "errandX") ∈ lw_all := lw_g (lw_at lw_m4 170 rfl) rfl
theorem q1004 : (Jvm.Cond.laysFinal "ThreadTown$Man" "ThreadTown$Man" "errandY" "[I") ∈ lw_all := lw_g (lw_at lw_m4 171 rfl) rfl
theorem q1005 : (Jvm.Cond.soleField "ThreadTown$Man" "errandY") ∈ lw_all := lw_g (lw_at lw_m4 172 rfl) rfl
theorem q1006 : (Jvm.Cond.lays "ThreadTown$Man" "ThreadTown$Man" "x" "I") ∈ lw_all := lw_g (lw_at lw_m4 173 rfl) rfl
theorem q1007 : (Jvm.Cond.soleField "ThreadTown$Man" "x") ∈ lw_all := lw_g (lw_at lw_m4 174 rfl) rfl
theorem q1008 : (Jvm.Cond.lays "ThreadTown$Man" "ThreadTown$Man" "y" "I") ∈ lw_all := lw_g (lw_at lw_m4 175 rfl) rfl
theorem q1009 : (Jvm.Cond.soleField "ThreadTown$Man" "y") ∈ lw_all := lw_g (lw_at lw_m4 176 rfl) rfl
theorem q1010 : (Jvm.Cond.lays "ThreadTown$Man" "ThreadTown$Man" "errands" "I") ∈ lw_all := lw_g (lw_at lw_m4 177 rfl) rfl
theorem q1011 : (Jvm.Cond.soleField "ThreadTown$Man" "errands") ∈ lw_all := lw_g (lw_at lw_m4 178 rfl) rfl
theorem q1012 : (Jvm.Cond.lays "ThreadTown$Man" "ThreadTown$Man" "dye" "I") ∈ lw_all := lw_g (lw_at lw_m4 179 rfl) rfl
theorem q1013 : (Jvm.Cond.soleField "ThreadTown$Man" "dye") ∈ lw_all := lw_g (lw_at lw_m4 180 rfl) rfl
theorem q1014 : (Jvm.Cond.lays "ThreadTown$Man" "ThreadTown$Man" "goes" "LThreadTown$Law;") ∈ lw_all := lw_g (lw_at lw_m4 181 rfl) rfl
theorem q1015 : (Jvm.Cond.soleField "ThreadTown$Man" "goes") ∈ lw_all := lw_g (lw_at lw_m4 182 rfl) rfl
theorem q1016 : (Jvm.Cond.superclass "ThreadTown$Man" "java/lang/Object") ∈ lw_all := lw_g (lw_at lw_m4 183 rfl) rfl
theorem q1017 : (Jvm.Cond.methodLink "ThreadTown$Parser" (159 : Nat) ({ cls := "ThreadTown$Text", name := "notes", desc := "(III)V" } : Jvm.MethodName)) ∈ lw_all := lw_g (lw_at lw_m4 184 rfl) rfl
theorem q1018 : (Jvm.Cond.instanceMethod ({ cls := "ThreadTown$Text", name := "notes", desc := "(III)V" } : Jvm.MethodName)) ∈ lw_all := lw_g (lw_at lw_m4 185 rfl) rfl
theorem q1019 : (Jvm.Cond.selects "ThreadTown$Text" ({ cls := "ThreadTown$Text", name := "notes", desc := "(III)V" } : Jvm.MethodName) ({ cls := "ThreadTown$Text", name := "notes", desc := "(III)V" } : Jvm.MethodName)) ∈ lw_all := lw_g (lw_at lw_m4 186 rfl) rfl
theorem q1020 : (Jvm.Cond.code ({ cls := "ThreadTown$Text", name := "notes", desc := "(III)V" } : Jvm.MethodName) prog_17_method_5_code (4 : Nat) (Option.none : Option Jvm.ClassFile.FieldType)) ∈ lw_all := lw_g (lw_at lw_m4 187 rfl) rfl
theorem q1021 : (Jvm.Cond.methodLink "ThreadTown$Parser" (163 : Nat) ({ cls := "java/util/ArrayList", name := "add", desc := "(Ljava/lang/Object;)Z" } : Jvm.MethodName)) ∈ lw_all := lw_g (lw_at lw_m4 188 rfl) rfl
theorem q1022 : (Jvm.Cond.instanceMethod ({ cls := "java/util/ArrayList", name := "add", desc := "(Ljava/lang/Object;)Z" } : Jvm.MethodName)) ∈ lw_all := lw_g (lw_at lw_m4 189 rfl) rfl
theorem q1023 : (Jvm.Cond.selects "java/util/ArrayList" ({ cls := "java/util/ArrayList", name := "add", desc := "(Ljava/lang/Object;)Z" } : Jvm.MethodName) ({ cls := "java/util/ArrayList", name := "add", desc := "(Ljava/lang/Object;)Z" } : Jvm.MethodName)) ∈ lw_all := lw_g (lw_at lw_m4 190 rfl) rfl
theorem q1024 : (Jvm.Cond.code ({ cls := "java/util/ArrayList", name := "add", desc := "(Ljava/lang/Object;)Z" } : Jvm.MethodName) prog_43_method_25_code (2 : Nat) (Option.some Jvm.ClassFile.FieldType.boolean)) ∈ lw_all := lw_g (lw_at lw_m4 191 rfl) rfl
theorem q1025 : (Jvm.Cond.methodLink "java/util/ArrayList" (131 : Nat) ({ cls := "java/util/ArrayList", name := "add", desc := "(Ljava/lang/Object;[Ljava/lang/Object;I)V" } : Jvm.MethodName)) ∈ lw_all := lw_g (lw_at lw_m4 192 rfl) rfl
theorem q1026 : (Jvm.Cond.privateMethod ({ cls := "java/util/ArrayList", name := "add", desc := "(Ljava/lang/Object;[Ljava/lang/Object;I)V" } : Jvm.MethodName)) ∈ lw_tbl := lw_at lw_m4 193 rfl
theorem q1027 : (Jvm.Cond.instanceMethod ({ cls := "java/util/ArrayList", name := "add", desc := "(Ljava/lang/Object;[Ljava/lang/Object;I)V" } : Jvm.MethodName)) ∈ lw_all := lw_g (lw_at lw_m4 194 rfl) rfl
theorem q1028 : (Jvm.Cond.code ({ cls := "java/util/ArrayList", name := "add", desc := "(Ljava/lang/Object;[Ljava/lang/Object;I)V" } : Jvm.MethodName) prog_43_method_24_code (4 : Nat) (Option.none : Option Jvm.ClassFile.FieldType)) ∈ lw_all := lw_g (lw_at lw_m4 195 rfl) rfl
theorem q1029 : (Jvm.Cond.methodLink "java/util/ArrayList" (129 : Nat) ({ cls := "java/util/ArrayList", name := "grow", desc := "()[Ljava/lang/Object;" } : Jvm.MethodName)) ∈ lw_all := lw_g (lw_at lw_m4 196 rfl) rfl
theorem q1030 : (Jvm.Cond.privateMethod ({ cls := "java/util/ArrayList", name := "grow", desc := "()[Ljava/lang/Object;" } : Jvm.MethodName)) ∈ lw_tbl := lw_at lw_m4 197 rfl
theorem q1031 : (Jvm.Cond.instanceMethod ({ cls := "java/util/ArrayList", name := "grow", desc := "()[Ljava/lang/Object;" } : Jvm.MethodName)) ∈ lw_all := lw_g (lw_at lw_m4 198 rfl) rfl
theorem q1032 : (Jvm.Cond.code ({ cls := "java/util/ArrayList", name := "grow", desc := "()[Ljava/lang/Object;" } : Jvm.MethodName) prog_43_method_7_code (1 : Nat) (Option.some (Jvm.ClassFile.FieldType.array (Jvm.ClassFile.FieldType.object "java/lang/Object")))) ∈ lw_all := lw_g (lw_at lw_m4 199 rfl) rfl
theorem q1033 : (Jvm.Cond.methodLink "java/util/ArrayList" (69 : Nat) ({ cls := "java/util/ArrayList", name := "grow", desc := "(I)[Ljava/lang/Object;" } : Jvm.MethodName)) ∈ lw_all := lw_g (lw_at lw_m4 200 rfl) rfl
theorem q1034 : (Jvm.Cond.privateMethod ({ cls := "java/util/ArrayList", name := "grow", desc := "(I)[Ljava/lang/Object;" } : Jvm.MethodName)) ∈ lw_tbl := lw_at lw_m4 201 rfl
theorem q1035 : (Jvm.Cond.instanceMethod ({ cls := "java/util/ArrayList", name := "grow", desc := "(I)[Ljava/lang/Object;" } : Jvm.MethodName)) ∈ lw_all := lw_g (lw_at lw_m4 202 rfl) rfl
theorem q1036 : (Jvm.Cond.code ({ cls := "java/util/ArrayList", name := "grow", desc := "(I)[Ljava/lang/Object;" } : Jvm.MethodName) prog_43_method_6_code (4 : Nat) (Option.some (Jvm.ClassFile.FieldType.array (Jvm.ClassFile.FieldType.object "java/lang/Object")))) ∈ lw_all := lw_g (lw_at lw_m4 203 rfl) rfl
theorem q1037 : (Jvm.Cond.methodLink "java/util/ArrayList" (73 : Nat) ({ cls := "jdk/internal/util/ArraysSupport", name := "newLength", desc := "(III)I" } : Jvm.MethodName)) ∈ lw_all := lw_g (lw_at lw_m4 204 rfl) rfl
theorem q1038 : (Jvm.Cond.methodLink "java/util/ArrayList" (66 : Nat) ({ cls := "java/util/Arrays", name := "copyOf", desc := "([Ljava/lang/Object;I)[Ljava/lang/Object;" } : Jvm.MethodName)) ∈ lw_all := lw_g (lw_at lw_m4 205 rfl) rfl
theorem q1039 : (Jvm.Cond.static ({ cls := "java/util/Arrays", name := "copyOf", desc := "([Ljava/lang/Object;I)[Ljava/lang/Object;" } : Jvm.MethodName)) ∈ lw_all := lw_g (lw_at lw_m4 206 rfl) rfl
theorem q1040 : (Jvm.Cond.code ({ cls := "java/util/Arrays", name := "copyOf", desc := "([Ljava/lang/Object;I)[Ljava/lang/Object;" } : Jvm.MethodName) prog_44_method_119_code (2 : Nat) (Option.some (Jvm.ClassFile.FieldType.array (Jvm.ClassFile.FieldType.object "java/lang/Object")))) ∈ lw_all := lw_g (lw_at lw_m4 207 rfl) rfl
theorem q1041 : (Jvm.Cond.methodLink "java/util/Arrays" (86 : Nat) ({ cls := "java/lang/Object", name := "getClass", desc := "()Ljava/lang/Class;" } : Jvm.MethodName)) ∈ lw_all := lw_g (lw_at lw_m4 208 rfl) rfl
theorem q1042 : (Jvm.Cond.instanceMethod ({ cls := "java/lang/Object", name := "getClass", desc := "()Ljava/lang/Class;" } : Jvm.MethodName)) ∈ lw_all := lw_g (lw_at lw_m4 209 rfl) rfl
theorem q1043 : (Jvm.Cond.sameMethod "java/lang/Object" "java/lang/Object" "getClass" "()Ljava/lang/Class;") ∈ lw_all := lw_g (lw_at lw_m4 210 rfl) rfl
theorem q1044 : (Jvm.Cond.selects "ThreadTown" ({ cls := "java/lang/Object", name := "getClass", desc := "()Ljava/lang/Class;" } : Jvm.MethodName) ({ cls := "java/lang/Object", name := "getClass", desc := "()Ljava/lang/Class;" } : Jvm.MethodName)) ∈ lw_all := lw_g (lw_at lw_m4 211 rfl) rfl
theorem q1045 : (Jvm.Cond.selects "ThreadTown$Asked" ({ cls := "java/lang/Object", name := "getClass", desc := "()Ljava/lang/Class;" } : Jvm.MethodName) ({ cls := "java/lang/Object", name := "getClass", desc := "()Ljava/lang/Class;" } : Jvm.MethodName)) ∈ lw_all := lw_g (lw_at lw_m4 212 rfl) rfl
theorem q1046 : (Jvm.Cond.selects "ThreadTown$ByLaid" ({ cls := "java/lang/Object", name := "getClass", desc := "()Ljava/lang/Class;" } : Jvm.MethodName) ({ cls := "java/lang/Object", name := "getClass", desc := "()Ljava/lang/Class;" } : Jvm.MethodName)) ∈ lw_all := lw_g (lw_at lw_m4 213 rfl) rfl
theorem q1047 : (Jvm.Cond.selects "ThreadTown$ByLeft" ({ cls := "java/lang/Object", name := "getClass", desc := "()Ljava/lang/Class;" } : Jvm.MethodName) ({ cls := "java/lang/Object", name := "getClass", desc := "()Ljava/lang/Class;" } : Jvm.MethodName)) ∈ lw_all := lw_g (lw_at lw_m4 214 rfl) rfl
theorem q1048 : (Jvm.Cond.selects "ThreadTown$ByLot" ({ cls := "java/lang/Object", name := "getClass", desc := "()Ljava/lang/Class;" } : Jvm.MethodName) ({ cls := "java/lang/Object", name := "getClass", desc := "()Ljava/lang/Class;" } : Jvm.MethodName)) ∈ lw_all := lw_g (lw_at lw_m4 215 rfl) rfl
theorem q1049 : (Jvm.Cond.selects "ThreadTown$ByLying" ({ cls := "java/lang/Object", name := "getClass", desc := "()Ljava/lang/Class;" } : Jvm.MethodName) ({ cls := "java/lang/Object", name := "getClass", desc := "()Ljava/lang/Class;" } : Jvm.MethodName)) ∈ lw_all := lw_g (lw_at lw_m4 216 rfl) rfl
theorem q1050 : (Jvm.Cond.selects "ThreadTown$ByNumber" ({ cls := "java/lang/Object", name := "getClass", desc := "()Ljava/lang/Class;" } : Jvm.MethodName) ({ cls := "java/lang/Object", name := "getClass", desc := "()Ljava/lang/Class;" } : Jvm.MethodName)) ∈ lw_all := lw_g (lw_at lw_m4 217 rfl) rfl
theorem q1051 : (Jvm.Cond.selects "ThreadTown$Cloth" ({ cls := "java/lang/Object", name := "getClass", desc := "()Ljava/lang/Class;" } : Jvm.MethodName) ({ cls := "java/lang/Object", name := "getClass", desc := "()Ljava/lang/Class;" } : Jvm.MethodName)) ∈ lw_all := lw_g (lw_at lw_m4 218 rfl) rfl
theorem q1052 : (Jvm.Cond.selects "ThreadTown$Fault" ({ cls := "java/lang/Object", name := "getClass", desc := "()Ljava/lang/Class;" } : Jvm.MethodName) ({ cls := "java/lang/Object", name := "getClass", desc := "()Ljava/lang/Class;" } : Jvm.MethodName)) ∈ lw_all := lw_g (lw_at lw_m4 219 rfl) rfl
theorem q1053 : (Jvm.Cond.selects "ThreadTown$Joined" ({ cls := "java/lang/Object", name := "getClass", desc := "()Ljava/lang/Class;" } : Jvm.MethodName) ({ cls := "java/lang/Object", name := "getClass", desc := "()Ljava/lang/Class;" } : Jvm.MethodName)) ∈ lw_all := lw_g (lw_at lw_m4 220 rfl) rfl
theorem q1054 : (Jvm.Cond.selects "ThreadTown$Law" ({ cls := "java/lang/Object", name := "getClass", desc := "()Ljava/lang/Class;" } : Jvm.MethodName) ({ cls := "java/lang/Object", name := "getClass", desc := "()Ljava/lang/Class;" } : Jvm.MethodName)) ∈ lw_all := lw_g (lw_at lw_m4 221 rfl) rfl
theorem q1055 : (Jvm.Cond.selects "ThreadTown$Man" ({ cls := "java/lang/Object", name := "getClass", desc := "()Ljava/lang/Class;" } : Jvm.MethodName) ({ cls := "java/lang/Object", name := "getClass", desc := "()Ljava/lang/Class;" } : Jvm.MethodName)) ∈ lw_all := lw_g (lw_at lw_m4 222 rfl) rfl
theorem q1056 : (Jvm.Cond.selects "ThreadTown$Number" ({ cls := "java/lang/Object", name := "getClass", desc := "()Ljava/lang/Class;" } : Jvm.MethodName) ({ cls := "java/lang/Object", name := "getClass", desc := "()Ljava/lang/Class;" } : Jvm.MethodName)) ∈ lw_all := lw_g (lw_at lw_m4 223 rfl) rfl
theorem q1057 : (Jvm.Cond.selects "ThreadTown$Parser" ({ cls := "java/lang/Object", name := "getClass", desc := "()Ljava/lang/Class;" } : Jvm.MethodName) ({ cls := "java/lang/Object", name := "getClass", desc := "()Ljava/lang/Class;" } : Jvm.MethodName)) ∈ lw_all := lw_g (lw_at lw_m4 224 rfl) rfl
theorem q1058 : (Jvm.Cond.selects "ThreadTown$Text" ({ cls := "java/lang/Object", name := "getClass", desc := "()Ljava/lang/Class;" } : Jvm.MethodName) ({ cls := "java/lang/Object", name := "getClass", desc := "()Ljava/lang/Class;" } : Jvm.MethodName)) ∈ lw_all := lw_g (lw_at lw_m4 225 rfl) rfl
theorem q1059 : (Jvm.Cond.selects "ThreadTown$Tokens" ({ cls := "java/lang/Object", name := "getClass", desc := "()Ljava/lang/Class;" } : Jvm.MethodName) ({ cls := "java/lang/Object", name := "getClass", desc := "()Ljava/lang/Class;" } : Jvm.MethodName)) ∈ lw_all := lw_g (lw_at lw_m4 226 rfl) rfl
theorem q1060 : (Jvm.Cond.selects "ThreadTown$Var" ({ cls := "java/lang/Object", name := "getClass", desc := "()Ljava/lang/Class;" } : Jvm.MethodName) ({ cls := "java/lang/Object", name := "getClass", desc := "()Ljava/lang/Class;" } : Jvm.MethodName)) ∈ lw_all := lw_g (lw_at lw_m4 227 rfl) rfl
theorem q1061 : (Jvm.Cond.selects "ThreadTownModel" ({ cls := "java/lang/Object", name := "getClass", desc := "()Ljava/lang/Class;" } : Jvm.MethodName) ({ cls := "java/lang/Object", name := "getClass", desc := "()Ljava/lang/Class;" } : Jvm.MethodName)) ∈ lw_all := lw_g (lw_at lw_m4 228 rfl) rfl
theorem q1062 : (Jvm.Cond.selects "java/lang/String" ({ cls := "java/lang/Object", name := "getClass", desc := "()Ljava/lang/Class;" } : Jvm.MethodName) ({ cls := "java/lang/Object", name := "getClass", desc := "()Ljava/lang/Class;" } : Jvm.MethodName)) ∈ lw_all := lw_g (lw_at lw_m4 229 rfl) rfl
theorem q1063 : (Jvm.Cond.selects "java/lang/StringBuilder" ({ cls := "java/lang/Object", name := "getClass", desc := "()Ljava/lang/Class;" } : Jvm.MethodName) ({ cls := "java/lang/Object", name := "getClass", desc := "()Ljava/lang/Class;" } : Jvm.MethodName)) ∈ lw_all := lw_g (lw_at lw_m4 230 rfl) rfl
theorem q1064 : (Jvm.Cond.selects "java/util/ArrayList" ({ cls := "java/lang/Object", name := "getClass", desc := "()Ljava/lang/Class;" } : Jvm.MethodName) ({ cls := "java/lang/Object", name := "getClass", desc := "()Ljava/lang/Class;" } : Jvm.MethodName)) ∈ lw_all := lw_g (lw_at lw_m4 231 rfl) rfl
theorem q1065 : (Jvm.Cond.native ({ cls := "java/lang/Object", name := "getClass", desc := "()Ljava/lang/Class;" } : Jvm.MethodName)) ∈ lw_all := lw_g (lw_at lw_m4 232 rfl) rfl
theorem q1066 : (Jvm.Cond.methodLink "java/util/Arrays" (300 : Nat) ({ cls := "java/util/Arrays", name := "copyOf", desc := "([Ljava/lang/Object;ILjava/lang/Class;)[Ljava/lang/Object;" } : Jvm.MethodName)) ∈ lw_all := lw_g (lw_at lw_m4 233 rfl) rfl
theorem q1067 : (Jvm.Cond.static ({ cls := "java/util/Arrays", name := "copyOf", desc := "([Ljava/lang/Object;ILjava/lang/Class;)[Ljava/lang/Object;" } : Jvm.MethodName)) ∈ lw_all := lw_g (lw_at lw_m4 234 rfl) rfl
theorem q1068 : (Jvm.Cond.code ({ cls := "java/util/Arrays", name := "copyOf", desc := "([Ljava/lang/Object;ILjava/lang/Class;)[Ljava/lang/Object;" } : Jvm.MethodName) prog_44_method_120_code (4 : Nat) (Option.some (Jvm.ClassFile.FieldType.array (Jvm.ClassFile.FieldType.object "java/lang/Object")))) ∈ lw_all := lw_g (lw_at lw_m4 235 rfl) rfl
theorem q1069 : (Jvm.Cond.classLink "java/util/Arrays" (110 : Nat) "[Ljava/lang/Object;") ∈ lw_all := lw_g (lw_at lw_m4 236 rfl) rfl
theorem q1070 : (Jvm.Cond.arrayOver (Jvm.ClassFile.FieldType.object "java/lang/Object")) ∈ lw_tbl := lw_at lw_m4 237 rfl
theorem q1071 : (Jvm.Cond.classLink "java/util/Arrays" (2 : Nat) "java/lang/Object") ∈ lw_all := lw_g (lw_at lw_m4 238 rfl) rfl
theorem q1072 : (Jvm.Cond.methodLink "java/util/ArrayList" (79 : Nat) ({ cls := "java/lang/Math", name := "max", desc := "(II)I" } : Jvm.MethodName)) ∈ lw_all := lw_g (lw_at lw_m4 239 rfl) rfl
theorem q1073 : (Jvm.Cond.classLink "java/util/ArrayList" (7 : Nat) "java/lang/Object") ∈ lw_all := lw_g (lw_at lw_m5 0 rfl) rfl
theorem q1074 : (Jvm.Cond.methodLink "ThreadTown$Parser" (167 : Nat) ({ cls := "ThreadTown$Parser", name := "known", desc := "()I" } : Jvm.MethodName)) ∈ lw_all := lw_g (lw_at lw_m5 1 rfl) rfl
theorem q1075 : (Jvm.Cond.privateMethod ({ cls := "ThreadTown$Parser", name := "known", desc := "()I" } : Jvm.MethodName)) ∈ lw_tbl := lw_at lw_m5 2 rfl
theorem q1076 : (Jvm.Cond.instanceMethod ({ cls := "ThreadTown$Parser", name := "known", desc := "()I" } : Jvm.MethodName)) ∈ lw_all := lw_g (lw_at lw_m5 3 rfl) rfl
theorem q1077 : (Jvm.Cond.code ({ cls := "ThreadTown$Parser", name := "known", desc := "()I" } : Jvm.MethodName) prog_15_method_17_code (3 : Nat) (Option.some Jvm.ClassFile.FieldType.int)) ∈ lw_all := lw_g (lw_at lw_m5 4 rfl) rfl
theorem q1078 : (Jvm.Cond.methodLink "ThreadTown$Parser" (203 : Nat) ({ cls := "ThreadTown$Text", name := "at", desc := "(Ljava/lang/String;)I" } : Jvm.MethodName)) ∈ lw_all := lw_g (lw_at lw_m5 5 rfl) rfl
theorem q1079 : (Jvm.Cond.methodLink "ThreadTown$Parser" (170 : Nat) ({ cls := "ThreadTown$Parser", name := "law", desc := "()LThreadTown$Law;" } : Jvm.MethodName)) ∈ lw_all := lw_g (lw_at lw_m5 6 rfl) rfl
theorem q1080 : (Jvm.Cond.privateMethod ({ cls := "ThreadTown$Parser", name := "law", desc := "()LThreadTown$Law;" } : Jvm.MethodName)) ∈ lw_tbl := lw_at lw_m5 7 rfl
theorem q1081 : (Jvm.Cond.instanceMethod ({ cls := "ThreadTown$Parser", name := "law", desc := "()LThreadTown$Law;" } : Jvm.MethodName)) ∈ lw_all := lw_g (lw_at lw_m5 8 rfl) rfl
theorem q1082 : (Jvm.Cond.code ({ cls := "ThreadTown$Parser", name := "law", desc := "()LThreadTown$Law;" } : Jvm.MethodName) prog_15_method_19_code (2 : Nat) (Option.some (Jvm.ClassFile.FieldType.object "ThreadTown$Law"))) ∈ lw_all := lw_g (lw_at lw_m5 9 rfl) rfl
theorem q1083 : (Jvm.Cond.classLink "ThreadTown$Parser" (215 : Nat) "ThreadTown$Law") ∈ lw_all := lw_g (lw_at lw_m5 10 rfl) rfl
theorem q1084 : (Jvm.Cond.instantiable "ThreadTown$Law" (4 : Nat)) ∈ lw_all := lw_g (lw_at lw_m5 11 rfl) rfl
theorem q1085 : (Jvm.Cond.methodLinkNest "ThreadTown$Parser" (217 : Nat) ({ cls := "ThreadTown$Law", name := "<init>", desc := "()V" } : Jvm.MethodName) "ThreadTown") ∈ lw_tbl := lw_at lw_m5 12 rfl
theorem q1086 : (Jvm.Cond.instanceMethod ({ cls := "ThreadTown$Law", name := "<init>", desc := "()V" } : Jvm.MethodName)) ∈ lw_all := lw_g (lw_at lw_m5 13 rfl) rfl
theorem q1087 : (Jvm.Cond.code ({ cls := "ThreadTown$Law", name := "<init>", desc := "()V" } : Jvm.MethodName) prog_12_method_1_code (1 : Nat) (Option.none : Option Jvm.ClassFile.FieldType)) ∈ lw_all := lw_g (lw_at lw_m5 14 rfl) rfl
theorem q1088 : (Jvm.Cond.methodLink "ThreadTown$Law" (3 : Nat) ({ cls := "java/lang/Object", name := "<init>", desc := "()V" } : Jvm.MethodName)) ∈ lw_all := lw_g (lw_at lw_m5 15 rfl) rfl
theorem q1089 : (Jvm.Cond.classLink "ThreadTown$Law" (9 : Nat) "ThreadTown$Sum") ∈ lw_all := lw_g (lw_at lw_m5 16 rfl) rfl
theorem q1090 : (Jvm.Cond.arrayOver (Jvm.ClassFile.FieldType.object "ThreadTown$Sum")) ∈ lw_tbl := lw_at lw_m5 17 rfl
theorem q1091 : (Jvm.Cond.fieldLink "ThreadTown$Law" (11 : Nat) "ThreadTown$Law" "less" "[LThreadTown$Sum;") ∈ lw_all := lw_g (lw_at lw_m5 18 rfl) rfl
theorem q1092 : (Jvm.Cond.fieldLink "ThreadTown$Parser" (221 : Nat) "ThreadTown$Law" "less" "[LThreadTown$Sum;") ∈ lw_all := lw_g (lw_at lw_m5 19 rfl) rfl
theorem q1093 : (Jvm.Cond.fieldLink "ThreadTown$Law" (17 : Nat) "ThreadTown$Law" "than" "[LThreadTown$Sum;") ∈ lw_all := lw_g (lw_at lw_m5 20 rfl) rfl
theorem q1094 : (Jvm.Cond.fieldLink "ThreadTown$Parser" (229 : Nat) "ThreadTown$Law" "than" "[LThreadTown$Sum;") ∈ lw_all := lw_g (lw_at lw_m5 21 rfl) rfl
theorem q1095 : (Jvm.Cond.fieldLink "ThreadTown$Law" (20 : Nat) "ThreadTown$Law" "then" "[LThreadTown$Sum;") ∈ lw_all := lw_g (lw_at lw_m5 22 rfl) rfl
theorem q1096 : (Jvm.Cond.fieldLink "ThreadTown$Parser" (235 : Nat) "ThreadTown$Law" "then" "[LThreadTown$Sum;") ∈ lw_all := lw_g (lw_at lw_m5 23 rfl) rfl
theorem q1097 : (Jvm.Cond.fieldLink "ThreadTown$Law" (29 : Nat) "ThreadTown$Law" "ifs" "I") ∈ lw_all := lw_g (lw_at lw_m5 24 rfl) rfl
theorem q1098 : (Jvm.Cond.fieldLink "ThreadTown$Parser" (218 : Nat) "ThreadTown$Law" "ifs" "I") ∈ lw_all := lw_g (lw_at lw_m5 25 rfl) rfl
theorem q1099 : (Jvm.Cond.laysFinal "ThreadTown$Law" "ThreadTown$Law" "less" "[LThreadTown$Sum;") ∈ lw_all := lw_g (lw_at lw_m5 26 rfl) rfl
theorem q1100 : (Jvm.Cond.soleField "ThreadTown$Law" "less") ∈ lw_all := lw_g (lw_at lw_m5 27 rfl) rfl
theorem q1101 : (Jvm.Cond.laysFinal "ThreadTown$Law" "ThreadTown$Law" "than" "[LThreadTown$Sum;") ∈ lw_all := lw_g (lw_at lw_m5 28 rfl) rfl
theorem q1102 : (Jvm.Cond.soleField "ThreadTown$Law" "than") ∈ lw_all := lw_g (lw_at lw_m5 29 rfl) rfl
theorem q1103 : (Jvm.Cond.laysFinal "ThreadTown$Law" "ThreadTown$Law" "then" "[LThreadTown$Sum;") ∈ lw_all := lw_g (lw_at lw_m5 30 rfl) rfl
theorem q1104 : (Jvm.Cond.soleField "ThreadTown$Law" "then") ∈ lw_all := lw_g (lw_at lw_m5 31 rfl) rfl
theorem q1105 : (Jvm.Cond.lays "ThreadTown$Law" "ThreadTown$Law" "ifs" "I") ∈ lw_all := lw_g (lw_at lw_m5 32 rfl) rfl
theorem q1106 : (Jvm.Cond.soleField "ThreadTown$Law" "ifs") ∈ lw_all := lw_g (lw_at lw_m5 33 rfl) rfl
theorem q1107 : (Jvm.Cond.superclass "ThreadTown$Law" "java/lang/Object") ∈ lw_all := lw_g (lw_at lw_m5 34 rfl) rfl
theorem q1108 : (Jvm.Cond.methodLink "ThreadTown$Parser" (102 : Nat) ({ cls := "ThreadTown$Parser", name := "sign", desc := "(I)V" } : Jvm.MethodName)) ∈ lw_all := lw_g (lw_at lw_m5 35 rfl) rfl
theorem q1109 : (Jvm.Cond.privateMethod ({ cls := "ThreadTown$Parser", name := "sign", desc := "(I)V" } : Jvm.MethodName)) ∈ lw_tbl := lw_at lw_m5 36 rfl
theorem q1110 : (Jvm.Cond.instanceMethod ({ cls := "ThreadTown$Parser", name := "sign", desc := "(I)V" } : Jvm.MethodName)) ∈ lw_all := lw_g (lw_at lw_m5 37 rfl) rfl
theorem q1111 : (Jvm.Cond.code ({ cls := "ThreadTown$Parser", name := "sign", desc := "(I)V" } : Jvm.MethodName) prog_15_method_9_code (2 : Nat) (Option.none : Option Jvm.ClassFile.FieldType)) ∈ lw_all := lw_g (lw_at lw_m5 38 rfl) rfl
theorem q1112 : (Jvm.Cond.methodLink "ThreadTown$Parser" (55 : Nat) ({ cls := "ThreadTown$Parser", name := "isSign", desc := "(I)Z" } : Jvm.MethodName)) ∈ lw_all := lw_g (lw_at lw_m5 39 rfl) rfl
theorem q1113 : (Jvm.Cond.privateMethod ({ cls := "ThreadTown$Parser", name := "isSign", desc := "(I)Z" } : Jvm.MethodName)) ∈ lw_tbl := lw_at lw_m5 40 rfl
theorem q1114 : (Jvm.Cond.instanceMethod ({ cls := "ThreadTown$Parser", name := "isSign", desc := "(I)Z" } : Jvm.MethodName)) ∈ lw_all := lw_g (lw_at lw_m5 41 rfl) rfl
theorem q1115 : (Jvm.Cond.code ({ cls := "ThreadTown$Parser", name := "isSign", desc := "(I)Z" } : Jvm.MethodName) prog_15_method_7_code (2 : Nat) (Option.some Jvm.ClassFile.FieldType.boolean)) ∈ lw_all := lw_g (lw_at lw_m5 42 rfl) rfl
theorem q1116 : (Jvm.Cond.methodLink "ThreadTown$Parser" (62 : Nat) ({ cls := "ThreadTown$Parser", name := "isWord", desc := "(I)Z" } : Jvm.MethodName)) ∈ lw_all := lw_g (lw_at lw_m5 43 rfl) rfl
theorem q1117 : (Jvm.Cond.privateMethod ({ cls := "ThreadTown$Parser", name := "isWord", desc := "(I)Z" } : Jvm.MethodName)) ∈ lw_tbl := lw_at lw_m5 44 rfl
theorem q1118 : (Jvm.Cond.instanceMethod ({ cls := "ThreadTown$Parser", name := "isWord", desc := "(I)Z" } : Jvm.MethodName)) ∈ lw_all := lw_g (lw_at lw_m5 45 rfl) rfl
theorem q1119 : (Jvm.Cond.code ({ cls := "ThreadTown$Parser", name := "isWord", desc := "(I)Z" } : Jvm.MethodName) prog_15_method_8_code (2 : Nat) (Option.some Jvm.ClassFile.FieldType.boolean)) ∈ lw_all := lw_g (lw_at lw_m5 46 rfl) rfl
theorem q1120 : (Jvm.Cond.methodLink "ThreadTown$Parser" (225 : Nat) ({ cls := "ThreadTown$Parser", name := "sum", desc := "()LThreadTown$Sum;" } : Jvm.MethodName)) ∈ lw_all := lw_g (lw_at lw_m5 47 rfl) rfl
theorem q1121 : (Jvm.Cond.privateMethod ({ cls := "ThreadTown$Parser", name := "sum", desc := "()LThreadTown$Sum;" } : Jvm.MethodName)) ∈ lw_tbl := lw_at lw_m5 48 rfl
theorem q1122 : (Jvm.Cond.instanceMethod ({ cls := "ThreadTown$Parser", name := "sum", desc := "()LThreadTown$Sum;" } : Jvm.MethodName)) ∈ lw_all := lw_g (lw_at lw_m5 49 rfl) rfl
theorem q1123 : (Jvm.Cond.code ({ cls := "ThreadTown$Parser", name := "sum", desc := "()LThreadTown$Sum;" } : Jvm.MethodName) prog_15_method_20_code (3 : Nat) (Option.some (Jvm.ClassFile.FieldType.object "ThreadTown$Sum"))) ∈ lw_all := lw_g (lw_at lw_m5 50 rfl) rfl
theorem q1124 : (Jvm.Cond.methodLink "ThreadTown$Parser" (238 : Nat) ({ cls := "ThreadTown$Parser", name := "part", desc := "()LThreadTown$Sum;" } : Jvm.MethodName)) ∈ lw_all := lw_g (lw_at lw_m5 51 rfl) rfl
theorem q1125 : (Jvm.Cond.privateMethod ({ cls := "ThreadTown$Parser", name := "part", desc := "()LThreadTown$Sum;" } : Jvm.MethodName)) ∈ lw_tbl := lw_at lw_m5 52 rfl
theorem q1126 : (Jvm.Cond.instanceMethod ({ cls := "ThreadTown$Parser", name := "part", desc := "()LThreadTown$Sum;" } : Jvm.MethodName)) ∈ lw_all := lw_g (lw_at lw_m5 53 rfl) rfl
theorem q1127 : (Jvm.Cond.code ({ cls := "ThreadTown$Parser", name := "part", desc := "()LThreadTown$Sum;" } : Jvm.MethodName) prog_15_method_21_code (3 : Nat) (Option.some (Jvm.ClassFile.FieldType.object "ThreadTown$Sum"))) ∈ lw_all := lw_g (lw_at lw_m5 54 rfl) rfl
theorem q1128 : (Jvm.Cond.methodLink "ThreadTown$Parser" (246 : Nat) ({ cls := "ThreadTown$Parser", name := "unit", desc := "()LThreadTown$Sum;" } : Jvm.MethodName)) ∈ lw_all := lw_g (lw_at lw_m5 55 rfl) rfl
theorem q1129 : (Jvm.Cond.privateMethod ({ cls := "ThreadTown$Parser", name := "unit", desc := "()LThreadTown$Sum;" } : Jvm.MethodName)) ∈ lw_tbl := lw_at lw_m5 56 rfl
theorem q1130 : (Jvm.Cond.instanceMethod ({ cls := "ThreadTown$Parser", name := "unit", desc := "()LThreadTown$Sum;" } : Jvm.MethodName)) ∈ lw_all := lw_g (lw_at lw_m5 57 rfl) rfl
theorem q1131 : (Jvm.Cond.code ({ cls := "ThreadTown$Parser", name := "unit", desc := "()LThreadTown$Sum;" } : Jvm.MethodName) prog_15_method_22_code (2 : Nat) (Option.some (Jvm.ClassFile.FieldType.object "ThreadTown$Sum"))) ∈ lw_all := lw_g (lw_at lw_m5 58 rfl) rfl
theorem q1132 : (Jvm.Cond.classLink "ThreadTown$Parser" (249 : Nat) "ThreadTown$Number") ∈ lw_all := lw_g (lw_at lw_m5 59 rfl) rfl
theorem q1133 : (Jvm.Cond.instantiable "ThreadTown$Number" (1 : Nat)) ∈ lw_all := lw_g (lw_at lw_m5 60 rfl) rfl
theorem q1134 : (Jvm.Cond.methodLink "ThreadTown$Parser" (251 : Nat) ({ cls := "ThreadTown$Number", name := "<init>", desc := "(I)V" } : Jvm.MethodName)) ∈ lw_all := lw_g (lw_at lw_m5 61 rfl) rfl
theorem q1135 : (Jvm.Cond.instanceMethod ({ cls := "ThreadTown$Number", name := "<init>", desc := "(I)V" } : Jvm.MethodName)) ∈ lw_all := lw_g (lw_at lw_m5 62 rfl) rfl
theorem q1136 : (Jvm.Cond.code ({ cls := "ThreadTown$Number", name := "<init>", desc := "(I)V" } : Jvm.MethodName) prog_14_method_1_code (2 : Nat) (Option.none : Option Jvm.ClassFile.FieldType)) ∈ lw_all := lw_g (lw_at lw_m5 63 rfl) rfl
theorem q1137 : (Jvm.Cond.methodLinkNest "ThreadTown$Number" (1 : Nat) ({ cls := "ThreadTown$Sum", name := "<init>", desc := "()V" } : Jvm.MethodName) "ThreadTown") ∈ lw_tbl := lw_at lw_m5 64 rfl
theorem q1138 : (Jvm.Cond.instanceMethod ({ cls := "ThreadTown$Sum", name := "<init>", desc := "()V" } : Jvm.MethodName)) ∈ lw_all := lw_g (lw_at lw_m5 65 rfl) rfl
theorem q1139 : (Jvm.Cond.code ({ cls := "ThreadTown$Sum", name := "<init>", desc := "()V" } : Jvm.MethodName) prog_16_method_1_code (1 : Nat) (Option.none : Option Jvm.ClassFile.FieldType)) ∈ lw_all := lw_g (lw_at lw_m5 66 rfl) rfl
theorem q1140 : (Jvm.Cond.methodLink "ThreadTown$Sum" (1 : Nat) ({ cls := "java/lang/Object", name := "<init>", desc := "()V" } : Jvm.MethodName)) ∈ lw_all := lw_g (lw_at lw_m5 67 rfl) rfl
theorem q1141 : (Jvm.Cond.fieldLink "ThreadTown$Number" (7 : Nat) "ThreadTown$Number" "v" "I") ∈ lw_all := lw_g (lw_at lw_m5 68 rfl) rfl
theorem q1142 : (Jvm.Cond.laysFinal "ThreadTown$Number" "ThreadTown$Number" "v" "I") ∈ lw_all := lw_g (lw_at lw_m5 69 rfl) rfl
theorem q1143 : (Jvm.Cond.soleField "ThreadTown$Number" "v") ∈ lw_all := lw_g (lw_at lw_m5 70 rfl) rfl
theorem q1144 : (Jvm.Cond.superclass "ThreadTown$Number" "ThreadTown$Sum") ∈ lw_all := lw_g (lw_at lw_m5 71 rfl) rfl
theorem q1145 : (Jvm.Cond.classLink "ThreadTown$Parser" (253 : Nat) "ThreadTown$Var") ∈ lw_all := lw_g (lw_at lw_m5 72 rfl) rfl
theorem q1146 : (Jvm.Cond.instantiable "ThreadTown$Var" (1 : Nat)) ∈ lw_all := lw_g (lw_at lw_m5 73 rfl) rfl
theorem q1147 : (Jvm.Cond.methodLink "ThreadTown$Parser" (255 : Nat) ({ cls := "ThreadTown$Var", name := "<init>", desc := "(I)V" } : Jvm.MethodName)) ∈ lw_all := lw_g (lw_at lw_m5 74 rfl) rfl
theorem q1148 : (Jvm.Cond.instanceMethod ({ cls := "ThreadTown$Var", name := "<init>", desc := "(I)V" } : Jvm.MethodName)) ∈ lw_all := lw_g (lw_at lw_m5 75 rfl) rfl
theorem q1149 : (Jvm.Cond.code ({ cls := "ThreadTown$Var", name := "<init>", desc := "(I)V" } : Jvm.MethodName) prog_19_method_1_code (2 : Nat) (Option.none : Option Jvm.ClassFile.FieldType)) ∈ lw_all := lw_g (lw_at lw_m5 76 rfl) rfl
theorem q1150 : (Jvm.Cond.methodLinkNest "ThreadTown$Var" (1 : Nat) ({ cls := "ThreadTown$Sum", name := "<init>", desc := "()V" } : Jvm.MethodName) "ThreadTown") ∈ lw_tbl := lw_at lw_m5 77 rfl
theorem q1151 : (Jvm.Cond.fieldLink "ThreadTown$Var" (7 : Nat) "ThreadTown$Var" "k" "I") ∈ lw_all := lw_g (lw_at lw_m5 78 rfl) rfl
theorem q1152 : (Jvm.Cond.laysFinal "ThreadTown$Var" "ThreadTown$Var" "k" "I") ∈ lw_all := lw_g (lw_at lw_m5 79 rfl) rfl
theorem q1153 : (Jvm.Cond.soleField "ThreadTown$Var" "k") ∈ lw_all := lw_g (lw_at lw_m5 80 rfl) rfl
theorem q1154 : (Jvm.Cond.superclass "ThreadTown$Var" "ThreadTown$Sum") ∈ lw_all := lw_g (lw_at lw_m5 81 rfl) rfl
theorem q1155 : (Jvm.Cond.classLink "ThreadTown$Parser" (241 : Nat) "ThreadTown$Joined") ∈ lw_all := lw_g (lw_at lw_m5 82 rfl) rfl
theorem q1156 : (Jvm.Cond.instantiable "ThreadTown$Joined" (3 : Nat)) ∈ lw_all := lw_g (lw_at lw_m5 83 rfl) rfl
theorem q1157 : (Jvm.Cond.methodLink "ThreadTown$Parser" (243 : Nat) ({ cls := "ThreadTown$Joined", name := "<init>", desc := "(ILThreadTown$Sum;LThreadTown$Sum;)V" } : Jvm.MethodName)) ∈ lw_all := lw_g (lw_at lw_m5 84 rfl) rfl
theorem q1158 : (Jvm.Cond.instanceMethod ({ cls := "ThreadTown$Joined", name := "<init>", desc := "(ILThreadTown$Sum;LThreadTown$Sum;)V" } : Jvm.MethodName)) ∈ lw_all := lw_g (lw_at lw_m5 85 rfl) rfl
theorem q1159 : (Jvm.Cond.code ({ cls := "ThreadTown$Joined", name := "<init>", desc := "(ILThreadTown$Sum;LThreadTown$Sum;)V" } : Jvm.MethodName) prog_11_method_1_code (4 : Nat) (Option.none : Option Jvm.ClassFile.FieldType)) ∈ lw_all := lw_g (lw_at lw_m5 86 rfl) rfl
theorem q1160 : (Jvm.Cond.methodLinkNest "ThreadTown$Joined" (1 : Nat) ({ cls := "ThreadTown$Sum", name := "<init>", desc := "()V" } : Jvm.MethodName) "ThreadTown") ∈ lw_tbl := lw_at lw_m5 87 rfl
theorem q1161 : (Jvm.Cond.fieldLink "ThreadTown$Joined" (7 : Nat) "ThreadTown$Joined" "op" "I") ∈ lw_all := lw_g (lw_at lw_m5 88 rfl) rfl
theorem q1162 : (Jvm.Cond.fieldLink "ThreadTown$Joined" (13 : Nat) "ThreadTown$Joined" "a" "LThreadTown$Sum;") ∈ lw_all := lw_g (lw_at lw_m5 89 rfl) rfl
theorem q1163 : (Jvm.Cond.fieldLink "ThreadTown$Joined" (17 : Nat) "ThreadTown$Joined" "b" "LThreadTown$Sum;") ∈ lw_all := lw_g (lw_at lw_m5 90 rfl) rfl
theorem q1164 : (Jvm.Cond.laysFinal "ThreadTown$Joined" "ThreadTown$Joined" "op" "I") ∈ lw_all := lw_g (lw_at lw_m5 91 rfl) rfl
theorem q1165 : (Jvm.Cond.soleField "ThreadTown$Joined" "op") ∈ lw_all := lw_g (lw_at lw_m5 92 rfl) rfl
theorem q1166 : (Jvm.Cond.laysFinal "ThreadTown$Joined" "ThreadTown$Joined" "a" "LThreadTown$Sum;") ∈ lw_all := lw_g (lw_at lw_m5 93 rfl) rfl
theorem q1167 : (Jvm.Cond.soleField "ThreadTown$Joined" "a") ∈ lw_all := lw_g (lw_at lw_m5 94 rfl) rfl
theorem q1168 : (Jvm.Cond.laysFinal "ThreadTown$Joined" "ThreadTown$Joined" "b" "LThreadTown$Sum;") ∈ lw_all := lw_g (lw_at lw_m5 95 rfl) rfl
theorem q1169 : (Jvm.Cond.soleField "ThreadTown$Joined" "b") ∈ lw_all := lw_g (lw_at lw_m5 96 rfl) rfl
theorem q1170 : (Jvm.Cond.superclass "ThreadTown$Joined" "ThreadTown$Sum") ∈ lw_all := lw_g (lw_at lw_m5 97 rfl) rfl
theorem q1171 : (Jvm.Cond.methodLink "ThreadTown$Parser" (232 : Nat) ({ cls := "ThreadTown$Parser", name := "word", desc := "(I)V" } : Jvm.MethodName)) ∈ lw_all := lw_g (lw_at lw_m5 98 rfl) rfl
theorem q1172 : (Jvm.Cond.privateMethod ({ cls := "ThreadTown$Parser", name := "word", desc := "(I)V" } : Jvm.MethodName)) ∈ lw_tbl := lw_at lw_m5 99 rfl
theorem q1173 : (Jvm.Cond.instanceMethod ({ cls := "ThreadTown$Parser", name := "word", desc := "(I)V" } : Jvm.MethodName)) ∈ lw_all := lw_g (lw_at lw_m5 100 rfl) rfl
theorem q1174 : (Jvm.Cond.code ({ cls := "ThreadTown$Parser", name := "word", desc := "(I)V" } : Jvm.MethodName) prog_15_method_10_code (2 : Nat) (Option.none : Option Jvm.ClassFile.FieldType)) ∈ lw_all := lw_g (lw_at lw_m5 101 rfl) rfl
theorem q1175 : (Jvm.Cond.methodLink "ThreadTown$Parser" (174 : Nat) ({ cls := "java/util/ArrayList", name := "get", desc := "(I)Ljava/lang/Object;" } : Jvm.MethodName)) ∈ lw_all := lw_g (lw_at lw_m5 102 rfl) rfl
theorem q1176 : (Jvm.Cond.methodLink "ThreadTown$Parser" (185 : Nat) ({ cls := "ThreadTown$Parser", name := "errand", desc := "()V" } : Jvm.MethodName)) ∈ lw_all := lw_g (lw_at lw_m5 103 rfl) rfl
theorem q1177 : (Jvm.Cond.privateMethod ({ cls := "ThreadTown$Parser", name := "errand", desc := "()V" } : Jvm.MethodName)) ∈ lw_tbl := lw_at lw_m5 104 rfl
theorem q1178 : (Jvm.Cond.instanceMethod ({ cls := "ThreadTown$Parser", name := "errand", desc := "()V" } : Jvm.MethodName)) ∈ lw_all := lw_g (lw_at lw_m5 105 rfl) rfl
theorem q1179 : (Jvm.Cond.code ({ cls := "ThreadTown$Parser", name := "errand", desc := "()V" } : Jvm.MethodName) prog_15_method_18_code (8 : Nat) (Option.none : Option Jvm.ClassFile.FieldType)) ∈ lw_all := lw_g (lw_at lw_m5 106 rfl) rfl
theorem q1180 : (Jvm.Cond.methodLink "ThreadTown$Parser" (116 : Nat) ({ cls := "ThreadTown$Text", name := "isIn", desc := "(II)Z" } : Jvm.MethodName)) ∈ lw_all := lw_g (lw_at lw_m5 107 rfl) rfl
theorem q1181 : (Jvm.Cond.instanceMethod ({ cls := "ThreadTown$Text", name := "isIn", desc := "(II)Z" } : Jvm.MethodName)) ∈ lw_all := lw_g (lw_at lw_m5 108 rfl) rfl
theorem q1182 : (Jvm.Cond.selects "ThreadTown$Text" ({ cls := "ThreadTown$Text", name := "isIn", desc := "(II)Z" } : Jvm.MethodName) ({ cls := "ThreadTown$Text", name := "isIn", desc := "(II)Z" } : Jvm.MethodName)) ∈ lw_all := lw_g (lw_at lw_m5 109 rfl) rfl
theorem q1183 : (Jvm.Cond.code ({ cls := "ThreadTown$Text", name := "isIn", desc := "(II)Z" } : Jvm.MethodName) prog_17_method_4_code (3 : Nat) (Option.some Jvm.ClassFile.FieldType.boolean)) ∈ lw_all := lw_g (lw_at lw_m5 110 rfl) rfl
theorem q1184 : (Jvm.Cond.methodLink "ThreadTownLaw" (28 : Nat) ({ cls := "ThreadTown", name := "place", desc := "()I" } : Jvm.MethodName)) ∈ lw_all := lw_g (lw_at lw_m5 111 rfl) rfl
theorem q1185 : (Jvm.Cond.instanceMethod ({ cls := "ThreadTown", name := "place", desc := "()I" } : Jvm.MethodName)) ∈ lw_all := lw_g (lw_at lw_m5 112 rfl) rfl
theorem q1186 : (Jvm.Cond.selects "ThreadTown" ({ cls := "ThreadTown", name := "place", desc := "()I" } : Jvm.MethodName) ({ cls := "ThreadTown", name := "place", desc := "()I" } : Jvm.MethodName)) ∈ lw_all := lw_g (lw_at lw_m5 113 rfl) rfl
theorem q1187 : (Jvm.Cond.code ({ cls := "ThreadTown", name := "place", desc := "()I" } : Jvm.MethodName) prog_1_method_11_code (1 : Nat) (Option.some Jvm.ClassFile.FieldType.int)) ∈ lw_all := lw_g (lw_at lw_m5 114 rfl) rfl
theorem q1188 : (Jvm.Cond.methodLink "ThreadTownLaw" (32 : Nat) ({ cls := "ThreadTown", name := "man", desc := "(II)I" } : Jvm.MethodName)) ∈ lw_all := lw_g (lw_at lw_m5 115 rfl) rfl
theorem q1189 : (Jvm.Cond.instanceMethod ({ cls := "ThreadTown", name := "man", desc := "(II)I" } : Jvm.MethodName)) ∈ lw_all := lw_g (lw_at lw_m5 116 rfl) rfl
theorem q1190 : (Jvm.Cond.selects "ThreadTown" ({ cls := "ThreadTown", name := "man", desc := "(II)I" } : Jvm.MethodName) ({ cls := "ThreadTown", name := "man", desc := "(II)I" } : Jvm.MethodName)) ∈ lw_all := lw_g (lw_at lw_m5 117 rfl) rfl
theorem q1191 : (Jvm.Cond.code ({ cls := "ThreadTown", name := "man", desc := "(II)I" } : Jvm.MethodName) prog_1_method_16_code (4 : Nat) (Option.some Jvm.ClassFile.FieldType.int)) ∈ lw_all := lw_g (lw_at lw_m5 118 rfl) rfl
theorem q1192 : (Jvm.Cond.methodLink "ThreadTown" (179 : Nat) ({ cls := "ThreadTown", name := "isMan", desc := "(I)Z" } : Jvm.MethodName)) ∈ lw_all := lw_g (lw_at lw_m5 119 rfl) rfl
theorem q1193 : (Jvm.Cond.privateMethod ({ cls := "ThreadTown", name := "isMan", desc := "(I)Z" } : Jvm.MethodName)) ∈ lw_tbl := lw_at lw_m5 120 rfl
theorem q1194 : (Jvm.Cond.instanceMethod ({ cls := "ThreadTown", name := "isMan", desc := "(I)Z" } : Jvm.MethodName)) ∈ lw_all := lw_g (lw_at lw_m5 121 rfl) rfl
theorem q1195 : (Jvm.Cond.code ({ cls := "ThreadTown", name := "isMan", desc := "(I)Z" } : Jvm.MethodName) prog_1_method_14_code (2 : Nat) (Option.some Jvm.ClassFile.FieldType.boolean)) ∈ lw_all := lw_g (lw_at lw_m5 122 rfl) rfl
theorem q1196 : (Jvm.Cond.methodLink "ThreadTown" (173 : Nat) ({ cls := "ThreadTown", name := "men", desc := "()I" } : Jvm.MethodName)) ∈ lw_all := lw_g (lw_at lw_m5 123 rfl) rfl
theorem q1197 : (Jvm.Cond.privateMethod ({ cls := "ThreadTown", name := "men", desc := "()I" } : Jvm.MethodName)) ∈ lw_tbl := lw_at lw_m5 124 rfl
theorem q1198 : (Jvm.Cond.instanceMethod ({ cls := "ThreadTown", name := "men", desc := "()I" } : Jvm.MethodName)) ∈ lw_all := lw_g (lw_at lw_m5 125 rfl) rfl
theorem q1199 : (Jvm.Cond.code ({ cls := "ThreadTown", name := "men", desc := "()I" } : Jvm.MethodName) prog_1_method_13_code (1 : Nat) (Option.some Jvm.ClassFile.FieldType.int)) ∈ lw_all := lw_g (lw_at lw_m5 126 rfl) rfl
theorem q1200 : (Jvm.Cond.methodLink "ThreadTown" (167 : Nat) ({ cls := "java/util/ArrayList", name := "size", desc := "()I" } : Jvm.MethodName)) ∈ lw_all := lw_g (lw_at lw_m5 127 rfl) rfl
theorem q1201 : (Jvm.Cond.methodLink "ThreadTown" (175 : Nat) ({ cls := "ThreadTown", name := "isIn", desc := "(III)Z" } : Jvm.MethodName)) ∈ lw_all := lw_g (lw_at lw_m5 128 rfl) rfl
theorem q1202 : (Jvm.Cond.static ({ cls := "ThreadTown", name := "isIn", desc := "(III)Z" } : Jvm.MethodName)) ∈ lw_all := lw_g (lw_at lw_m5 129 rfl) rfl
theorem q1203 : (Jvm.Cond.code ({ cls := "ThreadTown", name := "isIn", desc := "(III)Z" } : Jvm.MethodName) prog_1_method_12_code (3 : Nat) (Option.some Jvm.ClassFile.FieldType.boolean)) ∈ lw_all := lw_g (lw_at lw_m5 130 rfl) rfl
theorem q1204 : (Jvm.Cond.methodLink "ThreadTown" (183 : Nat) ({ cls := "java/util/ArrayList", name := "get", desc := "(I)Ljava/lang/Object;" } : Jvm.MethodName)) ∈ lw_all := lw_g (lw_at lw_m5 131 rfl) rfl
theorem q1205 : (Jvm.Cond.classLink "ThreadTown" (187 : Nat) "ThreadTown$Man") ∈ lw_all := lw_g (lw_at lw_m5 132 rfl) rfl
theorem q1206 : (Jvm.Cond.methodLink "ThreadTown" (201 : Nat) ({ cls := "ThreadTown$Cloth", name := "isLost", desc := "(I)Z" } : Jvm.MethodName)) ∈ lw_all := lw_g (lw_at lw_m5 133 rfl) rfl
theorem q1207 : (Jvm.Cond.instanceMethod ({ cls := "ThreadTown$Cloth", name := "isLost", desc := "(I)Z" } : Jvm.MethodName)) ∈ lw_all := lw_g (lw_at lw_m5 134 rfl) rfl
theorem q1208 : (Jvm.Cond.selects "ThreadTown$Cloth" ({ cls := "ThreadTown$Cloth", name := "isLost", desc := "(I)Z" } : Jvm.MethodName) ({ cls := "ThreadTown$Cloth", name := "isLost", desc := "(I)Z" } : Jvm.MethodName)) ∈ lw_all := lw_g (lw_at lw_m5 135 rfl) rfl
theorem q1209 : (Jvm.Cond.code ({ cls := "ThreadTown$Cloth", name := "isLost", desc := "(I)Z" } : Jvm.MethodName) prog_8_method_5_code (2 : Nat) (Option.some Jvm.ClassFile.FieldType.boolean)) ∈ lw_all := lw_g (lw_at lw_m5 136 rfl) rfl
theorem q1210 : (Jvm.Cond.methodLink "ThreadTown" (206 : Nat) ({ cls := "java/lang/Math", name := "abs", desc := "(I)I" } : Jvm.MethodName)) ∈ lw_all := lw_g (lw_at lw_m5 137 rfl) rfl
theorem q1211 : (Jvm.Cond.static ({ cls := "java/lang/Math", name := "abs", desc := "(I)I" } : Jvm.MethodName)) ∈ lw_all := lw_g (lw_at lw_m5 138 rfl) rfl
theorem q1212 : (Jvm.Cond.code ({ cls := "java/lang/Math", name := "abs", desc := "(I)I" } : Jvm.MethodName) prog_31_method_59_code (1 : Nat) (Option.some Jvm.ClassFile.FieldType.int)) ∈ lw_all := lw_g (lw_at lw_m5 139 rfl) rfl
theorem q1213 : (Jvm.Cond.methodLink "ThreadTown" (211 : Nat) ({ cls := "ThreadTown$Cloth", name := "does", desc := "(LThreadTown$Text;II)I" } : Jvm.MethodName)) ∈ lw_all := lw_g (lw_at lw_m5 140 rfl) rfl
theorem q1214 : (Jvm.Cond.instanceMethod ({ cls := "ThreadTown$Cloth", name := "does", desc := "(LThreadTown$Text;II)I" } : Jvm.MethodName)) ∈ lw_all := lw_g (lw_at lw_m5 141 rfl) rfl
theorem q1215 : (Jvm.Cond.selects "ThreadTown$Cloth" ({ cls := "ThreadTown$Cloth", name := "does", desc := "(LThreadTown$Text;II)I" } : Jvm.MethodName) ({ cls := "ThreadTown$Cloth", name := "does", desc := "(LThreadTown$Text;II)I" } : Jvm.MethodName)) ∈ lw_all := lw_g (lw_at lw_m5 142 rfl) rfl
theorem q1216 : (Jvm.Cond.code ({ cls := "ThreadTown$Cloth", name := "does", desc := "(LThreadTown$Text;II)I" } : Jvm.MethodName) prog_8_method_11_code (5 : Nat) (Option.some Jvm.ClassFile.FieldType.int)) ∈ lw_all := lw_g (lw_at lw_m5 143 rfl) rfl
theorem q1217 : (Jvm.Cond.methodLink "ThreadTown$Cloth" (102 : Nat) ({ cls := "ThreadTown$Cloth", name := "isLost", desc := "(I)Z" } : Jvm.MethodName)) ∈ lw_all := lw_g (lw_at lw_m5 144 rfl) rfl
theorem q1218 : (Jvm.Cond.methodLinkNest "ThreadTown$Cloth" (131 : Nat) ({ cls := "ThreadTown", name := "lot", desc := "(III)I" } : Jvm.MethodName) "ThreadTown") ∈ lw_tbl := lw_at lw_m5 145 rfl
theorem q1219 : (Jvm.Cond.static ({ cls := "ThreadTown", name := "lot", desc := "(III)I" } : Jvm.MethodName)) ∈ lw_all := lw_g (lw_at lw_m5 146 rfl) rfl
theorem q1220 : (Jvm.Cond.code ({ cls := "ThreadTown", name := "lot", desc := "(III)I" } : Jvm.MethodName) prog_1_method_2_code (3 : Nat) (Option.some Jvm.ClassFile.FieldType.int)) ∈ lw_all := lw_g (lw_at lw_m5 147 rfl) rfl
theorem q1221 : (Jvm.Cond.methodLink "ThreadTown" (2 : Nat) ({ cls := "ThreadTown", name := "mixed", desc := "(II)I" } : Jvm.MethodName)) ∈ lw_all := lw_g (lw_at lw_m5 148 rfl) rfl
theorem q1222 : (Jvm.Cond.static ({ cls := "ThreadTown", name := "mixed", desc := "(II)I" } : Jvm.MethodName)) ∈ lw_all := lw_g (lw_at lw_m5 149 rfl) rfl
theorem q1223 : (Jvm.Cond.code ({ cls := "ThreadTown", name := "mixed", desc := "(II)I" } : Jvm.MethodName) prog_1_method_1_code (3 : Nat) (Option.some Jvm.ClassFile.FieldType.int)) ∈ lw_all := lw_g (lw_at lw_m5 150 rfl) rfl
theorem q1224 : (Jvm.Cond.constant "ThreadTown" (1 : Nat) (1103515245 : Int32)) ∈ lw_all := lw_g (lw_at lw_m5 151 rfl) rfl
theorem q1225 : (Jvm.Cond.methodLink "ThreadTownLaw" (37 : Nat) ({ cls := "ThreadTown", name := "piece", desc := "(III)I" } : Jvm.MethodName)) ∈ lw_all := lw_g (lw_at lw_m5 152 rfl) rfl
theorem q1226 : (Jvm.Cond.instanceMethod ({ cls := "ThreadTown", name := "piece", desc := "(III)I" } : Jvm.MethodName)) ∈ lw_all := lw_g (lw_at lw_m5 153 rfl) rfl
theorem q1227 : (Jvm.Cond.selects "ThreadTown" ({ cls := "ThreadTown", name := "piece", desc := "(III)I" } : Jvm.MethodName) ({ cls := "ThreadTown", name := "piece", desc := "(III)I" } : Jvm.MethodName)) ∈ lw_all := lw_g (lw_at lw_m5 154 rfl) rfl
theorem q1228 : (Jvm.Cond.code ({ cls := "ThreadTown", name := "piece", desc := "(III)I" } : Jvm.MethodName) prog_1_method_17_code (4 : Nat) (Option.some Jvm.ClassFile.FieldType.int)) ∈ lw_all := lw_g (lw_at lw_m5 155 rfl) rfl
theorem q1229 : (Jvm.Cond.methodLink "ThreadTown" (221 : Nat) ({ cls := "ThreadTown$Cloth", name := "around", desc := "(IIZ)I" } : Jvm.MethodName)) ∈ lw_all := lw_g (lw_at lw_m5 156 rfl) rfl
theorem q1230 : (Jvm.Cond.instanceMethod ({ cls := "ThreadTown$Cloth", name := "around", desc := "(IIZ)I" } : Jvm.MethodName)) ∈ lw_all := lw_g (lw_at lw_m5 157 rfl) rfl
theorem q1231 : (Jvm.Cond.selects "ThreadTown$Cloth" ({ cls := "ThreadTown$Cloth", name := "around", desc := "(IIZ)I" } : Jvm.MethodName) ({ cls := "ThreadTown$Cloth", name := "around", desc := "(IIZ)I" } : Jvm.MethodName)) ∈ lw_all := lw_g (lw_at lw_m5 158 rfl) rfl
theorem q1232 : (Jvm.Cond.code ({ cls := "ThreadTown$Cloth", name := "around", desc := "(IIZ)I" } : Jvm.MethodName) prog_8_method_7_code (7 : Nat) (Option.some Jvm.ClassFile.FieldType.int)) ∈ lw_all := lw_g (lw_at lw_m5 159 rfl) rfl
theorem q1233 : (Jvm.Cond.methodLink "ThreadTownLaw" (42 : Nat) ({ cls := "ThreadTown", name := "step", desc := "(II)Z" } : Jvm.MethodName)) ∈ lw_all := lw_g (lw_at lw_m5 160 rfl) rfl
theorem q1234 : (Jvm.Cond.instanceMethod ({ cls := "ThreadTown", name := "step", desc := "(II)Z" } : Jvm.MethodName)) ∈ lw_all := lw_g (lw_at lw_m5 161 rfl) rfl
theorem q1235 : (Jvm.Cond.selects "ThreadTown" ({ cls := "ThreadTown", name := "step", desc := "(II)Z" } : Jvm.MethodName) ({ cls := "ThreadTown", name := "step", desc := "(II)Z" } : Jvm.MethodName)) ∈ lw_all := lw_g (lw_at lw_m5 162 rfl) rfl
theorem q1236 : (Jvm.Cond.code ({ cls := "ThreadTown", name := "step", desc := "(II)Z" } : Jvm.MethodName) prog_1_method_19_code (3 : Nat) (Option.some Jvm.ClassFile.FieldType.boolean)) ∈ lw_all := lw_g (lw_at lw_m5 163 rfl) rfl
theorem q1237 : (Jvm.Cond.methodLink "ThreadTown" (228 : Nat) ({ cls := "ThreadTown$Cloth", name := "takes", desc := "(LThreadTown$Cloth;)V" } : Jvm.MethodName)) ∈ lw_all := lw_g (lw_at lw_m5 164 rfl) rfl
theorem q1238 : (Jvm.Cond.instanceMethod ({ cls := "ThreadTown$Cloth", name := "takes", desc := "(LThreadTown$Cloth;)V" } : Jvm.MethodName)) ∈ lw_all := lw_g (lw_at lw_m5 165 rfl) rfl
theorem q1239 : (Jvm.Cond.selects "ThreadTown$Cloth" ({ cls := "ThreadTown$Cloth", name := "takes", desc := "(LThreadTown$Cloth;)V" } : Jvm.MethodName) ({ cls := "ThreadTown$Cloth", name := "takes", desc := "(LThreadTown$Cloth;)V" } : Jvm.MethodName)) ∈ lw_all := lw_g (lw_at lw_m5 166 rfl) rfl
theorem q1240 : (Jvm.Cond.code ({ cls := "ThreadTown$Cloth", name := "takes", desc := "(LThreadTown$Cloth;)V" } : Jvm.MethodName) prog_8_method_3_code (3 : Nat) (Option.none : Option Jvm.ClassFile.FieldType)) ∈ lw_all := lw_g (lw_at lw_m5 167 rfl) rfl
theorem q1241 : (Jvm.Cond.methodLink "ThreadTown$Cloth" (87 : Nat) ({ cls := "java/lang/System", name := "arraycopy", desc := "(Ljava/lang/Object;ILjava/lang/Object;II)V" } : Jvm.MethodName)) ∈ lw_all := lw_g (lw_at lw_m5 168 rfl) rfl
theorem q1242 : (Jvm.Cond.methodLink "ThreadTown" (232 : Nat) ({ cls := "ThreadTown$Cloth", name := "steps", desc := "(LThreadTown$Text;II)Z" } : Jvm.MethodName)) ∈ lw_all := lw_g (lw_at lw_m5 169 rfl) rfl
theorem q1243 : (Jvm.Cond.instanceMethod ({ cls := "ThreadTown$Cloth", name := "steps", desc := "(LThreadTown$Text;II)Z" } : Jvm.MethodName)) ∈ lw_all := lw_g (lw_at lw_m5 170 rfl) rfl
theorem q1244 : (Jvm.Cond.selects "ThreadTown$Cloth" ({ cls := "ThreadTown$Cloth", name := "steps", desc := "(LThreadTown$Text;II)Z" } : Jvm.MethodName) ({ cls := "ThreadTown$Cloth", name := "steps", desc := "(LThreadTown$Text;II)Z" } : Jvm.MethodName)) ∈ lw_all := lw_g (lw_at lw_m5 171 rfl) rfl
theorem q1245 : (Jvm.Cond.code ({ cls := "ThreadTown$Cloth", name := "steps", desc := "(LThreadTown$Text;II)Z" } : Jvm.MethodName) prog_8_method_6_code (4 : Nat) (Option.some Jvm.ClassFile.FieldType.boolean)) ∈ lw_all := lw_g (lw_at lw_m5 172 rfl) rfl
theorem q1246 : (Jvm.Cond.methodLinkNest "ThreadTown$Cloth" (106 : Nat) ({ cls := "ThreadTown", name := "byX", desc := "(I)I" } : Jvm.MethodName) "ThreadTown") ∈ lw_tbl := lw_at lw_m5 173 rfl
theorem q1247 : (Jvm.Cond.static ({ cls := "ThreadTown", name := "byX", desc := "(I)I" } : Jvm.MethodName)) ∈ lw_all := lw_g (lw_at lw_m5 174 rfl) rfl
theorem q1248 : (Jvm.Cond.code ({ cls := "ThreadTown", name := "byX", desc := "(I)I" } : Jvm.MethodName) prog_1_method_3_code (1 : Nat) (Option.some Jvm.ClassFile.FieldType.int)) ∈ lw_all := lw_g (lw_at lw_m5 175 rfl) rfl
theorem q1249 : (Jvm.Cond.methodLinkNest "ThreadTown$Cloth" (110 : Nat) ({ cls := "ThreadTown", name := "byY", desc := "(I)I" } : Jvm.MethodName) "ThreadTown") ∈ lw_tbl := lw_at lw_m5 176 rfl
theorem q1250 : (Jvm.Cond.static ({ cls := "ThreadTown", name := "byY", desc := "(I)I" } : Jvm.MethodName)) ∈ lw_all := lw_g (lw_at lw_m5 177 rfl) rfl
theorem q1251 : (Jvm.Cond.code ({ cls := "ThreadTown", name := "byY", desc := "(I)I" } : Jvm.MethodName) prog_1_method_4_code (1 : Nat) (Option.some Jvm.ClassFile.FieldType.int)) ∈ lw_all := lw_g (lw_at lw_m5 178 rfl) rfl
theorem q1252 : (Jvm.Cond.methodLink "ThreadTown$Cloth" (113 : Nat) ({ cls := "ThreadTown$Text", name := "isIn", desc := "(II)Z" } : Jvm.MethodName)) ∈ lw_all := lw_g (lw_at lw_m5 179 rfl) rfl
theorem q1253 : (Jvm.Cond.methodLinkNest "ThreadTown$Cloth" (117 : Nat) ({ cls := "ThreadTown", name := "streetOf", desc := "(III)I" } : Jvm.MethodName) "ThreadTown") ∈ lw_tbl := lw_at lw_m5 180 rfl
theorem q1254 : (Jvm.Cond.static ({ cls := "ThreadTown", name := "streetOf", desc := "(III)I" } : Jvm.MethodName)) ∈ lw_all := lw_g (lw_at lw_m5 181 rfl) rfl
theorem q1255 : (Jvm.Cond.code ({ cls := "ThreadTown", name := "streetOf", desc := "(III)I" } : Jvm.MethodName) prog_1_method_5_code (5 : Nat) (Option.some Jvm.ClassFile.FieldType.int)) ∈ lw_all := lw_g (lw_at lw_m5 182 rfl) rfl
theorem q1256 : (Jvm.Cond.methodLink "ThreadTown" (8 : Nat) ({ cls := "ThreadTown", name := "byX", desc := "(I)I" } : Jvm.MethodName)) ∈ lw_all := lw_g (lw_at lw_m5 183 rfl) rfl
theorem q1257 : (Jvm.Cond.methodLink "ThreadTown" (12 : Nat) ({ cls := "java/lang/Math", name := "min", desc := "(II)I" } : Jvm.MethodName)) ∈ lw_all := lw_g (lw_at lw_m5 184 rfl) rfl
theorem q1258 : (Jvm.Cond.methodLink "ThreadTown" (17 : Nat) ({ cls := "ThreadTown", name := "byY", desc := "(I)I" } : Jvm.MethodName)) ∈ lw_all := lw_g (lw_at lw_m5 185 rfl) rfl
theorem q1259 : (Jvm.Cond.methodLink "ThreadTown" (236 : Nat) ({ cls := "ThreadTown", name := "keeps", desc := "()V" } : Jvm.MethodName)) ∈ lw_all := lw_g (lw_at lw_m5 186 rfl) rfl
theorem q1260 : (Jvm.Cond.privateMethod ({ cls := "ThreadTown", name := "keeps", desc := "()V" } : Jvm.MethodName)) ∈ lw_tbl := lw_at lw_m5 187 rfl
theorem q1261 : (Jvm.Cond.instanceMethod ({ cls := "ThreadTown", name := "keeps", desc := "()V" } : Jvm.MethodName)) ∈ lw_all := lw_g (lw_at lw_m5 188 rfl) rfl
theorem q1262 : (Jvm.Cond.code ({ cls := "ThreadTown", name := "keeps", desc := "()V" } : Jvm.MethodName) prog_1_method_18_code (1 : Nat) (Option.none : Option Jvm.ClassFile.FieldType)) ∈ lw_all := lw_g (lw_at lw_m5 189 rfl) rfl
theorem q1263 : (Jvm.Cond.methodLink "ThreadTownLaw" (47 : Nat) ({ cls := "ThreadTown", name := "wind", desc := "(I)Z" } : Jvm.MethodName)) ∈ lw_all := lw_g (lw_at lw_m5 190 rfl) rfl
theorem q1264 : (Jvm.Cond.instanceMethod ({ cls := "ThreadTown", name := "wind", desc := "(I)Z" } : Jvm.MethodName)) ∈ lw_all := lw_g (lw_at lw_m5 191 rfl) rfl
theorem q1265 : (Jvm.Cond.selects "ThreadTown" ({ cls := "ThreadTown", name := "wind", desc := "(I)Z" } : Jvm.MethodName) ({ cls := "ThreadTown", name := "wind", desc := "(I)Z" } : Jvm.MethodName)) ∈ lw_all := lw_g (lw_at lw_m5 192 rfl) rfl
theorem q1266 : (Jvm.Cond.code ({ cls := "ThreadTown", name := "wind", desc := "(I)Z" } : Jvm.MethodName) prog_1_method_20_code (2 : Nat) (Option.some Jvm.ClassFile.FieldType.boolean)) ∈ lw_all := lw_g (lw_at lw_m5 193 rfl) rfl
theorem q1267 : (Jvm.Cond.methodLink "ThreadTown" (239 : Nat) ({ cls := "ThreadTown$Cloth", name := "winds", desc := "(I)Z" } : Jvm.MethodName)) ∈ lw_all := lw_g (lw_at lw_m5 194 rfl) rfl
theorem q1268 : (Jvm.Cond.instanceMethod ({ cls := "ThreadTown$Cloth", name := "winds", desc := "(I)Z" } : Jvm.MethodName)) ∈ lw_all := lw_g (lw_at lw_m5 195 rfl) rfl
theorem q1269 : (Jvm.Cond.selects "ThreadTown$Cloth" ({ cls := "ThreadTown$Cloth", name := "winds", desc := "(I)Z" } : Jvm.MethodName) ({ cls := "ThreadTown$Cloth", name := "winds", desc := "(I)Z" } : Jvm.MethodName)) ∈ lw_all := lw_g (lw_at lw_m5 196 rfl) rfl
theorem q1270 : (Jvm.Cond.code ({ cls := "ThreadTown$Cloth", name := "winds", desc := "(I)Z" } : Jvm.MethodName) prog_8_method_8_code (3 : Nat) (Option.some Jvm.ClassFile.FieldType.boolean)) ∈ lw_all := lw_g (lw_at lw_m5 197 rfl) rfl
theorem q1271 : (Jvm.Cond.methodLink "ThreadTown$Cloth" (121 : Nat) ({ cls := "ThreadTown$Cloth", name := "around", desc := "(IIZ)I" } : Jvm.MethodName)) ∈ lw_all := lw_g (lw_at lw_m5 198 rfl) rfl
theorem q1272 : (Jvm.Cond.methodLink "ThreadTownLaw" (52 : Nat) ({ cls := "ThreadTown", name := "home", desc := "(I)I" } : Jvm.MethodName)) ∈ lw_all := lw_g (lw_at lw_m5 199 rfl) rfl
theorem q1273 : (Jvm.Cond.instanceMethod ({ cls := "ThreadTown", name := "home", desc := "(I)I" } : Jvm.MethodName)) ∈ lw_all := lw_g (lw_at lw_m5 200 rfl) rfl
theorem q1274 : (Jvm.Cond.selects "ThreadTown" ({ cls := "ThreadTown", name := "home", desc := "(I)I" } : Jvm.MethodName) ({ cls := "ThreadTown", name := "home", desc := "(I)I" } : Jvm.MethodName)) ∈ lw_all := lw_g (lw_at lw_m5 201 rfl) rfl
theorem q1275 : (Jvm.Cond.code ({ cls := "ThreadTown", name := "home", desc := "(I)I" } : Jvm.MethodName) prog_1_method_21_code (3 : Nat) (Option.some Jvm.ClassFile.FieldType.int)) ∈ lw_all := lw_g (lw_at lw_m5 202 rfl) rfl
theorem q1276 : (Jvm.Cond.methodLink "ThreadTownLaw" (56 : Nat) ({ cls := "ThreadTown", name := "cut", desc := "(I)I" } : Jvm.MethodName)) ∈ lw_all := lw_g (lw_at lw_m5 203 rfl) rfl
theorem q1277 : (Jvm.Cond.instanceMethod ({ cls := "ThreadTown", name := "cut", desc := "(I)I" } : Jvm.MethodName)) ∈ lw_all := lw_g (lw_at lw_m5 204 rfl) rfl
theorem q1278 : (Jvm.Cond.selects "ThreadTown" ({ cls := "ThreadTown", name := "cut", desc := "(I)I" } : Jvm.MethodName) ({ cls := "ThreadTown", name := "cut", desc := "(I)I" } : Jvm.MethodName)) ∈ lw_all := lw_g (lw_at lw_m5 205 rfl) rfl
theorem q1279 : (Jvm.Cond.code ({ cls := "ThreadTown", name := "cut", desc := "(I)I" } : Jvm.MethodName) prog_1_method_22_code (2 : Nat) (Option.some Jvm.ClassFile.FieldType.int)) ∈ lw_all := lw_g (lw_at lw_m5 206 rfl) rfl
theorem q1280 : (Jvm.Cond.methodLink "ThreadTown" (242 : Nat) ({ cls := "ThreadTown$Cloth", name := "cuts", desc := "(I)I" } : Jvm.MethodName)) ∈ lw_all := lw_g (lw_at lw_m5 207 rfl) rfl
theorem q1281 : (Jvm.Cond.instanceMethod ({ cls := "ThreadTown$Cloth", name := "cuts", desc := "(I)I" } : Jvm.MethodName)) ∈ lw_all := lw_g (lw_at lw_m5 208 rfl) rfl
theorem q1282 : (Jvm.Cond.selects "ThreadTown$Cloth" ({ cls := "ThreadTown$Cloth", name := "cuts", desc := "(I)I" } : Jvm.MethodName) ({ cls := "ThreadTown$Cloth", name := "cuts", desc := "(I)I" } : Jvm.MethodName)) ∈ lw_all := lw_g (lw_at lw_m5 209 rfl) rfl
theorem q1283 : (Jvm.Cond.code ({ cls := "ThreadTown$Cloth", name := "cuts", desc := "(I)I" } : Jvm.MethodName) prog_8_method_10_code (3 : Nat) (Option.some Jvm.ClassFile.FieldType.int)) ∈ lw_all := lw_g (lw_at lw_m5 210 rfl) rfl
theorem q1284 : (Jvm.Cond.methodLink "ThreadTownLaw" (60 : Nat) ({ cls := "ThreadTown", name := "run", desc := "(I)I" } : Jvm.MethodName)) ∈ lw_all := lw_g (lw_at lw_m5 211 rfl) rfl
theorem q1285 : (Jvm.Cond.instanceMethod ({ cls := "ThreadTown", name := "run", desc := "(I)I" } : Jvm.MethodName)) ∈ lw_all := lw_g (lw_at lw_m5 212 rfl) rfl
theorem q1286 : (Jvm.Cond.selects "ThreadTown" ({ cls := "ThreadTown", name := "run", desc := "(I)I" } : Jvm.MethodName) ({ cls := "ThreadTown", name := "run", desc := "(I)I" } : Jvm.MethodName)) ∈ lw_all := lw_g (lw_at lw_m5 213 rfl) rfl
theorem q1287 : (Jvm.Cond.code ({ cls := "ThreadTown", name := "run", desc := "(I)I" } : Jvm.MethodName) prog_1_method_23_code (3 : Nat) (Option.some Jvm.ClassFile.FieldType.int)) ∈ lw_all := lw_g (lw_at lw_m5 214 rfl) rfl
theorem q1288 : (Jvm.Cond.methodLink "ThreadTown" (245 : Nat) ({ cls := "ThreadTown$Cloth", name := "minute", desc := "(LThreadTown$Text;)V" } : Jvm.MethodName)) ∈ lw_all := lw_g (lw_at lw_m5 215 rfl) rfl
theorem q1289 : (Jvm.Cond.instanceMethod ({ cls := "ThreadTown$Cloth", name := "minute", desc := "(LThreadTown$Text;)V" } : Jvm.MethodName)) ∈ lw_all := lw_g (lw_at lw_m5 216 rfl) rfl
theorem q1290 : (Jvm.Cond.selects "ThreadTown$Cloth" ({ cls := "ThreadTown$Cloth", name := "minute", desc := "(LThreadTown$Text;)V" } : Jvm.MethodName) ({ cls := "ThreadTown$Cloth", name := "minute", desc := "(LThreadTown$Text;)V" } : Jvm.MethodName)) ∈ lw_all := lw_g (lw_at lw_m5 217 rfl) rfl
theorem q1291 : (Jvm.Cond.code ({ cls := "ThreadTown$Cloth", name := "minute", desc := "(LThreadTown$Text;)V" } : Jvm.MethodName) prog_8_method_13_code (3 : Nat) (Option.none : Option Jvm.ClassFile.FieldType)) ∈ lw_all := lw_g (lw_at lw_m5 218 rfl) rfl
theorem q1292 : (Jvm.Cond.methodLink "ThreadTown$Cloth" (145 : Nat) ({ cls := "ThreadTown$Cloth", name := "goes", desc := "(LThreadTown$Text;II)V" } : Jvm.MethodName)) ∈ lw_all := lw_g (lw_at lw_m5 219 rfl) rfl
theorem q1293 : (Jvm.Cond.instanceMethod ({ cls := "ThreadTown$Cloth", name := "goes", desc := "(LThreadTown$Text;II)V" } : Jvm.MethodName)) ∈ lw_all := lw_g (lw_at lw_m5 220 rfl) rfl
theorem q1294 : (Jvm.Cond.selects "ThreadTown$Cloth" ({ cls := "ThreadTown$Cloth", name := "goes", desc := "(LThreadTown$Text;II)V" } : Jvm.MethodName) ({ cls := "ThreadTown$Cloth", name := "goes", desc := "(LThreadTown$Text;II)V" } : Jvm.MethodName)) ∈ lw_all := lw_g (lw_at lw_m5 221 rfl) rfl
theorem q1295 : (Jvm.Cond.code ({ cls := "ThreadTown$Cloth", name := "goes", desc := "(LThreadTown$Text;II)V" } : Jvm.MethodName) prog_8_method_12_code (6 : Nat) (Option.none : Option Jvm.ClassFile.FieldType)) ∈ lw_all := lw_g (lw_at lw_m5 222 rfl) rfl
theorem q1296 : (Jvm.Cond.methodLink "ThreadTown$Cloth" (134 : Nat) ({ cls := "ThreadTown$Cloth", name := "does", desc := "(LThreadTown$Text;II)I" } : Jvm.MethodName)) ∈ lw_all := lw_g (lw_at lw_m5 223 rfl) rfl
theorem q1297 : (Jvm.Cond.methodLink "ThreadTown$Cloth" (138 : Nat) ({ cls := "ThreadTown$Cloth", name := "winds", desc := "(I)Z" } : Jvm.MethodName)) ∈ lw_all := lw_g (lw_at lw_m5 224 rfl) rfl
theorem q1298 : (Jvm.Cond.methodLink "ThreadTown$Cloth" (141 : Nat) ({ cls := "ThreadTown$Cloth", name := "steps", desc := "(LThreadTown$Text;II)Z" } : Jvm.MethodName)) ∈ lw_all := lw_g (lw_at lw_m5 225 rfl) rfl
theorem q1299 : (Jvm.Cond.methodLink "ThreadTownLaw" (64 : Nat) ({ cls := "ThreadTown", name := "undo", desc := "()Z" } : Jvm.MethodName)) ∈ lw_all := lw_g (lw_at lw_m5 226 rfl) rfl
theorem q1300 : (Jvm.Cond.instanceMethod ({ cls := "ThreadTown", name := "undo", desc := "()Z" } : Jvm.MethodName)) ∈ lw_all := lw_g (lw_at lw_m5 227 rfl) rfl
theorem q1301 : (Jvm.Cond.selects "ThreadTown" ({ cls := "ThreadTown", name := "undo", desc := "()Z" } : Jvm.MethodName) ({ cls := "ThreadTown", name := "undo", desc := "()Z" } : Jvm.MethodName)) ∈ lw_all := lw_g (lw_at lw_m5 228 rfl) rfl
theorem q1302 : (Jvm.Cond.code ({ cls := "ThreadTown", name := "undo", desc := "()Z" } : Jvm.MethodName) prog_1_method_24_code (1 : Nat) (Option.some Jvm.ClassFile.FieldType.boolean)) ∈ lw_all := lw_g (lw_at lw_m5 229 rfl) rfl
theorem q1303 : (Jvm.Cond.methodLink "ThreadTownLaw" (69 : Nat) ({ cls := "ThreadTown", name := "over", desc := "(II)I" } : Jvm.MethodName)) ∈ lw_all := lw_g (lw_at lw_m5 230 rfl) rfl
theorem q1304 : (Jvm.Cond.instanceMethod ({ cls := "ThreadTown", name := "over", desc := "(II)I" } : Jvm.MethodName)) ∈ lw_all := lw_g (lw_at lw_m5 231 rfl) rfl
theorem q1305 : (Jvm.Cond.selects "ThreadTown" ({ cls := "ThreadTown", name := "over", desc := "(II)I" } : Jvm.MethodName) ({ cls := "ThreadTown", name := "over", desc := "(II)I" } : Jvm.MethodName)) ∈ lw_all := lw_g (lw_at lw_m5 232 rfl) rfl
theorem q1306 : (Jvm.Cond.code ({ cls := "ThreadTown", name := "over", desc := "(II)I" } : Jvm.MethodName) prog_1_method_25_code (3 : Nat) (Option.some Jvm.ClassFile.FieldType.int)) ∈ lw_all := lw_g (lw_at lw_m5 233 rfl) rfl
theorem q1307 : (Jvm.Cond.methodLink "ThreadTown" (250 : Nat) ({ cls := "ThreadTown", name := "areTwo", desc := "(II)Z" } : Jvm.MethodName)) ∈ lw_all := lw_g (lw_at lw_m5 234 rfl) rfl
theorem q1308 : (Jvm.Cond.privateMethod ({ cls := "ThreadTown", name := "areTwo", desc := "(II)Z" } : Jvm.MethodName)) ∈ lw_tbl := lw_at lw_m5 235 rfl
theorem q1309 : (Jvm.Cond.instanceMethod ({ cls := "ThreadTown", name := "areTwo", desc := "(II)Z" } : Jvm.MethodName)) ∈ lw_all := lw_g (lw_at lw_m5 236 rfl) rfl
theorem q1310 : (Jvm.Cond.code ({ cls := "ThreadTown", name := "areTwo", desc := "(II)Z" } : Jvm.MethodName) prog_1_method_15_code (3 : Nat) (Option.some Jvm.ClassFile.FieldType.boolean)) ∈ lw_all := lw_g (lw_at lw_m5 237 rfl) rfl
theorem q1311 : (Jvm.Cond.methodLink "ThreadTown" (254 : Nat) ({ cls := "ThreadTown$Cloth", name := "over", desc := "(II)I" } : Jvm.MethodName)) ∈ lw_all := lw_g (lw_at lw_m5 238 rfl) rfl
theorem q1312 : (Jvm.Cond.instanceMethod ({ cls := "ThreadTown$Cloth", name := "over", desc := "(II)I" } : Jvm.MethodName)) ∈ lw_all := lw_g (lw_at lw_m5 239 rfl) rfl
theorem q1313 : (Jvm.Cond.selects "ThreadTown$Cloth" ({ cls := "ThreadTown$Cloth", name := "over", desc := "(II)I" } : Jvm.MethodName) ({ cls := "ThreadTown$Cloth", name := "over", desc := "(II)I" } : Jvm.MethodName)) ∈ lw_all := lw_g (lw_at lw_m6 0 rfl) rfl
theorem q1314 : (Jvm.Cond.code ({ cls := "ThreadTown$Cloth", name := "over", desc := "(II)I" } : Jvm.MethodName) prog_8_method_9_code (6 : Nat) (Option.some Jvm.ClassFile.FieldType.int)) ∈ lw_all := lw_g (lw_at lw_m6 1 rfl) rfl
theorem q1315 : (Jvm.Cond.methodLink "ThreadTownLaw" (73 : Nat) ({ cls := "ThreadTown", name := "waits", desc := "(I)I" } : Jvm.MethodName)) ∈ lw_all := lw_g (lw_at lw_m6 2 rfl) rfl
theorem q1316 : (Jvm.Cond.instanceMethod ({ cls := "ThreadTown", name := "waits", desc := "(I)I" } : Jvm.MethodName)) ∈ lw_all := lw_g (lw_at lw_m6 3 rfl) rfl
theorem q1317 : (Jvm.Cond.selects "ThreadTown" ({ cls := "ThreadTown", name := "waits", desc := "(I)I" } : Jvm.MethodName) ({ cls := "ThreadTown", name := "waits", desc := "(I)I" } : Jvm.MethodName)) ∈ lw_all := lw_g (lw_at lw_m6 4 rfl) rfl
theorem q1318 : (Jvm.Cond.code ({ cls := "ThreadTown", name := "waits", desc := "(I)I" } : Jvm.MethodName) prog_1_method_26_code (4 : Nat) (Option.some Jvm.ClassFile.FieldType.int)) ∈ lw_all := lw_g (lw_at lw_m6 5 rfl) rfl
theorem q1319 : (Jvm.Cond.methodLink "ThreadTownLaw" (77 : Nat) ({ cls := "ThreadTown", name := "orders", desc := "()I" } : Jvm.MethodName)) ∈ lw_all := lw_g (lw_at lw_m6 6 rfl) rfl
theorem q1320 : (Jvm.Cond.instanceMethod ({ cls := "ThreadTown", name := "orders", desc := "()I" } : Jvm.MethodName)) ∈ lw_all := lw_g (lw_at lw_m6 7 rfl) rfl
theorem q1321 : (Jvm.Cond.selects "ThreadTown" ({ cls := "ThreadTown", name := "orders", desc := "()I" } : Jvm.MethodName) ({ cls := "ThreadTown", name := "orders", desc := "()I" } : Jvm.MethodName)) ∈ lw_all := lw_g (lw_at lw_m6 8 rfl) rfl
theorem q1322 : (Jvm.Cond.code ({ cls := "ThreadTown", name := "orders", desc := "()I" } : Jvm.MethodName) prog_1_method_28_code (1 : Nat) (Option.some Jvm.ClassFile.FieldType.int)) ∈ lw_all := lw_g (lw_at lw_m6 9 rfl) rfl
theorem q1323 : (Jvm.Cond.methodLink "ThreadTown" (260 : Nat) ({ cls := "ThreadTown", name := "laysWaits", desc := "()I" } : Jvm.MethodName)) ∈ lw_all := lw_g (lw_at lw_m6 10 rfl) rfl
theorem q1324 : (Jvm.Cond.privateMethod ({ cls := "ThreadTown", name := "laysWaits", desc := "()I" } : Jvm.MethodName)) ∈ lw_tbl := lw_at lw_m6 11 rfl
theorem q1325 : (Jvm.Cond.instanceMethod ({ cls := "ThreadTown", name := "laysWaits", desc := "()I" } : Jvm.MethodName)) ∈ lw_all := lw_g (lw_at lw_m6 12 rfl) rfl
theorem q1326 : (Jvm.Cond.code ({ cls := "ThreadTown", name := "laysWaits", desc := "()I" } : Jvm.MethodName) prog_1_method_27_code (4 : Nat) (Option.some Jvm.ClassFile.FieldType.int)) ∈ lw_all := lw_g (lw_at lw_m6 13 rfl) rfl
theorem q1327 : (Jvm.Cond.methodLink "ThreadTown" (257 : Nat) ({ cls := "ThreadTown", name := "waits", desc := "(I)I" } : Jvm.MethodName)) ∈ lw_all := lw_g (lw_at lw_m6 14 rfl) rfl
theorem q1328 : (Jvm.Cond.methodLink "ThreadTownLaw" (81 : Nat) ({ cls := "ThreadTown", name := "orderAt", desc := "(I)I" } : Jvm.MethodName)) ∈ lw_all := lw_g (lw_at lw_m6 15 rfl) rfl
theorem q1329 : (Jvm.Cond.instanceMethod ({ cls := "ThreadTown", name := "orderAt", desc := "(I)I" } : Jvm.MethodName)) ∈ lw_all := lw_g (lw_at lw_m6 16 rfl) rfl
theorem q1330 : (Jvm.Cond.selects "ThreadTown" ({ cls := "ThreadTown", name := "orderAt", desc := "(I)I" } : Jvm.MethodName) ({ cls := "ThreadTown", name := "orderAt", desc := "(I)I" } : Jvm.MethodName)) ∈ lw_all := lw_g (lw_at lw_m6 17 rfl) rfl
theorem q1331 : (Jvm.Cond.code ({ cls := "ThreadTown", name := "orderAt", desc := "(I)I" } : Jvm.MethodName) prog_1_method_29_code (5 : Nat) (Option.some Jvm.ClassFile.FieldType.int)) ∈ lw_all := lw_g (lw_at lw_m6 18 rfl) rfl
theorem q1332 : (Jvm.Cond.methodLink "ThreadTownLaw" (85 : Nat) ({ cls := "ThreadTown", name := "cuts", desc := "(I)I" } : Jvm.MethodName)) ∈ lw_all := lw_g (lw_at lw_m6 19 rfl) rfl
theorem q1333 : (Jvm.Cond.instanceMethod ({ cls := "ThreadTown", name := "cuts", desc := "(I)I" } : Jvm.MethodName)) ∈ lw_all := lw_g (lw_at lw_m6 20 rfl) rfl
theorem q1334 : (Jvm.Cond.selects "ThreadTown" ({ cls := "ThreadTown", name := "cuts", desc := "(I)I" } : Jvm.MethodName) ({ cls := "ThreadTown", name := "cuts", desc := "(I)I" } : Jvm.MethodName)) ∈ lw_all := lw_g (lw_at lw_m6 21 rfl) rfl
theorem q1335 : (Jvm.Cond.code ({ cls := "ThreadTown", name := "cuts", desc := "(I)I" } : Jvm.MethodName) prog_1_method_32_code (3 : Nat) (Option.some Jvm.ClassFile.FieldType.int)) ∈ lw_all := lw_g (lw_at lw_m6 22 rfl) rfl
theorem q1336 : (Jvm.Cond.methodLink "ThreadTown" (271 : Nat) ({ cls := "ThreadTown", name := "leastCut", desc := "()I" } : Jvm.MethodName)) ∈ lw_all := lw_g (lw_at lw_m6 23 rfl) rfl
theorem q1337 : (Jvm.Cond.privateMethod ({ cls := "ThreadTown", name := "leastCut", desc := "()I" } : Jvm.MethodName)) ∈ lw_tbl := lw_at lw_m6 24 rfl
theorem q1338 : (Jvm.Cond.instanceMethod ({ cls := "ThreadTown", name := "leastCut", desc := "()I" } : Jvm.MethodName)) ∈ lw_all := lw_g (lw_at lw_m6 25 rfl) rfl
theorem q1339 : (Jvm.Cond.code ({ cls := "ThreadTown", name := "leastCut", desc := "()I" } : Jvm.MethodName) prog_1_method_31_code (6 : Nat) (Option.some Jvm.ClassFile.FieldType.int)) ∈ lw_all := lw_g (lw_at lw_m6 26 rfl) rfl
theorem q1340 : (Jvm.Cond.methodLink "ThreadTown" (263 : Nat) ({ cls := "java/lang/Integer", name := "bitCount", desc := "(I)I" } : Jvm.MethodName)) ∈ lw_all := lw_g (lw_at lw_m6 27 rfl) rfl
theorem q1341 : (Jvm.Cond.static ({ cls := "java/lang/Integer", name := "bitCount", desc := "(I)I" } : Jvm.MethodName)) ∈ lw_all := lw_g (lw_at lw_m6 28 rfl) rfl
theorem q1342 : (Jvm.Cond.code ({ cls := "java/lang/Integer", name := "bitCount", desc := "(I)I" } : Jvm.MethodName) prog_29_method_49_code (1 : Nat) (Option.some Jvm.ClassFile.FieldType.int)) ∈ lw_all := lw_g (lw_at lw_m6 29 rfl) rfl
theorem q1343 : (Jvm.Cond.constant "java/lang/Integer" (265 : Nat) (1431655765 : Int32)) ∈ lw_all := lw_g (lw_at lw_m6 30 rfl) rfl
theorem q1344 : (Jvm.Cond.constant "java/lang/Integer" (266 : Nat) (858993459 : Int32)) ∈ lw_all := lw_g (lw_at lw_m6 31 rfl) rfl
theorem q1345 : (Jvm.Cond.constant "java/lang/Integer" (267 : Nat) (252645135 : Int32)) ∈ lw_all := lw_g (lw_at lw_m6 32 rfl) rfl
theorem q1346 : (Jvm.Cond.methodLink "ThreadTown" (268 : Nat) ({ cls := "ThreadTown", name := "piecesOf", desc := "(I)I" } : Jvm.MethodName)) ∈ lw_all := lw_g (lw_at lw_m6 33 rfl) rfl
theorem q1347 : (Jvm.Cond.privateMethod ({ cls := "ThreadTown", name := "piecesOf", desc := "(I)I" } : Jvm.MethodName)) ∈ lw_tbl := lw_at lw_m6 34 rfl
theorem q1348 : (Jvm.Cond.instanceMethod ({ cls := "ThreadTown", name := "piecesOf", desc := "(I)I" } : Jvm.MethodName)) ∈ lw_all := lw_g (lw_at lw_m6 35 rfl) rfl
theorem q1349 : (Jvm.Cond.code ({ cls := "ThreadTown", name := "piecesOf", desc := "(I)I" } : Jvm.MethodName) prog_1_method_30_code (4 : Nat) (Option.some Jvm.ClassFile.FieldType.int)) ∈ lw_all := lw_g (lw_at lw_m6 36 rfl) rfl
theorem q1350 : (Jvm.Cond.methodLink "ThreadTownLaw" (89 : Nat) ({ cls := "ThreadTown", name := "way", desc := "(I)I" } : Jvm.MethodName)) ∈ lw_all := lw_g (lw_at lw_m6 37 rfl) rfl
theorem q1351 : (Jvm.Cond.instanceMethod ({ cls := "ThreadTown", name := "way", desc := "(I)I" } : Jvm.MethodName)) ∈ lw_all := lw_g (lw_at lw_m6 38 rfl) rfl
theorem q1352 : (Jvm.Cond.selects "ThreadTown" ({ cls := "ThreadTown", name := "way", desc := "(I)I" } : Jvm.MethodName) ({ cls := "ThreadTown", name := "way", desc := "(I)I" } : Jvm.MethodName)) ∈ lw_all := lw_g (lw_at lw_m6 39 rfl) rfl
theorem q1353 : (Jvm.Cond.code ({ cls := "ThreadTown", name := "way", desc := "(I)I" } : Jvm.MethodName) prog_1_method_36_code (3 : Nat) (Option.some Jvm.ClassFile.FieldType.int)) ∈ lw_all := lw_g (lw_at lw_m6 40 rfl) rfl
theorem q1354 : (Jvm.Cond.methodLink "ThreadTown" (288 : Nat) ({ cls := "ThreadTown", name := "laysLeft", desc := "(LThreadTown$Man;)V" } : Jvm.MethodName)) ∈ lw_all := lw_g (lw_at lw_m6 41 rfl) rfl
theorem q1355 : (Jvm.Cond.privateMethod ({ cls := "ThreadTown", name := "laysLeft", desc := "(LThreadTown$Man;)V" } : Jvm.MethodName)) ∈ lw_tbl := lw_at lw_m6 42 rfl
theorem q1356 : (Jvm.Cond.instanceMethod ({ cls := "ThreadTown", name := "laysLeft", desc := "(LThreadTown$Man;)V" } : Jvm.MethodName)) ∈ lw_all := lw_g (lw_at lw_m6 43 rfl) rfl
theorem q1357 : (Jvm.Cond.code ({ cls := "ThreadTown", name := "laysLeft", desc := "(LThreadTown$Man;)V" } : Jvm.MethodName) prog_1_method_34_code (5 : Nat) (Option.none : Option Jvm.ClassFile.FieldType)) ∈ lw_all := lw_g (lw_at lw_m6 44 rfl) rfl
theorem q1358 : (Jvm.Cond.constant "ThreadTown" (277 : Nat) (1000000 : Int32)) ∈ lw_all := lw_g (lw_at lw_m6 45 rfl) rfl
theorem q1359 : (Jvm.Cond.methodLink "ThreadTown" (284 : Nat) ({ cls := "ThreadTown", name := "apart", desc := "(IIII)I" } : Jvm.MethodName)) ∈ lw_all := lw_g (lw_at lw_m6 46 rfl) rfl
theorem q1360 : (Jvm.Cond.static ({ cls := "ThreadTown", name := "apart", desc := "(IIII)I" } : Jvm.MethodName)) ∈ lw_all := lw_g (lw_at lw_m6 47 rfl) rfl
theorem q1361 : (Jvm.Cond.code ({ cls := "ThreadTown", name := "apart", desc := "(IIII)I" } : Jvm.MethodName) prog_1_method_33_code (4 : Nat) (Option.some Jvm.ClassFile.FieldType.int)) ∈ lw_all := lw_g (lw_at lw_m6 48 rfl) rfl
theorem q1362 : (Jvm.Cond.methodLink "ThreadTown" (292 : Nat) ({ cls := "ThreadTown", name := "wayFrom", desc := "(LThreadTown$Man;II)I" } : Jvm.MethodName)) ∈ lw_all := lw_g (lw_at lw_m6 49 rfl) rfl
theorem q1363 : (Jvm.Cond.privateMethod ({ cls := "ThreadTown", name := "wayFrom", desc := "(LThreadTown$Man;II)I" } : Jvm.MethodName)) ∈ lw_tbl := lw_at lw_m6 50 rfl
theorem q1364 : (Jvm.Cond.instanceMethod ({ cls := "ThreadTown", name := "wayFrom", desc := "(LThreadTown$Man;II)I" } : Jvm.MethodName)) ∈ lw_all := lw_g (lw_at lw_m6 51 rfl) rfl
theorem q1365 : (Jvm.Cond.code ({ cls := "ThreadTown", name := "wayFrom", desc := "(LThreadTown$Man;II)I" } : Jvm.MethodName) prog_1_method_35_code (7 : Nat) (Option.some Jvm.ClassFile.FieldType.int)) ∈ lw_all := lw_g (lw_at lw_m6 52 rfl) rfl
theorem q1366 : (Jvm.Cond.methodLink "ThreadTownLaw" (93 : Nat) ({ cls := "ThreadTown", name := "wayAt", desc := "(II)I" } : Jvm.MethodName)) ∈ lw_all := lw_g (lw_at lw_m6 53 rfl) rfl
theorem q1367 : (Jvm.Cond.instanceMethod ({ cls := "ThreadTown", name := "wayAt", desc := "(II)I" } : Jvm.MethodName)) ∈ lw_all := lw_g (lw_at lw_m6 54 rfl) rfl
theorem q1368 : (Jvm.Cond.selects "ThreadTown" ({ cls := "ThreadTown", name := "wayAt", desc := "(II)I" } : Jvm.MethodName) ({ cls := "ThreadTown", name := "wayAt", desc := "(II)I" } : Jvm.MethodName)) ∈ lw_all := lw_g (lw_at lw_m6 55 rfl) rfl
theorem q1369 : (Jvm.Cond.code ({ cls := "ThreadTown", name := "wayAt", desc := "(II)I" } : Jvm.MethodName) prog_1_method_37_code (10 : Nat) (Option.some Jvm.ClassFile.FieldType.int)) ∈ lw_all := lw_g (lw_at lw_m6 56 rfl) rfl
theorem q1370 : (Jvm.Cond.methodLink "ThreadTown" (296 : Nat) ({ cls := "ThreadTown", name := "way", desc := "(I)I" } : Jvm.MethodName)) ∈ lw_all := lw_g (lw_at lw_m6 57 rfl) rfl
theorem q1371 : (Jvm.Cond.methodLink "ThreadTownLaw" (97 : Nat) ({ cls := "ThreadTown", name := "lives", desc := "(I)I" } : Jvm.MethodName)) ∈ lw_all := lw_g (lw_at lw_m6 58 rfl) rfl
theorem q1372 : (Jvm.Cond.instanceMethod ({ cls := "ThreadTown", name := "lives", desc := "(I)I" } : Jvm.MethodName)) ∈ lw_all := lw_g (lw_at lw_m6 59 rfl) rfl
theorem q1373 : (Jvm.Cond.selects "ThreadTown" ({ cls := "ThreadTown", name := "lives", desc := "(I)I" } : Jvm.MethodName) ({ cls := "ThreadTown", name := "lives", desc := "(I)I" } : Jvm.MethodName)) ∈ lw_all := lw_g (lw_at lw_m6 60 rfl) rfl
theorem q1374 : (Jvm.Cond.code ({ cls := "ThreadTown", name := "lives", desc := "(I)I" } : Jvm.MethodName) prog_1_method_38_code (6 : Nat) (Option.some Jvm.ClassFile.FieldType.int)) ∈ lw_all := lw_g (lw_at lw_m6 61 rfl) rfl
theorem q1375 : (Jvm.Cond.methodLink "ThreadTownLaw" (101 : Nat) ({ cls := "ThreadTown", name := "turns", desc := "(II)I" } : Jvm.MethodName)) ∈ lw_all := lw_g (lw_at lw_m6 62 rfl) rfl
theorem q1376 : (Jvm.Cond.instanceMethod ({ cls := "ThreadTown", name := "turns", desc := "(II)I" } : Jvm.MethodName)) ∈ lw_all := lw_g (lw_at lw_m6 63 rfl) rfl
theorem q1377 : (Jvm.Cond.selects "ThreadTown" ({ cls := "ThreadTown", name := "turns", desc := "(II)I" } : Jvm.MethodName) ({ cls := "ThreadTown", name := "turns", desc := "(II)I" } : Jvm.MethodName)) ∈ lw_all := lw_g (lw_at lw_m6 64 rfl) rfl
theorem q1378 : (Jvm.Cond.code ({ cls := "ThreadTown", name := "turns", desc := "(II)I" } : Jvm.MethodName) prog_1_method_39_code (8 : Nat) (Option.some Jvm.ClassFile.FieldType.int)) ∈ lw_all := lw_g (lw_at lw_m6 65 rfl) rfl
theorem q1379 : (Jvm.Cond.methodLink "ThreadTownLaw" (105 : Nat) ({ cls := "ThreadTown", name := "meet", desc := "(II)I" } : Jvm.MethodName)) ∈ lw_all := lw_g (lw_at lw_m6 66 rfl) rfl
theorem q1380 : (Jvm.Cond.instanceMethod ({ cls := "ThreadTown", name := "meet", desc := "(II)I" } : Jvm.MethodName)) ∈ lw_all := lw_g (lw_at lw_m6 67 rfl) rfl
theorem q1381 : (Jvm.Cond.selects "ThreadTown" ({ cls := "ThreadTown", name := "meet", desc := "(II)I" } : Jvm.MethodName) ({ cls := "ThreadTown", name := "meet", desc := "(II)I" } : Jvm.MethodName)) ∈ lw_all := lw_g (lw_at lw_m6 68 rfl) rfl
theorem q1382 : (Jvm.Cond.code ({ cls := "ThreadTown", name := "meet", desc := "(II)I" } : Jvm.MethodName) prog_1_method_40_code (4 : Nat) (Option.some Jvm.ClassFile.FieldType.int)) ∈ lw_all := lw_g (lw_at lw_m6 69 rfl) rfl
theorem q1383 : (Jvm.Cond.methodLink "ThreadTownLaw" (109 : Nat) ({ cls := "ThreadTown", name := "most", desc := "(I)I" } : Jvm.MethodName)) ∈ lw_all := lw_g (lw_at lw_m6 70 rfl) rfl
theorem q1384 : (Jvm.Cond.instanceMethod ({ cls := "ThreadTown", name := "most", desc := "(I)I" } : Jvm.MethodName)) ∈ lw_all := lw_g (lw_at lw_m6 71 rfl) rfl
theorem q1385 : (Jvm.Cond.selects "ThreadTown" ({ cls := "ThreadTown", name := "most", desc := "(I)I" } : Jvm.MethodName) ({ cls := "ThreadTown", name := "most", desc := "(I)I" } : Jvm.MethodName)) ∈ lw_all := lw_g (lw_at lw_m6 72 rfl) rfl
theorem q1386 : (Jvm.Cond.code ({ cls := "ThreadTown", name := "most", desc := "(I)I" } : Jvm.MethodName) prog_1_method_42_code (4 : Nat) (Option.some Jvm.ClassFile.FieldType.int)) ∈ lw_all := lw_g (lw_at lw_m6 73 rfl) rfl
theorem q1387 : (Jvm.Cond.methodLink "ThreadTown" (313 : Nat) ({ cls := "ThreadTown", name := "overAll", desc := "(I)I" } : Jvm.MethodName)) ∈ lw_all := lw_g (lw_at lw_m6 74 rfl) rfl
theorem q1388 : (Jvm.Cond.privateMethod ({ cls := "ThreadTown", name := "overAll", desc := "(I)I" } : Jvm.MethodName)) ∈ lw_tbl := lw_at lw_m6 75 rfl
theorem q1389 : (Jvm.Cond.instanceMethod ({ cls := "ThreadTown", name := "overAll", desc := "(I)I" } : Jvm.MethodName)) ∈ lw_all := lw_g (lw_at lw_m6 76 rfl) rfl
theorem q1390 : (Jvm.Cond.code ({ cls := "ThreadTown", name := "overAll", desc := "(I)I" } : Jvm.MethodName) prog_1_method_41_code (4 : Nat) (Option.some Jvm.ClassFile.FieldType.int)) ∈ lw_all := lw_g (lw_at lw_m6 77 rfl) rfl
theorem q1391 : (Jvm.Cond.methodLink "ThreadTownLaw" (113 : Nat) ({ cls := "ThreadTown", name := "street", desc := "(IIII)I" } : Jvm.MethodName)) ∈ lw_all := lw_g (lw_at lw_m6 78 rfl) rfl
theorem q1392 : (Jvm.Cond.instanceMethod ({ cls := "ThreadTown", name := "street", desc := "(IIII)I" } : Jvm.MethodName)) ∈ lw_all := lw_g (lw_at lw_m6 79 rfl) rfl
theorem q1393 : (Jvm.Cond.selects "ThreadTown" ({ cls := "ThreadTown", name := "street", desc := "(IIII)I" } : Jvm.MethodName) ({ cls := "ThreadTown", name := "street", desc := "(IIII)I" } : Jvm.MethodName)) ∈ lw_all := lw_g (lw_at lw_m6 80 rfl) rfl
theorem q1394 : (Jvm.Cond.code ({ cls := "ThreadTown", name := "street", desc := "(IIII)I" } : Jvm.MethodName) prog_1_method_43_code (9 : Nat) (Option.some Jvm.ClassFile.FieldType.int)) ∈ lw_all := lw_g (lw_at lw_m6 81 rfl) rfl
theorem q1395 : (Jvm.Cond.methodLink "ThreadTown" (316 : Nat) ({ cls := "ThreadTown", name := "isStreet", desc := "(III)Z" } : Jvm.MethodName)) ∈ lw_all := lw_g (lw_at lw_m6 82 rfl) rfl
theorem q1396 : (Jvm.Cond.privateMethod ({ cls := "ThreadTown", name := "isStreet", desc := "(III)Z" } : Jvm.MethodName)) ∈ lw_tbl := lw_at lw_m6 83 rfl
theorem q1397 : (Jvm.Cond.instanceMethod ({ cls := "ThreadTown", name := "isStreet", desc := "(III)Z" } : Jvm.MethodName)) ∈ lw_all := lw_g (lw_at lw_m6 84 rfl) rfl
theorem q1398 : (Jvm.Cond.code ({ cls := "ThreadTown", name := "isStreet", desc := "(III)Z" } : Jvm.MethodName) prog_1_method_49_code (4 : Nat) (Option.some Jvm.ClassFile.FieldType.boolean)) ∈ lw_all := lw_g (lw_at lw_m6 85 rfl) rfl
theorem q1399 : (Jvm.Cond.methodLink "ThreadTown" (345 : Nat) ({ cls := "ThreadTown$Text", name := "isIn", desc := "(II)Z" } : Jvm.MethodName)) ∈ lw_all := lw_g (lw_at lw_m6 86 rfl) rfl
theorem q1400 : (Jvm.Cond.methodLink "ThreadTown" (319 : Nat) ({ cls := "ThreadTown", name := "streetOf", desc := "(III)I" } : Jvm.MethodName)) ∈ lw_all := lw_g (lw_at lw_m6 87 rfl) rfl
theorem q1401 : (Jvm.Cond.methodLink "ThreadTownLaw" (118 : Nat) ({ cls := "ThreadTown", name := "dusk", desc := "(II)I" } : Jvm.MethodName)) ∈ lw_all := lw_g (lw_at lw_m6 88 rfl) rfl
theorem q1402 : (Jvm.Cond.instanceMethod ({ cls := "ThreadTown", name := "dusk", desc := "(II)I" } : Jvm.MethodName)) ∈ lw_all := lw_g (lw_at lw_m6 89 rfl) rfl
theorem q1403 : (Jvm.Cond.selects "ThreadTown" ({ cls := "ThreadTown", name := "dusk", desc := "(II)I" } : Jvm.MethodName) ({ cls := "ThreadTown", name := "dusk", desc := "(II)I" } : Jvm.MethodName)) ∈ lw_all := lw_g (lw_at lw_m6 90 rfl) rfl
theorem q1404 : (Jvm.Cond.code ({ cls := "ThreadTown", name := "dusk", desc := "(II)I" } : Jvm.MethodName) prog_1_method_47_code (6 : Nat) (Option.some Jvm.ClassFile.FieldType.int)) ∈ lw_all := lw_g (lw_at lw_m6 91 rfl) rfl
theorem q1405 : (Jvm.Cond.methodLink "ThreadTown" (342 : Nat) ({ cls := "ThreadTown", name := "runsDusk", desc := "(I)V" } : Jvm.MethodName)) ∈ lw_all := lw_g (lw_at lw_m6 92 rfl) rfl
theorem q1406 : (Jvm.Cond.privateMethod ({ cls := "ThreadTown", name := "runsDusk", desc := "(I)V" } : Jvm.MethodName)) ∈ lw_tbl := lw_at lw_m6 93 rfl
theorem q1407 : (Jvm.Cond.instanceMethod ({ cls := "ThreadTown", name := "runsDusk", desc := "(I)V" } : Jvm.MethodName)) ∈ lw_all := lw_g (lw_at lw_m6 94 rfl) rfl
theorem q1408 : (Jvm.Cond.code ({ cls := "ThreadTown", name := "runsDusk", desc := "(I)V" } : Jvm.MethodName) prog_1_method_46_code (3 : Nat) (Option.none : Option Jvm.ClassFile.FieldType)) ∈ lw_all := lw_g (lw_at lw_m6 95 rfl) rfl
theorem q1409 : (Jvm.Cond.methodLink "ThreadTown" (339 : Nat) ({ cls := "ThreadTown", name := "windsAll", desc := "(II)I" } : Jvm.MethodName)) ∈ lw_all := lw_g (lw_at lw_m6 96 rfl) rfl
theorem q1410 : (Jvm.Cond.privateMethod ({ cls := "ThreadTown", name := "windsAll", desc := "(II)I" } : Jvm.MethodName)) ∈ lw_tbl := lw_at lw_m6 97 rfl
theorem q1411 : (Jvm.Cond.instanceMethod ({ cls := "ThreadTown", name := "windsAll", desc := "(II)I" } : Jvm.MethodName)) ∈ lw_all := lw_g (lw_at lw_m6 98 rfl) rfl
theorem q1412 : (Jvm.Cond.code ({ cls := "ThreadTown", name := "windsAll", desc := "(II)I" } : Jvm.MethodName) prog_1_method_45_code (6 : Nat) (Option.some Jvm.ClassFile.FieldType.int)) ∈ lw_all := lw_g (lw_at lw_m6 99 rfl) rfl
theorem q1413 : (Jvm.Cond.methodLink "ThreadTown" (326 : Nat) ({ cls := "ThreadTown$Dusk", name := "tells", desc := "(LThreadTown$Cloth;LThreadTown$Text;II)I" } : Jvm.MethodName)) ∈ lw_all := lw_g (lw_at lw_m6 100 rfl) rfl
theorem q1414 : (Jvm.Cond.declares ({ cls := "ThreadTown$Dusk", name := "tells", desc := "(LThreadTown$Cloth;LThreadTown$Text;II)I" } : Jvm.MethodName)) ∈ lw_tbl := lw_at lw_m6 101 rfl
theorem q1415 : (Jvm.Cond.sameMethod "ThreadTown$Dusk" "ThreadTown$Dusk" "tells" "(LThreadTown$Cloth;LThreadTown$Text;II)I") ∈ lw_all := lw_g (lw_at lw_m6 102 rfl) rfl
theorem q1416 : (Jvm.Cond.selects "ThreadTown$ByLaid" ({ cls := "ThreadTown$Dusk", name := "tells", desc := "(LThreadTown$Cloth;LThreadTown$Text;II)I" } : Jvm.MethodName) ({ cls := "ThreadTown$ByLaid", name := "tells", desc := "(LThreadTown$Cloth;LThreadTown$Text;II)I" } : Jvm.MethodName)) ∈ lw_all := lw_g (lw_at lw_m6 103 rfl) rfl
theorem q1417 : (Jvm.Cond.instanceMethod ({ cls := "ThreadTown$ByLaid", name := "tells", desc := "(LThreadTown$Cloth;LThreadTown$Text;II)I" } : Jvm.MethodName)) ∈ lw_all := lw_g (lw_at lw_m6 104 rfl) rfl
theorem q1418 : (Jvm.Cond.code ({ cls := "ThreadTown$ByLaid", name := "tells", desc := "(LThreadTown$Cloth;LThreadTown$Text;II)I" } : Jvm.MethodName) prog_3_method_2_code (5 : Nat) (Option.some Jvm.ClassFile.FieldType.int)) ∈ lw_all := lw_g (lw_at lw_m6 105 rfl) rfl
theorem q1419 : (Jvm.Cond.methodLink "ThreadTown$ByLaid" (7 : Nat) ({ cls := "ThreadTown$Cloth", name := "lastLaid", desc := "(I)I" } : Jvm.MethodName)) ∈ lw_all := lw_g (lw_at lw_m6 106 rfl) rfl
theorem q1420 : (Jvm.Cond.instanceMethod ({ cls := "ThreadTown$Cloth", name := "lastLaid", desc := "(I)I" } : Jvm.MethodName)) ∈ lw_all := lw_g (lw_at lw_m6 107 rfl) rfl
theorem q1421 : (Jvm.Cond.selects "ThreadTown$Cloth" ({ cls := "ThreadTown$Cloth", name := "lastLaid", desc := "(I)I" } : Jvm.MethodName) ({ cls := "ThreadTown$Cloth", name := "lastLaid", desc := "(I)I" } : Jvm.MethodName)) ∈ lw_all := lw_g (lw_at lw_m6 108 rfl) rfl
theorem q1422 : (Jvm.Cond.code ({ cls := "ThreadTown$Cloth", name := "lastLaid", desc := "(I)I" } : Jvm.MethodName) prog_8_method_14_code (2 : Nat) (Option.some Jvm.ClassFile.FieldType.int)) ∈ lw_all := lw_g (lw_at lw_m6 109 rfl) rfl
theorem q1423 : (Jvm.Cond.selects "ThreadTown$ByLeft" ({ cls := "ThreadTown$Dusk", name := "tells", desc := "(LThreadTown$Cloth;LThreadTown$Text;II)I" } : Jvm.MethodName) ({ cls := "ThreadTown$ByLeft", name := "tells", desc := "(LThreadTown$Cloth;LThreadTown$Text;II)I" } : Jvm.MethodName)) ∈ lw_all := lw_g (lw_at lw_m6 110 rfl) rfl
theorem q1424 : (Jvm.Cond.instanceMethod ({ cls := "ThreadTown$ByLeft", name := "tells", desc := "(LThreadTown$Cloth;LThreadTown$Text;II)I" } : Jvm.MethodName)) ∈ lw_all := lw_g (lw_at lw_m6 111 rfl) rfl
theorem q1425 : (Jvm.Cond.code ({ cls := "ThreadTown$ByLeft", name := "tells", desc := "(LThreadTown$Cloth;LThreadTown$Text;II)I" } : Jvm.MethodName) prog_4_method_2_code (5 : Nat) (Option.some Jvm.ClassFile.FieldType.int)) ∈ lw_all := lw_g (lw_at lw_m6 112 rfl) rfl
theorem q1426 : (Jvm.Cond.selects "ThreadTown$ByLot" ({ cls := "ThreadTown$Dusk", name := "tells", desc := "(LThreadTown$Cloth;LThreadTown$Text;II)I" } : Jvm.MethodName) ({ cls := "ThreadTown$ByLot", name := "tells", desc := "(LThreadTown$Cloth;LThreadTown$Text;II)I" } : Jvm.MethodName)) ∈ lw_all := lw_g (lw_at lw_m6 113 rfl) rfl
theorem q1427 : (Jvm.Cond.instanceMethod ({ cls := "ThreadTown$ByLot", name := "tells", desc := "(LThreadTown$Cloth;LThreadTown$Text;II)I" } : Jvm.MethodName)) ∈ lw_all := lw_g (lw_at lw_m6 114 rfl) rfl
theorem q1428 : (Jvm.Cond.code ({ cls := "ThreadTown$ByLot", name := "tells", desc := "(LThreadTown$Cloth;LThreadTown$Text;II)I" } : Jvm.MethodName) prog_5_method_2_code (5 : Nat) (Option.some Jvm.ClassFile.FieldType.int)) ∈ lw_all := lw_g (lw_at lw_m6 115 rfl) rfl
theorem q1429 : (Jvm.Cond.methodLinkNest "ThreadTown$ByLot" (18 : Nat) ({ cls := "ThreadTown", name := "lot", desc := "(III)I" } : Jvm.MethodName) "ThreadTown") ∈ lw_tbl := lw_at lw_m6 116 rfl
theorem q1430 : (Jvm.Cond.selects "ThreadTown$ByLying" ({ cls := "ThreadTown$Dusk", name := "tells", desc := "(LThreadTown$Cloth;LThreadTown$Text;II)I" } : Jvm.MethodName) ({ cls := "ThreadTown$ByLying", name := "tells", desc := "(LThreadTown$Cloth;LThreadTown$Text;II)I" } : Jvm.MethodName)) ∈ lw_all := lw_g (lw_at lw_m6 117 rfl) rfl
theorem q1431 : (Jvm.Cond.instanceMethod ({ cls := "ThreadTown$ByLying", name := "tells", desc := "(LThreadTown$Cloth;LThreadTown$Text;II)I" } : Jvm.MethodName)) ∈ lw_all := lw_g (lw_at lw_m6 118 rfl) rfl
theorem q1432 : (Jvm.Cond.code ({ cls := "ThreadTown$ByLying", name := "tells", desc := "(LThreadTown$Cloth;LThreadTown$Text;II)I" } : Jvm.MethodName) prog_6_method_2_code (5 : Nat) (Option.some Jvm.ClassFile.FieldType.int)) ∈ lw_all := lw_g (lw_at lw_m6 119 rfl) rfl
theorem q1433 : (Jvm.Cond.selects "ThreadTown$ByNumber" ({ cls := "ThreadTown$Dusk", name := "tells", desc := "(LThreadTown$Cloth;LThreadTown$Text;II)I" } : Jvm.MethodName) ({ cls := "ThreadTown$ByNumber", name := "tells", desc := "(LThreadTown$Cloth;LThreadTown$Text;II)I" } : Jvm.MethodName)) ∈ lw_all := lw_g (lw_at lw_m6 120 rfl) rfl
theorem q1434 : (Jvm.Cond.instanceMethod ({ cls := "ThreadTown$ByNumber", name := "tells", desc := "(LThreadTown$Cloth;LThreadTown$Text;II)I" } : Jvm.MethodName)) ∈ lw_all := lw_g (lw_at lw_m6 121 rfl) rfl
theorem q1435 : (Jvm.Cond.code ({ cls := "ThreadTown$ByNumber", name := "tells", desc := "(LThreadTown$Cloth;LThreadTown$Text;II)I" } : Jvm.MethodName) prog_7_method_2_code (5 : Nat) (Option.some Jvm.ClassFile.FieldType.int)) ∈ lw_all := lw_g (lw_at lw_m6 122 rfl) rfl
theorem q1436 : (Jvm.Cond.methodLink "ThreadTown" (330 : Nat) ({ cls := "ThreadTown", name := "nextOf", desc := "(I)I" } : Jvm.MethodName)) ∈ lw_all := lw_g (lw_at lw_m6 123 rfl) rfl
theorem q1437 : (Jvm.Cond.privateMethod ({ cls := "ThreadTown", name := "nextOf", desc := "(I)I" } : Jvm.MethodName)) ∈ lw_tbl := lw_at lw_m6 124 rfl
theorem q1438 : (Jvm.Cond.instanceMethod ({ cls := "ThreadTown", name := "nextOf", desc := "(I)I" } : Jvm.MethodName)) ∈ lw_all := lw_g (lw_at lw_m6 125 rfl) rfl
theorem q1439 : (Jvm.Cond.code ({ cls := "ThreadTown", name := "nextOf", desc := "(I)I" } : Jvm.MethodName) prog_1_method_44_code (4 : Nat) (Option.some Jvm.ClassFile.FieldType.int)) ∈ lw_all := lw_g (lw_at lw_m6 126 rfl) rfl
theorem q1440 : (Jvm.Cond.methodLink "ThreadTownLaw" (122 : Nat) ({ cls := "ThreadTown", name := "bestDusk", desc := "()I" } : Jvm.MethodName)) ∈ lw_all := lw_g (lw_at lw_m6 127 rfl) rfl
theorem q1441 : (Jvm.Cond.instanceMethod ({ cls := "ThreadTown", name := "bestDusk", desc := "()I" } : Jvm.MethodName)) ∈ lw_all := lw_g (lw_at lw_m6 128 rfl) rfl
theorem q1442 : (Jvm.Cond.selects "ThreadTown" ({ cls := "ThreadTown", name := "bestDusk", desc := "()I" } : Jvm.MethodName) ({ cls := "ThreadTown", name := "bestDusk", desc := "()I" } : Jvm.MethodName)) ∈ lw_all := lw_g (lw_at lw_m6 129 rfl) rfl
theorem q1443 : (Jvm.Cond.code ({ cls := "ThreadTown", name := "bestDusk", desc := "()I" } : Jvm.MethodName) prog_1_method_48_code (5 : Nat) (Option.some Jvm.ClassFile.FieldType.int)) ∈ lw_all := lw_g (lw_at lw_m6 130 rfl) rfl
theorem q1444 : (Jvm.Cond.methodLink "ThreadTownLaw" (126 : Nat) ({ cls := "ThreadTown", name := "shows", desc := "(III)I" } : Jvm.MethodName)) ∈ lw_all := lw_g (lw_at lw_m6 131 rfl) rfl
theorem q1445 : (Jvm.Cond.instanceMethod ({ cls := "ThreadTown", name := "shows", desc := "(III)I" } : Jvm.MethodName)) ∈ lw_all := lw_g (lw_at lw_m6 132 rfl) rfl
theorem q1446 : (Jvm.Cond.selects "ThreadTown" ({ cls := "ThreadTown", name := "shows", desc := "(III)I" } : Jvm.MethodName) ({ cls := "ThreadTown", name := "shows", desc := "(III)I" } : Jvm.MethodName)) ∈ lw_all := lw_g (lw_at lw_m6 133 rfl) rfl
theorem q1447 : (Jvm.Cond.code ({ cls := "ThreadTown", name := "shows", desc := "(III)I" } : Jvm.MethodName) prog_1_method_50_code (5 : Nat) (Option.some Jvm.ClassFile.FieldType.int)) ∈ lw_all := lw_g (lw_at lw_m6 134 rfl) rfl
theorem q1448 : (Jvm.Cond.methodLink "ThreadTown" (347 : Nat) ({ cls := "ThreadTown$Cloth", name := "top", desc := "(I)I" } : Jvm.MethodName)) ∈ lw_all := lw_g (lw_at lw_m6 135 rfl) rfl
theorem q1449 : (Jvm.Cond.instanceMethod ({ cls := "ThreadTown$Cloth", name := "top", desc := "(I)I" } : Jvm.MethodName)) ∈ lw_all := lw_g (lw_at lw_m6 136 rfl) rfl
theorem q1450 : (Jvm.Cond.selects "ThreadTown$Cloth" ({ cls := "ThreadTown$Cloth", name := "top", desc := "(I)I" } : Jvm.MethodName) ({ cls := "ThreadTown$Cloth", name := "top", desc := "(I)I" } : Jvm.MethodName)) ∈ lw_all := lw_g (lw_at lw_m6 137 rfl) rfl
theorem q1451 : (Jvm.Cond.code ({ cls := "ThreadTown$Cloth", name := "top", desc := "(I)I" } : Jvm.MethodName) prog_8_method_15_code (6 : Nat) (Option.some Jvm.ClassFile.FieldType.int)) ∈ lw_all := lw_g (lw_at lw_m6 138 rfl) rfl
theorem q1452 : (Jvm.Cond.methodLink "ThreadTownLaw" (130 : Nat) ({ cls := "ThreadTown", name := "shown", desc := "(I)I" } : Jvm.MethodName)) ∈ lw_all := lw_g (lw_at lw_m6 139 rfl) rfl
theorem q1453 : (Jvm.Cond.instanceMethod ({ cls := "ThreadTown", name := "shown", desc := "(I)I" } : Jvm.MethodName)) ∈ lw_all := lw_g (lw_at lw_m6 140 rfl) rfl
theorem q1454 : (Jvm.Cond.selects "ThreadTown" ({ cls := "ThreadTown", name := "shown", desc := "(I)I" } : Jvm.MethodName) ({ cls := "ThreadTown", name := "shown", desc := "(I)I" } : Jvm.MethodName)) ∈ lw_all := lw_g (lw_at lw_m6 141 rfl) rfl
theorem q1455 : (Jvm.Cond.code ({ cls := "ThreadTown", name := "shown", desc := "(I)I" } : Jvm.MethodName) prog_1_method_51_code (4 : Nat) (Option.some Jvm.ClassFile.FieldType.int)) ∈ lw_all := lw_g (lw_at lw_m6 142 rfl) rfl
theorem q1456 : (Jvm.Cond.methodLink "ThreadTownLaw" (134 : Nat) ({ cls := "ThreadTown", name := "uppermost", desc := "(I)I" } : Jvm.MethodName)) ∈ lw_all := lw_g (lw_at lw_m6 143 rfl) rfl
theorem q1457 : (Jvm.Cond.instanceMethod ({ cls := "ThreadTown", name := "uppermost", desc := "(I)I" } : Jvm.MethodName)) ∈ lw_all := lw_g (lw_at lw_m6 144 rfl) rfl
theorem q1458 : (Jvm.Cond.selects "ThreadTown" ({ cls := "ThreadTown", name := "uppermost", desc := "(I)I" } : Jvm.MethodName) ({ cls := "ThreadTown", name := "uppermost", desc := "(I)I" } : Jvm.MethodName)) ∈ lw_all := lw_g (lw_at lw_m6 145 rfl) rfl
theorem q1459 : (Jvm.Cond.code ({ cls := "ThreadTown", name := "uppermost", desc := "(I)I" } : Jvm.MethodName) prog_1_method_52_code (4 : Nat) (Option.some Jvm.ClassFile.FieldType.int)) ∈ lw_all := lw_g (lw_at lw_m6 146 rfl) rfl
theorem q1460 : (Jvm.Cond.methodLink "ThreadTownLaw" (138 : Nat) ({ cls := "ThreadTown", name := "knows", desc := "(I)I" } : Jvm.MethodName)) ∈ lw_all := lw_g (lw_at lw_m6 147 rfl) rfl
theorem q1461 : (Jvm.Cond.instanceMethod ({ cls := "ThreadTown", name := "knows", desc := "(I)I" } : Jvm.MethodName)) ∈ lw_all := lw_g (lw_at lw_m6 148 rfl) rfl
theorem q1462 : (Jvm.Cond.selects "ThreadTown" ({ cls := "ThreadTown", name := "knows", desc := "(I)I" } : Jvm.MethodName) ({ cls := "ThreadTown", name := "knows", desc := "(I)I" } : Jvm.MethodName)) ∈ lw_all := lw_g (lw_at lw_m6 149 rfl) rfl
theorem q1463 : (Jvm.Cond.code ({ cls := "ThreadTown", name := "knows", desc := "(I)I" } : Jvm.MethodName) prog_1_method_53_code (4 : Nat) (Option.some Jvm.ClassFile.FieldType.int)) ∈ lw_all := lw_g (lw_at lw_m6 150 rfl) rfl
theorem q1464 : (Jvm.Cond.methodLink "ThreadTownLaw" (142 : Nat) ({ cls := "ThreadTown", name := "links", desc := "(II)I" } : Jvm.MethodName)) ∈ lw_all := lw_g (lw_at lw_m6 151 rfl) rfl
theorem q1465 : (Jvm.Cond.instanceMethod ({ cls := "ThreadTown", name := "links", desc := "(II)I" } : Jvm.MethodName)) ∈ lw_all := lw_g (lw_at lw_m6 152 rfl) rfl
theorem q1466 : (Jvm.Cond.selects "ThreadTown" ({ cls := "ThreadTown", name := "links", desc := "(II)I" } : Jvm.MethodName) ({ cls := "ThreadTown", name := "links", desc := "(II)I" } : Jvm.MethodName)) ∈ lw_all := lw_g (lw_at lw_m6 153 rfl) rfl
theorem q1467 : (Jvm.Cond.code ({ cls := "ThreadTown", name := "links", desc := "(II)I" } : Jvm.MethodName) prog_1_method_55_code (6 : Nat) (Option.some Jvm.ClassFile.FieldType.int)) ∈ lw_all := lw_g (lw_at lw_m6 154 rfl) rfl
theorem q1468 : (Jvm.Cond.methodLink "ThreadTown" (353 : Nat) ({ cls := "ThreadTown", name := "around", desc := "(I)I" } : Jvm.MethodName)) ∈ lw_all := lw_g (lw_at lw_m6 155 rfl) rfl
theorem q1469 : (Jvm.Cond.privateMethod ({ cls := "ThreadTown", name := "around", desc := "(I)I" } : Jvm.MethodName)) ∈ lw_tbl := lw_at lw_m6 156 rfl
theorem q1470 : (Jvm.Cond.instanceMethod ({ cls := "ThreadTown", name := "around", desc := "(I)I" } : Jvm.MethodName)) ∈ lw_all := lw_g (lw_at lw_m6 157 rfl) rfl
theorem q1471 : (Jvm.Cond.code ({ cls := "ThreadTown", name := "around", desc := "(I)I" } : Jvm.MethodName) prog_1_method_54_code (4 : Nat) (Option.some Jvm.ClassFile.FieldType.int)) ∈ lw_all := lw_g (lw_at lw_m6 158 rfl) rfl
theorem q1472 : (Jvm.Cond.methodLink "ThreadTown" (350 : Nat) ({ cls := "ThreadTown", name := "knows", desc := "(I)I" } : Jvm.MethodName)) ∈ lw_all := lw_g (lw_at lw_m6 159 rfl) rfl
theorem q1473 : (Jvm.Cond.methodLink "ThreadTownLaw" (146 : Nat) ({ cls := "ThreadTown", name := "rounds", desc := "()I" } : Jvm.MethodName)) ∈ lw_all := lw_g (lw_at lw_m6 160 rfl) rfl
theorem q1474 : (Jvm.Cond.instanceMethod ({ cls := "ThreadTown", name := "rounds", desc := "()I" } : Jvm.MethodName)) ∈ lw_all := lw_g (lw_at lw_m6 161 rfl) rfl
theorem q1475 : (Jvm.Cond.selects "ThreadTown" ({ cls := "ThreadTown", name := "rounds", desc := "()I" } : Jvm.MethodName) ({ cls := "ThreadTown", name := "rounds", desc := "()I" } : Jvm.MethodName)) ∈ lw_all := lw_g (lw_at lw_m6 162 rfl) rfl
theorem q1476 : (Jvm.Cond.code ({ cls := "ThreadTown", name := "rounds", desc := "()I" } : Jvm.MethodName) prog_1_method_56_code (5 : Nat) (Option.some Jvm.ClassFile.FieldType.int)) ∈ lw_all := lw_g (lw_at lw_m6 163 rfl) rfl
theorem q1477 : (Jvm.Cond.methodLink "ThreadTownLaw" (150 : Nat) ({ cls := "ThreadTown", name := "crowd", desc := "(I)I" } : Jvm.MethodName)) ∈ lw_all := lw_g (lw_at lw_m6 164 rfl) rfl
theorem q1478 : (Jvm.Cond.instanceMethod ({ cls := "ThreadTown", name := "crowd", desc := "(I)I" } : Jvm.MethodName)) ∈ lw_all := lw_g (lw_at lw_m6 165 rfl) rfl
theorem q1479 : (Jvm.Cond.selects "ThreadTown" ({ cls := "ThreadTown", name := "crowd", desc := "(I)I" } : Jvm.MethodName) ({ cls := "ThreadTown", name := "crowd", desc := "(I)I" } : Jvm.MethodName)) ∈ lw_all := lw_g (lw_at lw_m6 166 rfl) rfl
theorem q1480 : (Jvm.Cond.code ({ cls := "ThreadTown", name := "crowd", desc := "(I)I" } : Jvm.MethodName) prog_1_method_58_code (8 : Nat) (Option.some Jvm.ClassFile.FieldType.int)) ∈ lw_all := lw_g (lw_at lw_m6 167 rfl) rfl
theorem q1481 : (Jvm.Cond.methodLink "ThreadTown" (355 : Nat) ({ cls := "ThreadTown", name := "comesTo", desc := "(III)Z" } : Jvm.MethodName)) ∈ lw_all := lw_g (lw_at lw_m6 168 rfl) rfl
theorem q1482 : (Jvm.Cond.privateMethod ({ cls := "ThreadTown", name := "comesTo", desc := "(III)Z" } : Jvm.MethodName)) ∈ lw_tbl := lw_at lw_m6 169 rfl
theorem q1483 : (Jvm.Cond.instanceMethod ({ cls := "ThreadTown", name := "comesTo", desc := "(III)Z" } : Jvm.MethodName)) ∈ lw_all := lw_g (lw_at lw_m6 170 rfl) rfl
theorem q1484 : (Jvm.Cond.code ({ cls := "ThreadTown", name := "comesTo", desc := "(III)Z" } : Jvm.MethodName) prog_1_method_57_code (8 : Nat) (Option.some Jvm.ClassFile.FieldType.boolean)) ∈ lw_all := lw_g (lw_at lw_m6 171 rfl) rfl
theorem q1485 : (Jvm.Cond.methodLink "ThreadTownLaw" (158 : Nat) ({ cls := "ThreadTown", name := "thieves", desc := "()I" } : Jvm.MethodName)) ∈ lw_all := lw_g (lw_at lw_m6 172 rfl) rfl
theorem q1486 : (Jvm.Cond.instanceMethod ({ cls := "ThreadTown", name := "thieves", desc := "()I" } : Jvm.MethodName)) ∈ lw_all := lw_g (lw_at lw_m6 173 rfl) rfl
theorem q1487 : (Jvm.Cond.selects "ThreadTown" ({ cls := "ThreadTown", name := "thieves", desc := "()I" } : Jvm.MethodName) ({ cls := "ThreadTown", name := "thieves", desc := "()I" } : Jvm.MethodName)) ∈ lw_all := lw_g (lw_at lw_m6 174 rfl) rfl
theorem q1488 : (Jvm.Cond.code ({ cls := "ThreadTown", name := "thieves", desc := "()I" } : Jvm.MethodName) prog_1_method_59_code (4 : Nat) (Option.some Jvm.ClassFile.FieldType.int)) ∈ lw_all := lw_g (lw_at lw_m6 175 rfl) rfl
theorem q1489 : (Jvm.Cond.methodLink "ThreadTown" (358 : Nat) ({ cls := "ThreadTown", name := "turns", desc := "(II)I" } : Jvm.MethodName)) ∈ lw_all := lw_g (lw_at lw_m6 176 rfl) rfl
theorem q1490 : (Jvm.Cond.methodLink "ThreadTownLaw" (162 : Nat) ({ cls := "ThreadTown", name := "nearest", desc := "(II)I" } : Jvm.MethodName)) ∈ lw_all := lw_g (lw_at lw_m6 177 rfl) rfl
theorem q1491 : (Jvm.Cond.instanceMethod ({ cls := "ThreadTown", name := "nearest", desc := "(II)I" } : Jvm.MethodName)) ∈ lw_all := lw_g (lw_at lw_m6 178 rfl) rfl
theorem q1492 : (Jvm.Cond.selects "ThreadTown" ({ cls := "ThreadTown", name := "nearest", desc := "(II)I" } : Jvm.MethodName) ({ cls := "ThreadTown", name := "nearest", desc := "(II)I" } : Jvm.MethodName)) ∈ lw_all := lw_g (lw_at lw_m6 179 rfl) rfl
theorem q1493 : (Jvm.Cond.code ({ cls := "ThreadTown", name := "nearest", desc := "(II)I" } : Jvm.MethodName) prog_1_method_60_code (7 : Nat) (Option.some Jvm.ClassFile.FieldType.int)) ∈ lw_all := lw_g (lw_at lw_m6 180 rfl) rfl
theorem q1494 : (Jvm.Cond.methodLink "ThreadTownLaw" (166 : Nat) ({ cls := "ThreadTown", name := "unfair", desc := "()I" } : Jvm.MethodName)) ∈ lw_all := lw_g (lw_at lw_m6 181 rfl) rfl
theorem q1495 : (Jvm.Cond.instanceMethod ({ cls := "ThreadTown", name := "unfair", desc := "()I" } : Jvm.MethodName)) ∈ lw_all := lw_g (lw_at lw_m6 182 rfl) rfl
theorem q1496 : (Jvm.Cond.selects "ThreadTown" ({ cls := "ThreadTown", name := "unfair", desc := "()I" } : Jvm.MethodName) ({ cls := "ThreadTown", name := "unfair", desc := "()I" } : Jvm.MethodName)) ∈ lw_all := lw_g (lw_at lw_m6 183 rfl) rfl
theorem q1497 : (Jvm.Cond.code ({ cls := "ThreadTown", name := "unfair", desc := "()I" } : Jvm.MethodName) prog_1_method_61_code (4 : Nat) (Option.some Jvm.ClassFile.FieldType.int)) ∈ lw_all := lw_g (lw_at lw_m6 184 rfl) rfl
theorem q1498 : (Jvm.Cond.methodLink "ThreadTown" (361 : Nat) ({ cls := "java/lang/Math", name := "max", desc := "(II)I" } : Jvm.MethodName)) ∈ lw_all := lw_g (lw_at lw_m6 185 rfl) rfl
theorem q1499 : (Jvm.Cond.methodLink "ThreadTownLaw" (154 : Nat) ({ cls := "ThreadTown", name := "plain", desc := "(I)I" } : Jvm.MethodName)) ∈ lw_all := lw_g (lw_at lw_m6 186 rfl) rfl
theorem q1500 : (Jvm.Cond.instanceMethod ({ cls := "ThreadTown", name := "plain", desc := "(I)I" } : Jvm.MethodName)) ∈ lw_all := lw_g (lw_at lw_m6 187 rfl) rfl
theorem q1501 : (Jvm.Cond.selects "ThreadTown" ({ cls := "ThreadTown", name := "plain", desc := "(I)I" } : Jvm.MethodName) ({ cls := "ThreadTown", name := "plain", desc := "(I)I" } : Jvm.MethodName)) ∈ lw_all := lw_g (lw_at lw_m6 188 rfl) rfl
theorem q1502 : (Jvm.Cond.code ({ cls := "ThreadTown", name := "plain", desc := "(I)I" } : Jvm.MethodName) prog_1_method_65_code (8 : Nat) (Option.some Jvm.ClassFile.FieldType.int)) ∈ lw_all := lw_g (lw_at lw_m6 189 rfl) rfl
theorem q1503 : (Jvm.Cond.methodLink "ThreadTown" (371 : Nat) ({ cls := "ThreadTown", name := "laysLegs", desc := "(II)V" } : Jvm.MethodName)) ∈ lw_all := lw_g (lw_at lw_m6 190 rfl) rfl
theorem q1504 : (Jvm.Cond.privateMethod ({ cls := "ThreadTown", name := "laysLegs", desc := "(II)V" } : Jvm.MethodName)) ∈ lw_tbl := lw_at lw_m6 191 rfl
theorem q1505 : (Jvm.Cond.instanceMethod ({ cls := "ThreadTown", name := "laysLegs", desc := "(II)V" } : Jvm.MethodName)) ∈ lw_all := lw_g (lw_at lw_m6 192 rfl) rfl
theorem q1506 : (Jvm.Cond.code ({ cls := "ThreadTown", name := "laysLegs", desc := "(II)V" } : Jvm.MethodName) prog_1_method_63_code (11 : Nat) (Option.none : Option Jvm.ClassFile.FieldType)) ∈ lw_all := lw_g (lw_at lw_m6 193 rfl) rfl
theorem q1507 : (Jvm.Cond.methodLink "ThreadTown" (364 : Nat) ({ cls := "ThreadTown", name := "wayAt", desc := "(II)I" } : Jvm.MethodName)) ∈ lw_all := lw_g (lw_at lw_m6 194 rfl) rfl
theorem q1508 : (Jvm.Cond.methodLink "ThreadTown" (367 : Nat) ({ cls := "ThreadTown", name := "goesLeg", desc := "([IIIII)V" } : Jvm.MethodName)) ∈ lw_all := lw_g (lw_at lw_m6 195 rfl) rfl
theorem q1509 : (Jvm.Cond.privateMethod ({ cls := "ThreadTown", name := "goesLeg", desc := "([IIIII)V" } : Jvm.MethodName)) ∈ lw_tbl := lw_at lw_m6 196 rfl
theorem q1510 : (Jvm.Cond.instanceMethod ({ cls := "ThreadTown", name := "goesLeg", desc := "([IIIII)V" } : Jvm.MethodName)) ∈ lw_all := lw_g (lw_at lw_m6 197 rfl) rfl
theorem q1511 : (Jvm.Cond.code ({ cls := "ThreadTown", name := "goesLeg", desc := "([IIIII)V" } : Jvm.MethodName) prog_1_method_62_code (9 : Nat) (Option.none : Option Jvm.ClassFile.FieldType)) ∈ lw_all := lw_g (lw_at lw_m6 198 rfl) rfl
theorem q1512 : (Jvm.Cond.methodLink "ThreadTown" (375 : Nat) ({ cls := "ThreadTown", name := "lieTogether", desc := "(IIII)I" } : Jvm.MethodName)) ∈ lw_all := lw_g (lw_at lw_m6 199 rfl) rfl
theorem q1513 : (Jvm.Cond.privateMethod ({ cls := "ThreadTown", name := "lieTogether", desc := "(IIII)I" } : Jvm.MethodName)) ∈ lw_tbl := lw_at lw_m6 200 rfl
theorem q1514 : (Jvm.Cond.instanceMethod ({ cls := "ThreadTown", name := "lieTogether", desc := "(IIII)I" } : Jvm.MethodName)) ∈ lw_all := lw_g (lw_at lw_m6 201 rfl) rfl
theorem q1515 : (Jvm.Cond.code ({ cls := "ThreadTown", name := "lieTogether", desc := "(IIII)I" } : Jvm.MethodName) prog_1_method_64_code (7 : Nat) (Option.some Jvm.ClassFile.FieldType.int)) ∈ lw_all := lw_g (lw_at lw_m6 202 rfl) rfl
theorem q1516 : (Jvm.Cond.methodLink "ThreadTownLaw" (170 : Nat) ({ cls := "ThreadTown", name := "tell", desc := "(IIZ)I" } : Jvm.MethodName)) ∈ lw_all := lw_g (lw_at lw_m6 203 rfl) rfl
theorem q1517 : (Jvm.Cond.instanceMethod ({ cls := "ThreadTown", name := "tell", desc := "(IIZ)I" } : Jvm.MethodName)) ∈ lw_all := lw_g (lw_at lw_m6 204 rfl) rfl
theorem q1518 : (Jvm.Cond.selects "ThreadTown" ({ cls := "ThreadTown", name := "tell", desc := "(IIZ)I" } : Jvm.MethodName) ({ cls := "ThreadTown", name := "tell", desc := "(IIZ)I" } : Jvm.MethodName)) ∈ lw_all := lw_g (lw_at lw_m6 205 rfl) rfl
theorem q1519 : (Jvm.Cond.code ({ cls := "ThreadTown", name := "tell", desc := "(IIZ)I" } : Jvm.MethodName) prog_1_method_66_code (4 : Nat) (Option.some Jvm.ClassFile.FieldType.int)) ∈ lw_all := lw_g (lw_at lw_m6 206 rfl) rfl
theorem q1520 : (Jvm.Cond.methodLink "ThreadTownLaw" (175 : Nat) ({ cls := "ThreadTown", name := "forget", desc := "()I" } : Jvm.MethodName)) ∈ lw_all := lw_g (lw_at lw_m6 207 rfl) rfl
theorem q1521 : (Jvm.Cond.instanceMethod ({ cls := "ThreadTown", name := "forget", desc := "()I" } : Jvm.MethodName)) ∈ lw_all := lw_g (lw_at lw_m6 208 rfl) rfl
theorem q1522 : (Jvm.Cond.selects "ThreadTown" ({ cls := "ThreadTown", name := "forget", desc := "()I" } : Jvm.MethodName) ({ cls := "ThreadTown", name := "forget", desc := "()I" } : Jvm.MethodName)) ∈ lw_all := lw_g (lw_at lw_m6 209 rfl) rfl
theorem q1523 : (Jvm.Cond.code ({ cls := "ThreadTown", name := "forget", desc := "()I" } : Jvm.MethodName) prog_1_method_67_code (2 : Nat) (Option.some Jvm.ClassFile.FieldType.int)) ∈ lw_all := lw_g (lw_at lw_m6 210 rfl) rfl
theorem q1524 : (Jvm.Cond.methodLink "ThreadTownLaw" (179 : Nat) ({ cls := "ThreadTown", name := "starts", desc := "(III)I" } : Jvm.MethodName)) ∈ lw_all := lw_g (lw_at lw_m6 211 rfl) rfl
theorem q1525 : (Jvm.Cond.instanceMethod ({ cls := "ThreadTown", name := "starts", desc := "(III)I" } : Jvm.MethodName)) ∈ lw_all := lw_g (lw_at lw_m6 212 rfl) rfl
theorem q1526 : (Jvm.Cond.selects "ThreadTown" ({ cls := "ThreadTown", name := "starts", desc := "(III)I" } : Jvm.MethodName) ({ cls := "ThreadTown", name := "starts", desc := "(III)I" } : Jvm.MethodName)) ∈ lw_all := lw_g (lw_at lw_m6 213 rfl) rfl
theorem q1527 : (Jvm.Cond.code ({ cls := "ThreadTown", name := "starts", desc := "(III)I" } : Jvm.MethodName) prog_1_method_69_code (9 : Nat) (Option.some Jvm.ClassFile.FieldType.int)) ∈ lw_all := lw_g (lw_at lw_m6 214 rfl) rfl
theorem q1528 : (Jvm.Cond.methodLink "ThreadTown" (382 : Nat) ({ cls := "ThreadTown", name := "isSo", desc := "(II)Z" } : Jvm.MethodName)) ∈ lw_all := lw_g (lw_at lw_m6 215 rfl) rfl
theorem q1529 : (Jvm.Cond.privateMethod ({ cls := "ThreadTown", name := "isSo", desc := "(II)Z" } : Jvm.MethodName)) ∈ lw_tbl := lw_at lw_m6 216 rfl
theorem q1530 : (Jvm.Cond.instanceMethod ({ cls := "ThreadTown", name := "isSo", desc := "(II)Z" } : Jvm.MethodName)) ∈ lw_all := lw_g (lw_at lw_m6 217 rfl) rfl
theorem q1531 : (Jvm.Cond.code ({ cls := "ThreadTown", name := "isSo", desc := "(II)Z" } : Jvm.MethodName) prog_1_method_68_code (5 : Nat) (Option.some Jvm.ClassFile.FieldType.boolean)) ∈ lw_all := lw_g (lw_at lw_m6 218 rfl) rfl
theorem q1532 : (Jvm.Cond.methodLink "ThreadTown" (378 : Nat) ({ cls := "ThreadTown$Cloth", name := "goes", desc := "(LThreadTown$Text;II)V" } : Jvm.MethodName)) ∈ lw_all := lw_g (lw_at lw_m6 219 rfl) rfl
theorem q1533 : (Jvm.Cond.methodLink "ThreadTownLaw" (183 : Nat) ({ cls := "ThreadTown", name := "hold", desc := "(I)Z" } : Jvm.MethodName)) ∈ lw_all := lw_g (lw_at lw_m6 220 rfl) rfl
theorem q1534 : (Jvm.Cond.instanceMethod ({ cls := "ThreadTown", name := "hold", desc := "(I)Z" } : Jvm.MethodName)) ∈ lw_all := lw_g (lw_at lw_m6 221 rfl) rfl
theorem q1535 : (Jvm.Cond.selects "ThreadTown" ({ cls := "ThreadTown", name := "hold", desc := "(I)Z" } : Jvm.MethodName) ({ cls := "ThreadTown", name := "hold", desc := "(I)Z" } : Jvm.MethodName)) ∈ lw_all := lw_g (lw_at lw_m6 222 rfl) rfl
theorem q1536 : (Jvm.Cond.code ({ cls := "ThreadTown", name := "hold", desc := "(I)Z" } : Jvm.MethodName) prog_1_method_70_code (2 : Nat) (Option.some Jvm.ClassFile.FieldType.boolean)) ∈ lw_all := lw_g (lw_at lw_m6 223 rfl) rfl
theorem q1537 : (Jvm.Cond.methodLink "ThreadTownLaw" (187 : Nat) ({ cls := "ThreadTown", name := "restore", desc := "(I)Z" } : Jvm.MethodName)) ∈ lw_all := lw_g (lw_at lw_m6 224 rfl) rfl
theorem q1538 : (Jvm.Cond.instanceMethod ({ cls := "ThreadTown", name := "restore", desc := "(I)Z" } : Jvm.MethodName)) ∈ lw_all := lw_g (lw_at lw_m6 225 rfl) rfl
theorem q1539 : (Jvm.Cond.selects "ThreadTown" ({ cls := "ThreadTown", name := "restore", desc := "(I)Z" } : Jvm.MethodName) ({ cls := "ThreadTown", name := "restore", desc := "(I)Z" } : Jvm.MethodName)) ∈ lw_all := lw_g (lw_at lw_m6 226 rfl) rfl
theorem q1540 : (Jvm.Cond.code ({ cls := "ThreadTown", name := "restore", desc := "(I)Z" } : Jvm.MethodName) prog_1_method_71_code (2 : Nat) (Option.some Jvm.ClassFile.FieldType.boolean)) ∈ lw_all := lw_g (lw_at lw_m6 227 rfl) rfl
theorem q1541 : (Jvm.Cond.methodLink "ThreadTownLaw" (191 : Nat) ({ cls := "ThreadTown", name := "count", desc := "(I)I" } : Jvm.MethodName)) ∈ lw_all := lw_g (lw_at lw_m6 228 rfl) rfl
theorem q1542 : (Jvm.Cond.instanceMethod ({ cls := "ThreadTown", name := "count", desc := "(I)I" } : Jvm.MethodName)) ∈ lw_all := lw_g (lw_at lw_m6 229 rfl) rfl
theorem q1543 : (Jvm.Cond.selects "ThreadTown" ({ cls := "ThreadTown", name := "count", desc := "(I)I" } : Jvm.MethodName) ({ cls := "ThreadTown", name := "count", desc := "(I)I" } : Jvm.MethodName)) ∈ lw_all := lw_g (lw_at lw_m6 230 rfl) rfl
theorem q1544 : (Jvm.Cond.code ({ cls := "ThreadTown", name := "count", desc := "(I)I" } : Jvm.MethodName) prog_1_method_72_code (4 : Nat) (Option.some Jvm.ClassFile.FieldType.int)) ∈ lw_all := lw_g (lw_at lw_m6 231 rfl) rfl
theorem q1545 : (Jvm.Cond.methodLink "ThreadTown" (385 : Nat) ({ cls := "ThreadTown$Cloth", name := "pieces", desc := "()I" } : Jvm.MethodName)) ∈ lw_all := lw_g (lw_at lw_m6 232 rfl) rfl
theorem q1546 : (Jvm.Cond.instanceMethod ({ cls := "ThreadTown$Cloth", name := "pieces", desc := "()I" } : Jvm.MethodName)) ∈ lw_all := lw_g (lw_at lw_m6 233 rfl) rfl
theorem q1547 : (Jvm.Cond.selects "ThreadTown$Cloth" ({ cls := "ThreadTown$Cloth", name := "pieces", desc := "()I" } : Jvm.MethodName) ({ cls := "ThreadTown$Cloth", name := "pieces", desc := "()I" } : Jvm.MethodName)) ∈ lw_all := lw_g (lw_at lw_m6 234 rfl) rfl
theorem q1548 : (Jvm.Cond.code ({ cls := "ThreadTown$Cloth", name := "pieces", desc := "()I" } : Jvm.MethodName) prog_8_method_16_code (3 : Nat) (Option.some Jvm.ClassFile.FieldType.int)) ∈ lw_all := lw_g (lw_at lw_m6 235 rfl) rfl
theorem q1549 : (Jvm.Cond.classLink "ThreadTownLaw" (10 : Nat) "ThreadTownModel") ∈ lw_all := lw_g (lw_at lw_m6 236 rfl) rfl
theorem q1550 : (Jvm.Cond.instantiable "ThreadTownModel" (75 : Nat)) ∈ lw_all := lw_g (lw_at lw_m6 237 rfl) rfl
theorem q1551 : (Jvm.Cond.methodLink "ThreadTownLaw" (12 : Nat) ({ cls := "ThreadTownModel", name := "<init>", desc := "()V" } : Jvm.MethodName)) ∈ lw_all := lw_g (lw_at lw_m6 238 rfl) rfl
theorem q1552 : (Jvm.Cond.instanceMethod ({ cls := "ThreadTownModel", name := "<init>", desc := "()V" } : Jvm.MethodName)) ∈ lw_all := lw_g (lw_at lw_m6 239 rfl) rfl
theorem q1553 : (Jvm.Cond.code ({ cls := "ThreadTownModel", name := "<init>", desc := "()V" } : Jvm.MethodName) prog_21_method_2_code (1 : Nat) (Option.none : Option Jvm.ClassFile.FieldType)) ∈ lw_all := lw_g (lw_at lw_m7 0 rfl) rfl
theorem q1554 : (Jvm.Cond.methodLink "ThreadTownModel" (7 : Nat) ({ cls := "java/lang/Object", name := "<init>", desc := "()V" } : Jvm.MethodName)) ∈ lw_all := lw_g (lw_at lw_m7 1 rfl) rfl
theorem q1555 : (Jvm.Cond.constant "ThreadTownModel" (137 : Nat) (38700 : Int32)) ∈ lw_all := lw_g (lw_at lw_m7 2 rfl) rfl
theorem q1556 : (Jvm.Cond.methodLink "ThreadTownModel" (177 : Nat) ({ cls := "ThreadTownModel", name := "plain0", desc := "(I)V" } : Jvm.MethodName)) ∈ lw_all := lw_g (lw_at lw_m7 3 rfl) rfl
theorem q1557 : (Jvm.Cond.privateMethod ({ cls := "ThreadTownModel", name := "plain0", desc := "(I)V" } : Jvm.MethodName)) ∈ lw_tbl := lw_at lw_m7 4 rfl
theorem q1558 : (Jvm.Cond.instanceMethod ({ cls := "ThreadTownModel", name := "plain0", desc := "(I)V" } : Jvm.MethodName)) ∈ lw_all := lw_g (lw_at lw_m7 5 rfl) rfl
theorem q1559 : (Jvm.Cond.code ({ cls := "ThreadTownModel", name := "plain0", desc := "(I)V" } : Jvm.MethodName) prog_21_method_19_code (3 : Nat) (Option.none : Option Jvm.ClassFile.FieldType)) ∈ lw_all := lw_g (lw_at lw_m7 6 rfl) rfl
theorem q1560 : (Jvm.Cond.methodLink "ThreadTownModel" (181 : Nat) ({ cls := "ThreadTownModel", name := "word", desc := "(IIIIIII)J" } : Jvm.MethodName)) ∈ lw_all := lw_g (lw_at lw_m7 7 rfl) rfl
theorem q1561 : (Jvm.Cond.static ({ cls := "ThreadTownModel", name := "word", desc := "(IIIIIII)J" } : Jvm.MethodName)) ∈ lw_all := lw_g (lw_at lw_m7 8 rfl) rfl
theorem q1562 : (Jvm.Cond.code ({ cls := "ThreadTownModel", name := "word", desc := "(IIIIIII)J" } : Jvm.MethodName) prog_21_method_10_code (7 : Nat) (Option.some Jvm.ClassFile.FieldType.long)) ∈ lw_all := lw_g (lw_at lw_m7 9 rfl) rfl
theorem q1563 : (Jvm.Cond.methodLink "ThreadTownModel" (202 : Nat) ({ cls := "ThreadTownModel", name := "appends", desc := "(JI)J" } : Jvm.MethodName)) ∈ lw_all := lw_g (lw_at lw_m7 10 rfl) rfl
theorem q1564 : (Jvm.Cond.static ({ cls := "ThreadTownModel", name := "appends", desc := "(JI)J" } : Jvm.MethodName)) ∈ lw_all := lw_g (lw_at lw_m7 11 rfl) rfl
theorem q1565 : (Jvm.Cond.code ({ cls := "ThreadTownModel", name := "appends", desc := "(JI)J" } : Jvm.MethodName) prog_21_method_9_code (3 : Nat) (Option.some Jvm.ClassFile.FieldType.long)) ∈ lw_all := lw_g (lw_at lw_m7 12 rfl) rfl
theorem q1566 : (Jvm.Cond.constantLong "ThreadTownModel" (200 : Nat) (27 : Int64)) ∈ lw_all := lw_g (lw_at lw_m7 13 rfl) rfl
theorem q1567 : (Jvm.Cond.methodLink "ThreadTownModel" (185 : Nat) ({ cls := "ThreadTownModel", name := "begins", desc := "()V" } : Jvm.MethodName)) ∈ lw_all := lw_g (lw_at lw_m7 14 rfl) rfl
theorem q1568 : (Jvm.Cond.privateMethod ({ cls := "ThreadTownModel", name := "begins", desc := "()V" } : Jvm.MethodName)) ∈ lw_tbl := lw_at lw_m7 15 rfl
theorem q1569 : (Jvm.Cond.instanceMethod ({ cls := "ThreadTownModel", name := "begins", desc := "()V" } : Jvm.MethodName)) ∈ lw_all := lw_g (lw_at lw_m7 16 rfl) rfl
theorem q1570 : (Jvm.Cond.code ({ cls := "ThreadTownModel", name := "begins", desc := "()V" } : Jvm.MethodName) prog_21_method_40_code (2 : Nat) (Option.none : Option Jvm.ClassFile.FieldType)) ∈ lw_all := lw_g (lw_at lw_m7 17 rfl) rfl
theorem q1571 : (Jvm.Cond.methodLink "ThreadTownModel" (188 : Nat) ({ cls := "ThreadTownModel", name := "keepsRow", desc := "()V" } : Jvm.MethodName)) ∈ lw_all := lw_g (lw_at lw_m7 18 rfl) rfl
theorem q1572 : (Jvm.Cond.privateMethod ({ cls := "ThreadTownModel", name := "keepsRow", desc := "()V" } : Jvm.MethodName)) ∈ lw_tbl := lw_at lw_m7 19 rfl
theorem q1573 : (Jvm.Cond.instanceMethod ({ cls := "ThreadTownModel", name := "keepsRow", desc := "()V" } : Jvm.MethodName)) ∈ lw_all := lw_g (lw_at lw_m7 20 rfl) rfl
theorem q1574 : (Jvm.Cond.code ({ cls := "ThreadTownModel", name := "keepsRow", desc := "()V" } : Jvm.MethodName) prog_21_method_41_code (2 : Nat) (Option.none : Option Jvm.ClassFile.FieldType)) ∈ lw_all := lw_g (lw_at lw_m7 21 rfl) rfl
theorem q1575 : (Jvm.Cond.fieldLink "ThreadTownModel" (13 : Nat) "ThreadTownModel" "tape" "[B") ∈ lw_all := lw_g (lw_at lw_m7 22 rfl) rfl
theorem q1576 : (Jvm.Cond.fieldLink "ThreadTownModel" (191 : Nat) "ThreadTownModel" "taped" "I") ∈ lw_all := lw_g (lw_at lw_m7 23 rfl) rfl
theorem q1577 : (Jvm.Cond.fieldLink "ThreadTownModel" (17 : Nat) "ThreadTownModel" "text" "[B") ∈ lw_all := lw_g (lw_at lw_m7 24 rfl) rfl
theorem q1578 : (Jvm.Cond.fieldLink "ThreadTownModel" (197 : Nat) "ThreadTownModel" "size" "I") ∈ lw_all := lw_g (lw_at lw_m7 25 rfl) rfl
theorem q1579 : (Jvm.Cond.fieldLink "ThreadTownModel" (20 : Nat) "ThreadTownModel" "tKind" "[I") ∈ lw_all := lw_g (lw_at lw_m7 26 rfl) rfl
theorem q1580 : (Jvm.Cond.fieldLink "ThreadTownModel" (24 : Nat) "ThreadTownModel" "tPlace" "[I") ∈ lw_all := lw_g (lw_at lw_m7 27 rfl) rfl
theorem q1581 : (Jvm.Cond.fieldLink "ThreadTownModel" (27 : Nat) "ThreadTownModel" "tValue" "[I") ∈ lw_all := lw_g (lw_at lw_m7 28 rfl) rfl
theorem q1582 : (Jvm.Cond.fieldLink "ThreadTownModel" (30 : Nat) "ThreadTownModel" "tName" "[J") ∈ lw_all := lw_g (lw_at lw_m7 29 rfl) rfl
theorem q1583 : (Jvm.Cond.fieldLink "ThreadTownModel" (34 : Nat) "ThreadTownModel" "keys" "[J") ∈ lw_all := lw_g (lw_at lw_m7 30 rfl) rfl
theorem q1584 : (Jvm.Cond.fieldLink "ThreadTownModel" (206 : Nat) "ThreadTownModel" "tokens" "I") ∈ lw_all := lw_g (lw_at lw_m7 31 rfl) rfl
theorem q1585 : (Jvm.Cond.fieldLink "ThreadTownModel" (231 : Nat) "ThreadTownModel" "t" "I") ∈ lw_all := lw_g (lw_at lw_m7 32 rfl) rfl
theorem q1586 : (Jvm.Cond.fieldLink "ThreadTownModel" (255 : Nat) "ThreadTownModel" "open" "I") ∈ lw_all := lw_g (lw_at lw_m7 33 rfl) rfl
theorem q1587 : (Jvm.Cond.fieldLink "ThreadTownModel" (228 : Nat) "ThreadTownModel" "fault" "I") ∈ lw_all := lw_g (lw_at lw_m7 34 rfl) rfl
theorem q1588 : (Jvm.Cond.fieldLink "ThreadTownModel" (234 : Nat) "ThreadTownModel" "faultPlace" "I") ∈ lw_all := lw_g (lw_at lw_m7 35 rfl) rfl
theorem q1589 : (Jvm.Cond.fieldLink "ThreadTownModel" (237 : Nat) "ThreadTownModel" "worst" "I") ∈ lw_all := lw_g (lw_at lw_m7 36 rfl) rfl
theorem q1590 : (Jvm.Cond.fieldLink "ThreadTownModel" (240 : Nat) "ThreadTownModel" "worstPlace" "I") ∈ lw_all := lw_g (lw_at lw_m7 37 rfl) rfl
theorem q1591 : (Jvm.Cond.fieldLink "ThreadTownModel" (37 : Nat) "ThreadTownModel" "place" "I") ∈ lw_all := lw_g (lw_at lw_m7 38 rfl) rfl
theorem q1592 : (Jvm.Cond.fieldLink "ThreadTownModel" (258 : Nat) "ThreadTownModel" "live" "I") ∈ lw_all := lw_g (lw_at lw_m7 39 rfl) rfl
theorem q1593 : (Jvm.Cond.fieldLink "ThreadTownModel" (261 : Nat) "ThreadTownModel" "side" "I") ∈ lw_all := lw_g (lw_at lw_m7 40 rfl) rfl
theorem q1594 : (Jvm.Cond.fieldLink "ThreadTownModel" (264 : Nat) "ThreadTownModel" "names" "I") ∈ lw_all := lw_g (lw_at lw_m7 41 rfl) rfl
theorem q1595 : (Jvm.Cond.fieldLink "ThreadTownModel" (40 : Nat) "ThreadTownModel" "nameOf" "[J") ∈ lw_all := lw_g (lw_at lw_m7 42 rfl) rfl
theorem q1596 : (Jvm.Cond.fieldLink "ThreadTownModel" (43 : Nat) "ThreadTownModel" "wide" "[I") ∈ lw_all := lw_g (lw_at lw_m7 43 rfl) rfl
theorem q1597 : (Jvm.Cond.fieldLink "ThreadTownModel" (46 : Nat) "ThreadTownModel" "high" "[I") ∈ lw_all := lw_g (lw_at lw_m7 44 rfl) rfl
theorem q1598 : (Jvm.Cond.fieldLink "ThreadTownModel" (49 : Nat) "ThreadTownModel" "men" "[I") ∈ lw_all := lw_g (lw_at lw_m7 45 rfl) rfl
theorem q1599 : (Jvm.Cond.fieldLink "ThreadTownModel" (52 : Nat) "ThreadTownModel" "doorX" "[I") ∈ lw_all := lw_g (lw_at lw_m7 46 rfl) rfl
theorem q1600 : (Jvm.Cond.fieldLink "ThreadTownModel" (55 : Nat) "ThreadTownModel" "doorY" "[I") ∈ lw_all := lw_g (lw_at lw_m7 47 rfl) rfl
theorem q1601 : (Jvm.Cond.fieldLink "ThreadTownModel" (58 : Nat) "ThreadTownModel" "dyeOf" "[I") ∈ lw_all := lw_g (lw_at lw_m7 48 rfl) rfl
theorem q1602 : (Jvm.Cond.fieldLink "ThreadTownModel" (61 : Nat) "ThreadTownModel" "errands" "[I") ∈ lw_all := lw_g (lw_at lw_m7 49 rfl) rfl
theorem q1603 : (Jvm.Cond.fieldLink "ThreadTownModel" (64 : Nat) "ThreadTownModel" "errandX" "[I") ∈ lw_all := lw_g (lw_at lw_m7 50 rfl) rfl
theorem q1604 : (Jvm.Cond.fieldLink "ThreadTownModel" (67 : Nat) "ThreadTownModel" "errandY" "[I") ∈ lw_all := lw_g (lw_at lw_m7 51 rfl) rfl
theorem q1605 : (Jvm.Cond.fieldLink "ThreadTownModel" (70 : Nat) "ThreadTownModel" "pillars" "[I") ∈ lw_all := lw_g (lw_at lw_m7 52 rfl) rfl
theorem q1606 : (Jvm.Cond.fieldLink "ThreadTownModel" (73 : Nat) "ThreadTownModel" "pillarX" "[I") ∈ lw_all := lw_g (lw_at lw_m7 53 rfl) rfl
theorem q1607 : (Jvm.Cond.fieldLink "ThreadTownModel" (76 : Nat) "ThreadTownModel" "pillarY" "[I") ∈ lw_all := lw_g (lw_at lw_m7 54 rfl) rfl
theorem q1608 : (Jvm.Cond.fieldLink "ThreadTownModel" (79 : Nat) "ThreadTownModel" "seed" "[I") ∈ lw_all := lw_g (lw_at lw_m7 55 rfl) rfl
theorem q1609 : (Jvm.Cond.fieldLink "ThreadTownModel" (267 : Nat) "ThreadTownModel" "corners" "I") ∈ lw_all := lw_g (lw_at lw_m7 56 rfl) rfl
theorem q1610 : (Jvm.Cond.fieldLink "ThreadTownModel" (82 : Nat) "ThreadTownModel" "cornerX" "[I") ∈ lw_all := lw_g (lw_at lw_m7 57 rfl) rfl
theorem q1611 : (Jvm.Cond.fieldLink "ThreadTownModel" (85 : Nat) "ThreadTownModel" "cornerY" "[I") ∈ lw_all := lw_g (lw_at lw_m7 58 rfl) rfl
theorem q1612 : (Jvm.Cond.fieldLink "ThreadTownModel" (88 : Nat) "ThreadTownModel" "cornerToken" "[I") ∈ lw_all := lw_g (lw_at lw_m7 59 rfl) rfl
theorem q1613 : (Jvm.Cond.fieldLink "ThreadTownModel" (91 : Nat) "ThreadTownModel" "lawFirst" "[I") ∈ lw_all := lw_g (lw_at lw_m7 60 rfl) rfl
theorem q1614 : (Jvm.Cond.fieldLink "ThreadTownModel" (94 : Nat) "ThreadTownModel" "lawLast" "[I") ∈ lw_all := lw_g (lw_at lw_m7 61 rfl) rfl
theorem q1615 : (Jvm.Cond.fieldLink "ThreadTownModel" (270 : Nat) "ThreadTownModel" "branches" "I") ∈ lw_all := lw_g (lw_at lw_m7 62 rfl) rfl
theorem q1616 : (Jvm.Cond.fieldLink "ThreadTownModel" (97 : Nat) "ThreadTownModel" "hasTest" "[Z") ∈ lw_all := lw_g (lw_at lw_m7 63 rfl) rfl
theorem q1617 : (Jvm.Cond.fieldLink "ThreadTownModel" (101 : Nat) "ThreadTownModel" "testFrom" "[I") ∈ lw_all := lw_g (lw_at lw_m7 64 rfl) rfl
theorem q1618 : (Jvm.Cond.fieldLink "ThreadTownModel" (104 : Nat) "ThreadTownModel" "testMid" "[I") ∈ lw_all := lw_g (lw_at lw_m7 65 rfl) rfl
theorem q1619 : (Jvm.Cond.fieldLink "ThreadTownModel" (107 : Nat) "ThreadTownModel" "testTo" "[I") ∈ lw_all := lw_g (lw_at lw_m7 66 rfl) rfl
theorem q1620 : (Jvm.Cond.fieldLink "ThreadTownModel" (110 : Nat) "ThreadTownModel" "termTo" "[I") ∈ lw_all := lw_g (lw_at lw_m7 67 rfl) rfl
theorem q1621 : (Jvm.Cond.fieldLink "ThreadTownModel" (273 : Nat) "ThreadTownModel" "codes" "I") ∈ lw_all := lw_g (lw_at lw_m7 68 rfl) rfl
theorem q1622 : (Jvm.Cond.fieldLink "ThreadTownModel" (113 : Nat) "ThreadTownModel" "code" "[I") ∈ lw_all := lw_g (lw_at lw_m7 69 rfl) rfl
theorem q1623 : (Jvm.Cond.fieldLink "ThreadTownModel" (116 : Nat) "ThreadTownModel" "codeInt" "[I") ∈ lw_all := lw_g (lw_at lw_m7 70 rfl) rfl
theorem q1624 : (Jvm.Cond.fieldLink "ThreadTownModel" (119 : Nat) "ThreadTownModel" "waits" "[I") ∈ lw_all := lw_g (lw_at lw_m7 71 rfl) rfl
theorem q1625 : (Jvm.Cond.fieldLink "ThreadTownModel" (328 : Nat) "ThreadTownModel" "waiting" "I") ∈ lw_all := lw_g (lw_at lw_m7 72 rfl) rfl
theorem q1626 : (Jvm.Cond.fieldLink "ThreadTownModel" (122 : Nat) "ThreadTownModel" "variables" "[I") ∈ lw_all := lw_g (lw_at lw_m7 73 rfl) rfl
theorem q1627 : (Jvm.Cond.fieldLink "ThreadTownModel" (125 : Nat) "ThreadTownModel" "pile" "[I") ∈ lw_all := lw_g (lw_at lw_m7 74 rfl) rfl
theorem q1628 : (Jvm.Cond.fieldLink "ThreadTownModel" (341 : Nat) "ThreadTownModel" "isBroken" "Z") ∈ lw_all := lw_g (lw_at lw_m7 75 rfl) rfl
theorem q1629 : (Jvm.Cond.fieldLink "ThreadTownModel" (128 : Nat) "ThreadTownModel" "now" "[I") ∈ lw_all := lw_g (lw_at lw_m7 76 rfl) rfl
theorem q1630 : (Jvm.Cond.fieldLink "ThreadTownModel" (131 : Nat) "ThreadTownModel" "row" "[I") ∈ lw_all := lw_g (lw_at lw_m7 77 rfl) rfl
theorem q1631 : (Jvm.Cond.fieldLink "ThreadTownModel" (134 : Nat) "ThreadTownModel" "later" "[I") ∈ lw_all := lw_g (lw_at lw_m7 78 rfl) rfl
theorem q1632 : (Jvm.Cond.fieldLink "ThreadTownModel" (283 : Nat) "ThreadTownModel" "undos" "I") ∈ lw_all := lw_g (lw_at lw_m7 79 rfl) rfl
theorem q1633 : (Jvm.Cond.fieldLink "ThreadTownModel" (138 : Nat) "ThreadTownModel" "history" "[I") ∈ lw_all := lw_g (lw_at lw_m7 80 rfl) rfl
theorem q1634 : (Jvm.Cond.fieldLink "ThreadTownModel" (141 : Nat) "ThreadTownModel" "waitsFor" "[I") ∈ lw_all := lw_g (lw_at lw_m7 81 rfl) rfl
theorem q1635 : (Jvm.Cond.fieldLink "ThreadTownModel" (144 : Nat) "ThreadTownModel" "ordersOf" "[I") ∈ lw_all := lw_g (lw_at lw_m7 82 rfl) rfl
theorem q1636 : (Jvm.Cond.fieldLink "ThreadTownModel" (147 : Nat) "ThreadTownModel" "order" "[I") ∈ lw_all := lw_g (lw_at lw_m7 83 rfl) rfl
theorem q1637 : (Jvm.Cond.fieldLink "ThreadTownModel" (150 : Nat) "ThreadTownModel" "bestOrder" "[I") ∈ lw_all := lw_g (lw_at lw_m7 84 rfl) rfl
theorem q1638 : (Jvm.Cond.fieldLink "ThreadTownModel" (455 : Nat) "ThreadTownModel" "goneBy" "I") ∈ lw_all := lw_g (lw_at lw_m7 85 rfl) rfl
theorem q1639 : (Jvm.Cond.fieldLink "ThreadTownModel" (458 : Nat) "ThreadTownModel" "wound" "I") ∈ lw_all := lw_g (lw_at lw_m7 86 rfl) rfl
theorem q1640 : (Jvm.Cond.fieldLink "ThreadTownModel" (153 : Nat) "ThreadTownModel" "keyOf" "[I") ∈ lw_all := lw_g (lw_at lw_m7 87 rfl) rfl
theorem q1641 : (Jvm.Cond.fieldLink "ThreadTownModel" (156 : Nat) "ThreadTownModel" "laid" "[I") ∈ lw_all := lw_g (lw_at lw_m7 88 rfl) rfl
theorem q1642 : (Jvm.Cond.fieldLink "ThreadTownModel" (159 : Nat) "ThreadTownModel" "crossed" "[I") ∈ lw_all := lw_g (lw_at lw_m7 89 rfl) rfl
theorem q1643 : (Jvm.Cond.fieldLink "ThreadTownModel" (286 : Nat) "ThreadTownModel" "told" "I") ∈ lw_all := lw_g (lw_at lw_m7 90 rfl) rfl
theorem q1644 : (Jvm.Cond.fieldLink "ThreadTownModel" (162 : Nat) "ThreadTownModel" "toldMan" "[I") ∈ lw_all := lw_g (lw_at lw_m7 91 rfl) rfl
theorem q1645 : (Jvm.Cond.fieldLink "ThreadTownModel" (165 : Nat) "ThreadTownModel" "toldOther" "[I") ∈ lw_all := lw_g (lw_at lw_m7 92 rfl) rfl
theorem q1646 : (Jvm.Cond.fieldLink "ThreadTownModel" (168 : Nat) "ThreadTownModel" "toldOver" "[Z") ∈ lw_all := lw_g (lw_at lw_m7 93 rfl) rfl
theorem q1647 : (Jvm.Cond.fieldLink "ThreadTownModel" (171 : Nat) "ThreadTownModel" "isHeld" "[Z") ∈ lw_all := lw_g (lw_at lw_m7 94 rfl) rfl
theorem q1648 : (Jvm.Cond.fieldLink "ThreadTownModel" (174 : Nat) "ThreadTownModel" "held" "[I") ∈ lw_all := lw_g (lw_at lw_m7 95 rfl) rfl
theorem q1649 : (Jvm.Cond.lays "ThreadTownModel" "ThreadTownModel" "thrown" "I") ∈ lw_all := lw_g (lw_at lw_m7 96 rfl) rfl
theorem q1650 : (Jvm.Cond.soleField "ThreadTownModel" "thrown") ∈ lw_all := lw_g (lw_at lw_m7 97 rfl) rfl
theorem q1651 : (Jvm.Cond.laysFinal "ThreadTownModel" "ThreadTownModel" "tape" "[B") ∈ lw_all := lw_g (lw_at lw_m7 98 rfl) rfl
theorem q1652 : (Jvm.Cond.soleField "ThreadTownModel" "tape") ∈ lw_all := lw_g (lw_at lw_m7 99 rfl) rfl
theorem q1653 : (Jvm.Cond.lays "ThreadTownModel" "ThreadTownModel" "taped" "I") ∈ lw_all := lw_g (lw_at lw_m7 100 rfl) rfl
theorem q1654 : (Jvm.Cond.soleField "ThreadTownModel" "taped") ∈ lw_all := lw_g (lw_at lw_m7 101 rfl) rfl
theorem q1655 : (Jvm.Cond.laysFinal "ThreadTownModel" "ThreadTownModel" "text" "[B") ∈ lw_all := lw_g (lw_at lw_m7 102 rfl) rfl
theorem q1656 : (Jvm.Cond.soleField "ThreadTownModel" "text") ∈ lw_all := lw_g (lw_at lw_m7 103 rfl) rfl
theorem q1657 : (Jvm.Cond.lays "ThreadTownModel" "ThreadTownModel" "size" "I") ∈ lw_all := lw_g (lw_at lw_m7 104 rfl) rfl
theorem q1658 : (Jvm.Cond.soleField "ThreadTownModel" "size") ∈ lw_all := lw_g (lw_at lw_m7 105 rfl) rfl
theorem q1659 : (Jvm.Cond.laysFinal "ThreadTownModel" "ThreadTownModel" "tKind" "[I") ∈ lw_all := lw_g (lw_at lw_m7 106 rfl) rfl
theorem q1660 : (Jvm.Cond.soleField "ThreadTownModel" "tKind") ∈ lw_all := lw_g (lw_at lw_m7 107 rfl) rfl
theorem q1661 : (Jvm.Cond.laysFinal "ThreadTownModel" "ThreadTownModel" "tPlace" "[I") ∈ lw_all := lw_g (lw_at lw_m7 108 rfl) rfl
theorem q1662 : (Jvm.Cond.soleField "ThreadTownModel" "tPlace") ∈ lw_all := lw_g (lw_at lw_m7 109 rfl) rfl
theorem q1663 : (Jvm.Cond.laysFinal "ThreadTownModel" "ThreadTownModel" "tValue" "[I") ∈ lw_all := lw_g (lw_at lw_m7 110 rfl) rfl
theorem q1664 : (Jvm.Cond.soleField "ThreadTownModel" "tValue") ∈ lw_all := lw_g (lw_at lw_m7 111 rfl) rfl
theorem q1665 : (Jvm.Cond.laysFinal "ThreadTownModel" "ThreadTownModel" "tName" "[J") ∈ lw_all := lw_g (lw_at lw_m7 112 rfl) rfl
theorem q1666 : (Jvm.Cond.soleField "ThreadTownModel" "tName") ∈ lw_all := lw_g (lw_at lw_m7 113 rfl) rfl
theorem q1667 : (Jvm.Cond.laysFinal "ThreadTownModel" "ThreadTownModel" "keys" "[J") ∈ lw_all := lw_g (lw_at lw_m7 114 rfl) rfl
theorem q1668 : (Jvm.Cond.soleField "ThreadTownModel" "keys") ∈ lw_all := lw_g (lw_at lw_m7 115 rfl) rfl
theorem q1669 : (Jvm.Cond.lays "ThreadTownModel" "ThreadTownModel" "tokens" "I") ∈ lw_all := lw_g (lw_at lw_m7 116 rfl) rfl
theorem q1670 : (Jvm.Cond.soleField "ThreadTownModel" "tokens") ∈ lw_all := lw_g (lw_at lw_m7 117 rfl) rfl
theorem q1671 : (Jvm.Cond.lays "ThreadTownModel" "ThreadTownModel" "t" "I") ∈ lw_all := lw_g (lw_at lw_m7 118 rfl) rfl
theorem q1672 : (Jvm.Cond.soleField "ThreadTownModel" "t") ∈ lw_all := lw_g (lw_at lw_m7 119 rfl) rfl
theorem q1673 : (Jvm.Cond.lays "ThreadTownModel" "ThreadTownModel" "open" "I") ∈ lw_all := lw_g (lw_at lw_m7 120 rfl) rfl
theorem q1674 : (Jvm.Cond.soleField "ThreadTownModel" "open") ∈ lw_all := lw_g (lw_at lw_m7 121 rfl) rfl
theorem q1675 : (Jvm.Cond.lays "ThreadTownModel" "ThreadTownModel" "fault" "I") ∈ lw_all := lw_g (lw_at lw_m7 122 rfl) rfl
theorem q1676 : (Jvm.Cond.soleField "ThreadTownModel" "fault") ∈ lw_all := lw_g (lw_at lw_m7 123 rfl) rfl
theorem q1677 : (Jvm.Cond.lays "ThreadTownModel" "ThreadTownModel" "faultPlace" "I") ∈ lw_all := lw_g (lw_at lw_m7 124 rfl) rfl
theorem q1678 : (Jvm.Cond.soleField "ThreadTownModel" "faultPlace") ∈ lw_all := lw_g (lw_at lw_m7 125 rfl) rfl
theorem q1679 : (Jvm.Cond.lays "ThreadTownModel" "ThreadTownModel" "worst" "I") ∈ lw_all := lw_g (lw_at lw_m7 126 rfl) rfl
theorem q1680 : (Jvm.Cond.soleField "ThreadTownModel" "worst") ∈ lw_all := lw_g (lw_at lw_m7 127 rfl) rfl
theorem q1681 : (Jvm.Cond.lays "ThreadTownModel" "ThreadTownModel" "worstPlace" "I") ∈ lw_all := lw_g (lw_at lw_m7 128 rfl) rfl
theorem q1682 : (Jvm.Cond.soleField "ThreadTownModel" "worstPlace") ∈ lw_all := lw_g (lw_at lw_m7 129 rfl) rfl
theorem q1683 : (Jvm.Cond.lays "ThreadTownModel" "ThreadTownModel" "place" "I") ∈ lw_all := lw_g (lw_at lw_m7 130 rfl) rfl
theorem q1684 : (Jvm.Cond.soleField "ThreadTownModel" "place") ∈ lw_all := lw_g (lw_at lw_m7 131 rfl) rfl
theorem q1685 : (Jvm.Cond.lays "ThreadTownModel" "ThreadTownModel" "live" "I") ∈ lw_all := lw_g (lw_at lw_m7 132 rfl) rfl
theorem q1686 : (Jvm.Cond.soleField "ThreadTownModel" "live") ∈ lw_all := lw_g (lw_at lw_m7 133 rfl) rfl
theorem q1687 : (Jvm.Cond.lays "ThreadTownModel" "ThreadTownModel" "side" "I") ∈ lw_all := lw_g (lw_at lw_m7 134 rfl) rfl
theorem q1688 : (Jvm.Cond.soleField "ThreadTownModel" "side") ∈ lw_all := lw_g (lw_at lw_m7 135 rfl) rfl
theorem q1689 : (Jvm.Cond.lays "ThreadTownModel" "ThreadTownModel" "names" "I") ∈ lw_all := lw_g (lw_at lw_m7 136 rfl) rfl
theorem q1690 : (Jvm.Cond.soleField "ThreadTownModel" "names") ∈ lw_all := lw_g (lw_at lw_m7 137 rfl) rfl
theorem q1691 : (Jvm.Cond.laysFinal "ThreadTownModel" "ThreadTownModel" "nameOf" "[J") ∈ lw_all := lw_g (lw_at lw_m7 138 rfl) rfl
theorem q1692 : (Jvm.Cond.soleField "ThreadTownModel" "nameOf") ∈ lw_all := lw_g (lw_at lw_m7 139 rfl) rfl
theorem q1693 : (Jvm.Cond.laysFinal "ThreadTownModel" "ThreadTownModel" "wide" "[I") ∈ lw_all := lw_g (lw_at lw_m7 140 rfl) rfl
theorem q1694 : (Jvm.Cond.soleField "ThreadTownModel" "wide") ∈ lw_all := lw_g (lw_at lw_m7 141 rfl) rfl
theorem q1695 : (Jvm.Cond.laysFinal "ThreadTownModel" "ThreadTownModel" "high" "[I") ∈ lw_all := lw_g (lw_at lw_m7 142 rfl) rfl
theorem q1696 : (Jvm.Cond.soleField "ThreadTownModel" "high") ∈ lw_all := lw_g (lw_at lw_m7 143 rfl) rfl
theorem q1697 : (Jvm.Cond.laysFinal "ThreadTownModel" "ThreadTownModel" "men" "[I") ∈ lw_all := lw_g (lw_at lw_m7 144 rfl) rfl
theorem q1698 : (Jvm.Cond.soleField "ThreadTownModel" "men") ∈ lw_all := lw_g (lw_at lw_m7 145 rfl) rfl
theorem q1699 : (Jvm.Cond.laysFinal "ThreadTownModel" "ThreadTownModel" "doorX" "[I") ∈ lw_all := lw_g (lw_at lw_m7 146 rfl) rfl
theorem q1700 : (Jvm.Cond.soleField "ThreadTownModel" "doorX") ∈ lw_all := lw_g (lw_at lw_m7 147 rfl) rfl
theorem q1701 : (Jvm.Cond.laysFinal "ThreadTownModel" "ThreadTownModel" "doorY" "[I") ∈ lw_all := lw_g (lw_at lw_m7 148 rfl) rfl
theorem q1702 : (Jvm.Cond.soleField "ThreadTownModel" "doorY") ∈ lw_all := lw_g (lw_at lw_m7 149 rfl) rfl
theorem q1703 : (Jvm.Cond.laysFinal "ThreadTownModel" "ThreadTownModel" "dyeOf" "[I") ∈ lw_all := lw_g (lw_at lw_m7 150 rfl) rfl
theorem q1704 : (Jvm.Cond.soleField "ThreadTownModel" "dyeOf") ∈ lw_all := lw_g (lw_at lw_m7 151 rfl) rfl
theorem q1705 : (Jvm.Cond.laysFinal "ThreadTownModel" "ThreadTownModel" "errands" "[I") ∈ lw_all := lw_g (lw_at lw_m7 152 rfl) rfl
theorem q1706 : (Jvm.Cond.soleField "ThreadTownModel" "errands") ∈ lw_all := lw_g (lw_at lw_m7 153 rfl) rfl
theorem q1707 : (Jvm.Cond.laysFinal "ThreadTownModel" "ThreadTownModel" "errandX" "[I") ∈ lw_all := lw_g (lw_at lw_m7 154 rfl) rfl
theorem q1708 : (Jvm.Cond.soleField "ThreadTownModel" "errandX") ∈ lw_all := lw_g (lw_at lw_m7 155 rfl) rfl
theorem q1709 : (Jvm.Cond.laysFinal "ThreadTownModel" "ThreadTownModel" "errandY" "[I") ∈ lw_all := lw_g (lw_at lw_m7 156 rfl) rfl
theorem q1710 : (Jvm.Cond.soleField "ThreadTownModel" "errandY") ∈ lw_all := lw_g (lw_at lw_m7 157 rfl) rfl
theorem q1711 : (Jvm.Cond.laysFinal "ThreadTownModel" "ThreadTownModel" "pillars" "[I") ∈ lw_all := lw_g (lw_at lw_m7 158 rfl) rfl
theorem q1712 : (Jvm.Cond.soleField "ThreadTownModel" "pillars") ∈ lw_all := lw_g (lw_at lw_m7 159 rfl) rfl
theorem q1713 : (Jvm.Cond.laysFinal "ThreadTownModel" "ThreadTownModel" "pillarX" "[I") ∈ lw_all := lw_g (lw_at lw_m7 160 rfl) rfl
theorem q1714 : (Jvm.Cond.soleField "ThreadTownModel" "pillarX") ∈ lw_all := lw_g (lw_at lw_m7 161 rfl) rfl
theorem q1715 : (Jvm.Cond.laysFinal "ThreadTownModel" "ThreadTownModel" "pillarY" "[I") ∈ lw_all := lw_g (lw_at lw_m7 162 rfl) rfl
theorem q1716 : (Jvm.Cond.soleField "ThreadTownModel" "pillarY") ∈ lw_all := lw_g (lw_at lw_m7 163 rfl) rfl
theorem q1717 : (Jvm.Cond.laysFinal "ThreadTownModel" "ThreadTownModel" "seed" "[I") ∈ lw_all := lw_g (lw_at lw_m7 164 rfl) rfl
theorem q1718 : (Jvm.Cond.soleField "ThreadTownModel" "seed") ∈ lw_all := lw_g (lw_at lw_m7 165 rfl) rfl
theorem q1719 : (Jvm.Cond.lays "ThreadTownModel" "ThreadTownModel" "corners" "I") ∈ lw_all := lw_g (lw_at lw_m7 166 rfl) rfl
theorem q1720 : (Jvm.Cond.soleField "ThreadTownModel" "corners") ∈ lw_all := lw_g (lw_at lw_m7 167 rfl) rfl
theorem q1721 : (Jvm.Cond.laysFinal "ThreadTownModel" "ThreadTownModel" "cornerX" "[I") ∈ lw_all := lw_g (lw_at lw_m7 168 rfl) rfl
theorem q1722 : (Jvm.Cond.soleField "ThreadTownModel" "cornerX") ∈ lw_all := lw_g (lw_at lw_m7 169 rfl) rfl
theorem q1723 : (Jvm.Cond.laysFinal "ThreadTownModel" "ThreadTownModel" "cornerY" "[I") ∈ lw_all := lw_g (lw_at lw_m7 170 rfl) rfl
theorem q1724 : (Jvm.Cond.soleField "ThreadTownModel" "cornerY") ∈ lw_all := lw_g (lw_at lw_m7 171 rfl) rfl
theorem q1725 : (Jvm.Cond.laysFinal "ThreadTownModel" "ThreadTownModel" "cornerToken" "[I") ∈ lw_all := lw_g (lw_at lw_m7 172 rfl) rfl
theorem q1726 : (Jvm.Cond.soleField "ThreadTownModel" "cornerToken") ∈ lw_all := lw_g (lw_at lw_m7 173 rfl) rfl
theorem q1727 : (Jvm.Cond.laysFinal "ThreadTownModel" "ThreadTownModel" "lawFirst" "[I") ∈ lw_all := lw_g (lw_at lw_m7 174 rfl) rfl
theorem q1728 : (Jvm.Cond.soleField "ThreadTownModel" "lawFirst") ∈ lw_all := lw_g (lw_at lw_m7 175 rfl) rfl
theorem q1729 : (Jvm.Cond.laysFinal "ThreadTownModel" "ThreadTownModel" "lawLast" "[I") ∈ lw_all := lw_g (lw_at lw_m7 176 rfl) rfl
theorem q1730 : (Jvm.Cond.soleField "ThreadTownModel" "lawLast") ∈ lw_all := lw_g (lw_at lw_m7 177 rfl) rfl
theorem q1731 : (Jvm.Cond.lays "ThreadTownModel" "ThreadTownModel" "branches" "I") ∈ lw_all := lw_g (lw_at lw_m7 178 rfl) rfl
theorem q1732 : (Jvm.Cond.soleField "ThreadTownModel" "branches") ∈ lw_all := lw_g (lw_at lw_m7 179 rfl) rfl
theorem q1733 : (Jvm.Cond.laysFinal "ThreadTownModel" "ThreadTownModel" "hasTest" "[Z") ∈ lw_all := lw_g (lw_at lw_m7 180 rfl) rfl
theorem q1734 : (Jvm.Cond.soleField "ThreadTownModel" "hasTest") ∈ lw_all := lw_g (lw_at lw_m7 181 rfl) rfl
theorem q1735 : (Jvm.Cond.laysFinal "ThreadTownModel" "ThreadTownModel" "testFrom" "[I") ∈ lw_all := lw_g (lw_at lw_m7 182 rfl) rfl
theorem q1736 : (Jvm.Cond.soleField "ThreadTownModel" "testFrom") ∈ lw_all := lw_g (lw_at lw_m7 183 rfl) rfl
theorem q1737 : (Jvm.Cond.laysFinal "ThreadTownModel" "ThreadTownModel" "testMid" "[I") ∈ lw_all := lw_g (lw_at lw_m7 184 rfl) rfl
theorem q1738 : (Jvm.Cond.soleField "ThreadTownModel" "testMid") ∈ lw_all := lw_g (lw_at lw_m7 185 rfl) rfl
theorem q1739 : (Jvm.Cond.laysFinal "ThreadTownModel" "ThreadTownModel" "testTo" "[I") ∈ lw_all := lw_g (lw_at lw_m7 186 rfl) rfl
theorem q1740 : (Jvm.Cond.soleField "ThreadTownModel" "testTo") ∈ lw_all := lw_g (lw_at lw_m7 187 rfl) rfl
theorem q1741 : (Jvm.Cond.laysFinal "ThreadTownModel" "ThreadTownModel" "termTo" "[I") ∈ lw_all := lw_g (lw_at lw_m7 188 rfl) rfl
theorem q1742 : (Jvm.Cond.soleField "ThreadTownModel" "termTo") ∈ lw_all := lw_g (lw_at lw_m7 189 rfl) rfl
theorem q1743 : (Jvm.Cond.lays "ThreadTownModel" "ThreadTownModel" "codes" "I") ∈ lw_all := lw_g (lw_at lw_m7 190 rfl) rfl
theorem q1744 : (Jvm.Cond.soleField "ThreadTownModel" "codes") ∈ lw_all := lw_g (lw_at lw_m7 191 rfl) rfl
theorem q1745 : (Jvm.Cond.laysFinal "ThreadTownModel" "ThreadTownModel" "code" "[I") ∈ lw_all := lw_g (lw_at lw_m7 192 rfl) rfl
theorem q1746 : (Jvm.Cond.soleField "ThreadTownModel" "code") ∈ lw_all := lw_g (lw_at lw_m7 193 rfl) rfl
theorem q1747 : (Jvm.Cond.laysFinal "ThreadTownModel" "ThreadTownModel" "codeInt" "[I") ∈ lw_all := lw_g (lw_at lw_m7 194 rfl) rfl
theorem q1748 : (Jvm.Cond.soleField "ThreadTownModel" "codeInt") ∈ lw_all := lw_g (lw_at lw_m7 195 rfl) rfl
theorem q1749 : (Jvm.Cond.laysFinal "ThreadTownModel" "ThreadTownModel" "waits" "[I") ∈ lw_all := lw_g (lw_at lw_m7 196 rfl) rfl
theorem q1750 : (Jvm.Cond.soleField "ThreadTownModel" "waits") ∈ lw_all := lw_g (lw_at lw_m7 197 rfl) rfl
theorem q1751 : (Jvm.Cond.lays "ThreadTownModel" "ThreadTownModel" "waiting" "I") ∈ lw_all := lw_g (lw_at lw_m7 198 rfl) rfl
theorem q1752 : (Jvm.Cond.soleField "ThreadTownModel" "waiting") ∈ lw_all := lw_g (lw_at lw_m7 199 rfl) rfl
theorem q1753 : (Jvm.Cond.laysFinal "ThreadTownModel" "ThreadTownModel" "variables" "[I") ∈ lw_all := lw_g (lw_at lw_m7 200 rfl) rfl
theorem q1754 : (Jvm.Cond.soleField "ThreadTownModel" "variables") ∈ lw_all := lw_g (lw_at lw_m7 201 rfl) rfl
theorem q1755 : (Jvm.Cond.laysFinal "ThreadTownModel" "ThreadTownModel" "pile" "[I") ∈ lw_all := lw_g (lw_at lw_m7 202 rfl) rfl
theorem q1756 : (Jvm.Cond.soleField "ThreadTownModel" "pile") ∈ lw_all := lw_g (lw_at lw_m7 203 rfl) rfl
theorem q1757 : (Jvm.Cond.lays "ThreadTownModel" "ThreadTownModel" "isBroken" "Z") ∈ lw_all := lw_g (lw_at lw_m7 204 rfl) rfl
theorem q1758 : (Jvm.Cond.soleField "ThreadTownModel" "isBroken") ∈ lw_all := lw_g (lw_at lw_m7 205 rfl) rfl
theorem q1759 : (Jvm.Cond.laysFinal "ThreadTownModel" "ThreadTownModel" "now" "[I") ∈ lw_all := lw_g (lw_at lw_m7 206 rfl) rfl
theorem q1760 : (Jvm.Cond.soleField "ThreadTownModel" "now") ∈ lw_all := lw_g (lw_at lw_m7 207 rfl) rfl
theorem q1761 : (Jvm.Cond.laysFinal "ThreadTownModel" "ThreadTownModel" "row" "[I") ∈ lw_all := lw_g (lw_at lw_m7 208 rfl) rfl
theorem q1762 : (Jvm.Cond.soleField "ThreadTownModel" "row") ∈ lw_all := lw_g (lw_at lw_m7 209 rfl) rfl
theorem q1763 : (Jvm.Cond.laysFinal "ThreadTownModel" "ThreadTownModel" "later" "[I") ∈ lw_all := lw_g (lw_at lw_m7 210 rfl) rfl
theorem q1764 : (Jvm.Cond.soleField "ThreadTownModel" "later") ∈ lw_all := lw_g (lw_at lw_m7 211 rfl) rfl
theorem q1765 : (Jvm.Cond.lays "ThreadTownModel" "ThreadTownModel" "undos" "I") ∈ lw_all := lw_g (lw_at lw_m7 212 rfl) rfl
theorem q1766 : (Jvm.Cond.soleField "ThreadTownModel" "undos") ∈ lw_all := lw_g (lw_at lw_m7 213 rfl) rfl
theorem q1767 : (Jvm.Cond.laysFinal "ThreadTownModel" "ThreadTownModel" "history" "[I") ∈ lw_all := lw_g (lw_at lw_m7 214 rfl) rfl
theorem q1768 : (Jvm.Cond.soleField "ThreadTownModel" "history") ∈ lw_all := lw_g (lw_at lw_m7 215 rfl) rfl
theorem q1769 : (Jvm.Cond.laysFinal "ThreadTownModel" "ThreadTownModel" "waitsFor" "[I") ∈ lw_all := lw_g (lw_at lw_m7 216 rfl) rfl
theorem q1770 : (Jvm.Cond.soleField "ThreadTownModel" "waitsFor") ∈ lw_all := lw_g (lw_at lw_m7 217 rfl) rfl
theorem q1771 : (Jvm.Cond.laysFinal "ThreadTownModel" "ThreadTownModel" "ordersOf" "[I") ∈ lw_all := lw_g (lw_at lw_m7 218 rfl) rfl
theorem q1772 : (Jvm.Cond.soleField "ThreadTownModel" "ordersOf") ∈ lw_all := lw_g (lw_at lw_m7 219 rfl) rfl
theorem q1773 : (Jvm.Cond.laysFinal "ThreadTownModel" "ThreadTownModel" "order" "[I") ∈ lw_all := lw_g (lw_at lw_m7 220 rfl) rfl
theorem q1774 : (Jvm.Cond.soleField "ThreadTownModel" "order") ∈ lw_all := lw_g (lw_at lw_m7 221 rfl) rfl
theorem q1775 : (Jvm.Cond.laysFinal "ThreadTownModel" "ThreadTownModel" "bestOrder" "[I") ∈ lw_all := lw_g (lw_at lw_m7 222 rfl) rfl
theorem q1776 : (Jvm.Cond.soleField "ThreadTownModel" "bestOrder") ∈ lw_all := lw_g (lw_at lw_m7 223 rfl) rfl
theorem q1777 : (Jvm.Cond.lays "ThreadTownModel" "ThreadTownModel" "goneBy" "I") ∈ lw_all := lw_g (lw_at lw_m7 224 rfl) rfl
theorem q1778 : (Jvm.Cond.soleField "ThreadTownModel" "goneBy") ∈ lw_all := lw_g (lw_at lw_m7 225 rfl) rfl
theorem q1779 : (Jvm.Cond.lays "ThreadTownModel" "ThreadTownModel" "wound" "I") ∈ lw_all := lw_g (lw_at lw_m7 226 rfl) rfl
theorem q1780 : (Jvm.Cond.soleField "ThreadTownModel" "wound") ∈ lw_all := lw_g (lw_at lw_m7 227 rfl) rfl
theorem q1781 : (Jvm.Cond.laysFinal "ThreadTownModel" "ThreadTownModel" "keyOf" "[I") ∈ lw_all := lw_g (lw_at lw_m7 228 rfl) rfl
theorem q1782 : (Jvm.Cond.soleField "ThreadTownModel" "keyOf") ∈ lw_all := lw_g (lw_at lw_m7 229 rfl) rfl
theorem q1783 : (Jvm.Cond.laysFinal "ThreadTownModel" "ThreadTownModel" "laid" "[I") ∈ lw_all := lw_g (lw_at lw_m7 230 rfl) rfl
theorem q1784 : (Jvm.Cond.soleField "ThreadTownModel" "laid") ∈ lw_all := lw_g (lw_at lw_m7 231 rfl) rfl
theorem q1785 : (Jvm.Cond.laysFinal "ThreadTownModel" "ThreadTownModel" "crossed" "[I") ∈ lw_all := lw_g (lw_at lw_m7 232 rfl) rfl
theorem q1786 : (Jvm.Cond.soleField "ThreadTownModel" "crossed") ∈ lw_all := lw_g (lw_at lw_m7 233 rfl) rfl
theorem q1787 : (Jvm.Cond.lays "ThreadTownModel" "ThreadTownModel" "told" "I") ∈ lw_all := lw_g (lw_at lw_m7 234 rfl) rfl
theorem q1788 : (Jvm.Cond.soleField "ThreadTownModel" "told") ∈ lw_all := lw_g (lw_at lw_m7 235 rfl) rfl
theorem q1789 : (Jvm.Cond.laysFinal "ThreadTownModel" "ThreadTownModel" "toldMan" "[I") ∈ lw_all := lw_g (lw_at lw_m7 236 rfl) rfl
theorem q1790 : (Jvm.Cond.soleField "ThreadTownModel" "toldMan") ∈ lw_all := lw_g (lw_at lw_m7 237 rfl) rfl
theorem q1791 : (Jvm.Cond.laysFinal "ThreadTownModel" "ThreadTownModel" "toldOther" "[I") ∈ lw_all := lw_g (lw_at lw_m7 238 rfl) rfl
theorem q1792 : (Jvm.Cond.soleField "ThreadTownModel" "toldOther") ∈ lw_all := lw_g (lw_at lw_m7 239 rfl) rfl
theorem q1793 : (Jvm.Cond.laysFinal "ThreadTownModel" "ThreadTownModel" "toldOver" "[Z") ∈ lw_all := lw_g (lw_at lw_m8 0 rfl) rfl
theorem q1794 : (Jvm.Cond.soleField "ThreadTownModel" "toldOver") ∈ lw_all := lw_g (lw_at lw_m8 1 rfl) rfl
theorem q1795 : (Jvm.Cond.laysFinal "ThreadTownModel" "ThreadTownModel" "isHeld" "[Z") ∈ lw_all := lw_g (lw_at lw_m8 2 rfl) rfl
theorem q1796 : (Jvm.Cond.soleField "ThreadTownModel" "isHeld") ∈ lw_all := lw_g (lw_at lw_m8 3 rfl) rfl
theorem q1797 : (Jvm.Cond.laysFinal "ThreadTownModel" "ThreadTownModel" "held" "[I") ∈ lw_all := lw_g (lw_at lw_m8 4 rfl) rfl
theorem q1798 : (Jvm.Cond.soleField "ThreadTownModel" "held") ∈ lw_all := lw_g (lw_at lw_m8 5 rfl) rfl
theorem q1799 : (Jvm.Cond.superclass "ThreadTownModel" "java/lang/Object") ∈ lw_all := lw_g (lw_at lw_m8 6 rfl) rfl
theorem q1800 : (Jvm.Cond.arrayClass Jvm.ClassFile.FieldType.long) ∈ lw_all := lw_g (lw_at lw_m8 7 rfl) rfl
theorem q1801 : (Jvm.Cond.methodLink "ThreadTownLaw" (17 : Nat) ({ cls := "ThreadTownModel", name := "feed", desc := "(IIIII)I" } : Jvm.MethodName)) ∈ lw_all := lw_g (lw_at lw_m8 8 rfl) rfl
theorem q1802 : (Jvm.Cond.instanceMethod ({ cls := "ThreadTownModel", name := "feed", desc := "(IIIII)I" } : Jvm.MethodName)) ∈ lw_all := lw_g (lw_at lw_m8 9 rfl) rfl
theorem q1803 : (Jvm.Cond.selects "ThreadTownModel" ({ cls := "ThreadTownModel", name := "feed", desc := "(IIIII)I" } : Jvm.MethodName) ({ cls := "ThreadTownModel", name := "feed", desc := "(IIIII)I" } : Jvm.MethodName)) ∈ lw_all := lw_g (lw_at lw_m8 10 rfl) rfl
theorem q1804 : (Jvm.Cond.code ({ cls := "ThreadTownModel", name := "feed", desc := "(IIIII)I" } : Jvm.MethodName) prog_21_method_3_code (6 : Nat) (Option.some Jvm.ClassFile.FieldType.int)) ∈ lw_all := lw_g (lw_at lw_m8 11 rfl) rfl
theorem q1805 : (Jvm.Cond.methodLink "ThreadTownModel" (194 : Nat) ({ cls := "ThreadTownModel", name := "put", desc := "(I)V" } : Jvm.MethodName)) ∈ lw_all := lw_g (lw_at lw_m8 12 rfl) rfl
theorem q1806 : (Jvm.Cond.privateMethod ({ cls := "ThreadTownModel", name := "put", desc := "(I)V" } : Jvm.MethodName)) ∈ lw_tbl := lw_at lw_m8 13 rfl
theorem q1807 : (Jvm.Cond.instanceMethod ({ cls := "ThreadTownModel", name := "put", desc := "(I)V" } : Jvm.MethodName)) ∈ lw_all := lw_g (lw_at lw_m8 14 rfl) rfl
theorem q1808 : (Jvm.Cond.code ({ cls := "ThreadTownModel", name := "put", desc := "(I)V" } : Jvm.MethodName) prog_21_method_4_code (3 : Nat) (Option.none : Option Jvm.ClassFile.FieldType)) ∈ lw_all := lw_g (lw_at lw_m8 15 rfl) rfl
theorem q1809 : (Jvm.Cond.methodLink "ThreadTownLaw" (22 : Nat) ({ cls := "ThreadTownModel", name := "back", desc := "(I)I" } : Jvm.MethodName)) ∈ lw_all := lw_g (lw_at lw_m8 16 rfl) rfl
theorem q1810 : (Jvm.Cond.instanceMethod ({ cls := "ThreadTownModel", name := "back", desc := "(I)I" } : Jvm.MethodName)) ∈ lw_all := lw_g (lw_at lw_m8 17 rfl) rfl
theorem q1811 : (Jvm.Cond.selects "ThreadTownModel" ({ cls := "ThreadTownModel", name := "back", desc := "(I)I" } : Jvm.MethodName) ({ cls := "ThreadTownModel", name := "back", desc := "(I)I" } : Jvm.MethodName)) ∈ lw_all := lw_g (lw_at lw_m8 18 rfl) rfl
theorem q1812 : (Jvm.Cond.code ({ cls := "ThreadTownModel", name := "back", desc := "(I)I" } : Jvm.MethodName) prog_21_method_5_code (2 : Nat) (Option.some Jvm.ClassFile.FieldType.int)) ∈ lw_all := lw_g (lw_at lw_m8 19 rfl) rfl
theorem q1813 : (Jvm.Cond.methodLink "ThreadTownLaw" (27 : Nat) ({ cls := "ThreadTownModel", name := "read", desc := "()I" } : Jvm.MethodName)) ∈ lw_all := lw_g (lw_at lw_m8 20 rfl) rfl
theorem q1814 : (Jvm.Cond.instanceMethod ({ cls := "ThreadTownModel", name := "read", desc := "()I" } : Jvm.MethodName)) ∈ lw_all := lw_g (lw_at lw_m8 21 rfl) rfl
theorem q1815 : (Jvm.Cond.selects "ThreadTownModel" ({ cls := "ThreadTownModel", name := "read", desc := "()I" } : Jvm.MethodName) ({ cls := "ThreadTownModel", name := "read", desc := "()I" } : Jvm.MethodName)) ∈ lw_all := lw_g (lw_at lw_m8 22 rfl) rfl
theorem q1816 : (Jvm.Cond.code ({ cls := "ThreadTownModel", name := "read", desc := "()I" } : Jvm.MethodName) prog_21_method_20_code (2 : Nat) (Option.some Jvm.ClassFile.FieldType.int)) ∈ lw_all := lw_g (lw_at lw_m8 23 rfl) rfl
theorem q1817 : (Jvm.Cond.methodLink "ThreadTownModel" (252 : Nat) ({ cls := "ThreadTownModel", name := "cut0", desc := "()V" } : Jvm.MethodName)) ∈ lw_all := lw_g (lw_at lw_m8 24 rfl) rfl
theorem q1818 : (Jvm.Cond.privateMethod ({ cls := "ThreadTownModel", name := "cut0", desc := "()V" } : Jvm.MethodName)) ∈ lw_tbl := lw_at lw_m8 25 rfl
theorem q1819 : (Jvm.Cond.instanceMethod ({ cls := "ThreadTownModel", name := "cut0", desc := "()V" } : Jvm.MethodName)) ∈ lw_all := lw_g (lw_at lw_m8 26 rfl) rfl
theorem q1820 : (Jvm.Cond.code ({ cls := "ThreadTownModel", name := "cut0", desc := "()V" } : Jvm.MethodName) prog_21_method_12_code (8 : Nat) (Option.none : Option Jvm.ClassFile.FieldType)) ∈ lw_all := lw_g (lw_at lw_m8 27 rfl) rfl
theorem q1821 : (Jvm.Cond.methodLink "ThreadTownModel" (209 : Nat) ({ cls := "ThreadTownModel", name := "byteAt", desc := "(I)I" } : Jvm.MethodName)) ∈ lw_all := lw_g (lw_at lw_m8 28 rfl) rfl
theorem q1822 : (Jvm.Cond.privateMethod ({ cls := "ThreadTownModel", name := "byteAt", desc := "(I)I" } : Jvm.MethodName)) ∈ lw_tbl := lw_at lw_m8 29 rfl
theorem q1823 : (Jvm.Cond.instanceMethod ({ cls := "ThreadTownModel", name := "byteAt", desc := "(I)I" } : Jvm.MethodName)) ∈ lw_all := lw_g (lw_at lw_m8 30 rfl) rfl
theorem q1824 : (Jvm.Cond.code ({ cls := "ThreadTownModel", name := "byteAt", desc := "(I)I" } : Jvm.MethodName) prog_21_method_6_code (2 : Nat) (Option.some Jvm.ClassFile.FieldType.int)) ∈ lw_all := lw_g (lw_at lw_m8 31 rfl) rfl
theorem q1825 : (Jvm.Cond.methodLink "ThreadTownModel" (213 : Nat) ({ cls := "ThreadTownModel", name := "token", desc := "(IIIJ)V" } : Jvm.MethodName)) ∈ lw_all := lw_g (lw_at lw_m8 32 rfl) rfl
theorem q1826 : (Jvm.Cond.privateMethod ({ cls := "ThreadTownModel", name := "token", desc := "(IIIJ)V" } : Jvm.MethodName)) ∈ lw_tbl := lw_at lw_m8 33 rfl
theorem q1827 : (Jvm.Cond.instanceMethod ({ cls := "ThreadTownModel", name := "token", desc := "(IIIJ)V" } : Jvm.MethodName)) ∈ lw_all := lw_g (lw_at lw_m8 34 rfl) rfl
theorem q1828 : (Jvm.Cond.code ({ cls := "ThreadTownModel", name := "token", desc := "(IIIJ)V" } : Jvm.MethodName) prog_21_method_11_code (6 : Nat) (Option.none : Option Jvm.ClassFile.FieldType)) ∈ lw_all := lw_g (lw_at lw_m8 35 rfl) rfl
theorem q1829 : (Jvm.Cond.methodLink "ThreadTownModel" (217 : Nat) ({ cls := "ThreadTownModel", name := "isLetter", desc := "(I)Z" } : Jvm.MethodName)) ∈ lw_all := lw_g (lw_at lw_m8 36 rfl) rfl
theorem q1830 : (Jvm.Cond.static ({ cls := "ThreadTownModel", name := "isLetter", desc := "(I)Z" } : Jvm.MethodName)) ∈ lw_all := lw_g (lw_at lw_m8 37 rfl) rfl
theorem q1831 : (Jvm.Cond.code ({ cls := "ThreadTownModel", name := "isLetter", desc := "(I)Z" } : Jvm.MethodName) prog_21_method_8_code (1 : Nat) (Option.some Jvm.ClassFile.FieldType.boolean)) ∈ lw_all := lw_g (lw_at lw_m8 38 rfl) rfl
theorem q1832 : (Jvm.Cond.methodLink "ThreadTownModel" (221 : Nat) ({ cls := "ThreadTownModel", name := "isDigit", desc := "(I)Z" } : Jvm.MethodName)) ∈ lw_all := lw_g (lw_at lw_m8 39 rfl) rfl
theorem q1833 : (Jvm.Cond.static ({ cls := "ThreadTownModel", name := "isDigit", desc := "(I)Z" } : Jvm.MethodName)) ∈ lw_all := lw_g (lw_at lw_m8 40 rfl) rfl
theorem q1834 : (Jvm.Cond.code ({ cls := "ThreadTownModel", name := "isDigit", desc := "(I)Z" } : Jvm.MethodName) prog_21_method_7_code (1 : Nat) (Option.some Jvm.ClassFile.FieldType.boolean)) ∈ lw_all := lw_g (lw_at lw_m8 41 rfl) rfl
theorem q1835 : (Jvm.Cond.methodLink "ThreadTownModel" (224 : Nat) ({ cls := "ThreadTownModel", name := "sign", desc := "(III)I" } : Jvm.MethodName)) ∈ lw_all := lw_g (lw_at lw_m8 42 rfl) rfl
theorem q1836 : (Jvm.Cond.privateMethod ({ cls := "ThreadTownModel", name := "sign", desc := "(III)I" } : Jvm.MethodName)) ∈ lw_tbl := lw_at lw_m8 43 rfl
theorem q1837 : (Jvm.Cond.instanceMethod ({ cls := "ThreadTownModel", name := "sign", desc := "(III)I" } : Jvm.MethodName)) ∈ lw_all := lw_g (lw_at lw_m8 44 rfl) rfl
theorem q1838 : (Jvm.Cond.code ({ cls := "ThreadTownModel", name := "sign", desc := "(III)I" } : Jvm.MethodName) prog_21_method_13_code (5 : Nat) (Option.some Jvm.ClassFile.FieldType.int)) ∈ lw_all := lw_g (lw_at lw_m8 45 rfl) rfl
theorem q1839 : (Jvm.Cond.methodLink "ThreadTownModel" (246 : Nat) ({ cls := "ThreadTownModel", name := "is", desc := "(I)Z" } : Jvm.MethodName)) ∈ lw_all := lw_g (lw_at lw_m8 46 rfl) rfl
theorem q1840 : (Jvm.Cond.privateMethod ({ cls := "ThreadTownModel", name := "is", desc := "(I)Z" } : Jvm.MethodName)) ∈ lw_tbl := lw_at lw_m8 47 rfl
theorem q1841 : (Jvm.Cond.instanceMethod ({ cls := "ThreadTownModel", name := "is", desc := "(I)Z" } : Jvm.MethodName)) ∈ lw_all := lw_g (lw_at lw_m8 48 rfl) rfl
theorem q1842 : (Jvm.Cond.code ({ cls := "ThreadTownModel", name := "is", desc := "(I)Z" } : Jvm.MethodName) prog_21_method_14_code (2 : Nat) (Option.some Jvm.ClassFile.FieldType.boolean)) ∈ lw_all := lw_g (lw_at lw_m8 49 rfl) rfl
theorem q1843 : (Jvm.Cond.methodLink "ThreadTownModel" (276 : Nat) ({ cls := "ThreadTownModel", name := "tell0", desc := "()V" } : Jvm.MethodName)) ∈ lw_all := lw_g (lw_at lw_m8 50 rfl) rfl
theorem q1844 : (Jvm.Cond.privateMethod ({ cls := "ThreadTownModel", name := "tell0", desc := "()V" } : Jvm.MethodName)) ∈ lw_tbl := lw_at lw_m8 51 rfl
theorem q1845 : (Jvm.Cond.instanceMethod ({ cls := "ThreadTownModel", name := "tell0", desc := "()V" } : Jvm.MethodName)) ∈ lw_all := lw_g (lw_at lw_m8 52 rfl) rfl
theorem q1846 : (Jvm.Cond.code ({ cls := "ThreadTownModel", name := "tell0", desc := "()V" } : Jvm.MethodName) prog_21_method_23_code (3 : Nat) (Option.none : Option Jvm.ClassFile.FieldType)) ∈ lw_all := lw_g (lw_at lw_m8 53 rfl) rfl
theorem q1847 : (Jvm.Cond.methodLink "ThreadTownModel" (249 : Nat) ({ cls := "ThreadTownModel", name := "goesOn", desc := "()V" } : Jvm.MethodName)) ∈ lw_all := lw_g (lw_at lw_m8 54 rfl) rfl
theorem q1848 : (Jvm.Cond.privateMethod ({ cls := "ThreadTownModel", name := "goesOn", desc := "()V" } : Jvm.MethodName)) ∈ lw_tbl := lw_at lw_m8 55 rfl
theorem q1849 : (Jvm.Cond.instanceMethod ({ cls := "ThreadTownModel", name := "goesOn", desc := "()V" } : Jvm.MethodName)) ∈ lw_all := lw_g (lw_at lw_m8 56 rfl) rfl
theorem q1850 : (Jvm.Cond.code ({ cls := "ThreadTownModel", name := "goesOn", desc := "()V" } : Jvm.MethodName) prog_21_method_17_code (1 : Nat) (Option.none : Option Jvm.ClassFile.FieldType)) ∈ lw_all := lw_g (lw_at lw_m8 57 rfl) rfl
theorem q1851 : (Jvm.Cond.methodLink "ThreadTownModel" (243 : Nat) ({ cls := "ThreadTownModel", name := "fail", desc := "(I)V" } : Jvm.MethodName)) ∈ lw_all := lw_g (lw_at lw_m8 58 rfl) rfl
theorem q1852 : (Jvm.Cond.privateMethod ({ cls := "ThreadTownModel", name := "fail", desc := "(I)V" } : Jvm.MethodName)) ∈ lw_tbl := lw_at lw_m8 59 rfl
theorem q1853 : (Jvm.Cond.instanceMethod ({ cls := "ThreadTownModel", name := "fail", desc := "(I)V" } : Jvm.MethodName)) ∈ lw_all := lw_g (lw_at lw_m8 60 rfl) rfl
theorem q1854 : (Jvm.Cond.code ({ cls := "ThreadTownModel", name := "fail", desc := "(I)V" } : Jvm.MethodName) prog_21_method_15_code (2 : Nat) (Option.none : Option Jvm.ClassFile.FieldType)) ∈ lw_all := lw_g (lw_at lw_m8 61 rfl) rfl
theorem q1855 : (Jvm.Cond.methodLink "ThreadTownModel" (289 : Nat) ({ cls := "ThreadTownModel", name := "bounded", desc := "(II)I" } : Jvm.MethodName)) ∈ lw_all := lw_g (lw_at lw_m8 62 rfl) rfl
theorem q1856 : (Jvm.Cond.privateMethod ({ cls := "ThreadTownModel", name := "bounded", desc := "(II)I" } : Jvm.MethodName)) ∈ lw_tbl := lw_at lw_m8 63 rfl
theorem q1857 : (Jvm.Cond.instanceMethod ({ cls := "ThreadTownModel", name := "bounded", desc := "(II)I" } : Jvm.MethodName)) ∈ lw_all := lw_g (lw_at lw_m8 64 rfl) rfl
theorem q1858 : (Jvm.Cond.code ({ cls := "ThreadTownModel", name := "bounded", desc := "(II)I" } : Jvm.MethodName) prog_21_method_26_code (4 : Nat) (Option.some Jvm.ClassFile.FieldType.int)) ∈ lw_all := lw_g (lw_at lw_m8 65 rfl) rfl
theorem q1859 : (Jvm.Cond.methodLink "ThreadTownModel" (279 : Nat) ({ cls := "ThreadTownModel", name := "wrong", desc := "(II)V" } : Jvm.MethodName)) ∈ lw_all := lw_g (lw_at lw_m8 66 rfl) rfl
theorem q1860 : (Jvm.Cond.privateMethod ({ cls := "ThreadTownModel", name := "wrong", desc := "(II)V" } : Jvm.MethodName)) ∈ lw_tbl := lw_at lw_m8 67 rfl
theorem q1861 : (Jvm.Cond.instanceMethod ({ cls := "ThreadTownModel", name := "wrong", desc := "(II)V" } : Jvm.MethodName)) ∈ lw_all := lw_g (lw_at lw_m8 68 rfl) rfl
theorem q1862 : (Jvm.Cond.code ({ cls := "ThreadTownModel", name := "wrong", desc := "(II)V" } : Jvm.MethodName) prog_21_method_16_code (4 : Nat) (Option.none : Option Jvm.ClassFile.FieldType)) ∈ lw_all := lw_g (lw_at lw_m8 69 rfl) rfl
theorem q1863 : (Jvm.Cond.methodLink "ThreadTownModel" (293 : Nat) ({ cls := "ThreadTownModel", name := "must", desc := "(I)V" } : Jvm.MethodName)) ∈ lw_all := lw_g (lw_at lw_m8 70 rfl) rfl
theorem q1864 : (Jvm.Cond.privateMethod ({ cls := "ThreadTownModel", name := "must", desc := "(I)V" } : Jvm.MethodName)) ∈ lw_tbl := lw_at lw_m8 71 rfl
theorem q1865 : (Jvm.Cond.instanceMethod ({ cls := "ThreadTownModel", name := "must", desc := "(I)V" } : Jvm.MethodName)) ∈ lw_all := lw_g (lw_at lw_m8 72 rfl) rfl
theorem q1866 : (Jvm.Cond.code ({ cls := "ThreadTownModel", name := "must", desc := "(I)V" } : Jvm.MethodName) prog_21_method_18_code (2 : Nat) (Option.none : Option Jvm.ClassFile.FieldType)) ∈ lw_all := lw_g (lw_at lw_m8 73 rfl) rfl
theorem q1867 : (Jvm.Cond.methodLink "ThreadTownModel" (296 : Nat) ({ cls := "ThreadTownModel", name := "roomFor", desc := "(II)V" } : Jvm.MethodName)) ∈ lw_all := lw_g (lw_at lw_m8 74 rfl) rfl
theorem q1868 : (Jvm.Cond.privateMethod ({ cls := "ThreadTownModel", name := "roomFor", desc := "(II)V" } : Jvm.MethodName)) ∈ lw_tbl := lw_at lw_m8 75 rfl
theorem q1869 : (Jvm.Cond.instanceMethod ({ cls := "ThreadTownModel", name := "roomFor", desc := "(II)V" } : Jvm.MethodName)) ∈ lw_all := lw_g (lw_at lw_m8 76 rfl) rfl
theorem q1870 : (Jvm.Cond.code ({ cls := "ThreadTownModel", name := "roomFor", desc := "(II)V" } : Jvm.MethodName) prog_21_method_22_code (3 : Nat) (Option.none : Option Jvm.ClassFile.FieldType)) ∈ lw_all := lw_g (lw_at lw_m8 77 rfl) rfl
theorem q1871 : (Jvm.Cond.methodLink "ThreadTownModel" (299 : Nat) ({ cls := "ThreadTownModel", name := "tellMan", desc := "()V" } : Jvm.MethodName)) ∈ lw_all := lw_g (lw_at lw_m8 78 rfl) rfl
theorem q1872 : (Jvm.Cond.privateMethod ({ cls := "ThreadTownModel", name := "tellMan", desc := "()V" } : Jvm.MethodName)) ∈ lw_tbl := lw_at lw_m8 79 rfl
theorem q1873 : (Jvm.Cond.instanceMethod ({ cls := "ThreadTownModel", name := "tellMan", desc := "()V" } : Jvm.MethodName)) ∈ lw_all := lw_g (lw_at lw_m8 80 rfl) rfl
theorem q1874 : (Jvm.Cond.code ({ cls := "ThreadTownModel", name := "tellMan", desc := "()V" } : Jvm.MethodName) prog_21_method_28_code (4 : Nat) (Option.none : Option Jvm.ClassFile.FieldType)) ∈ lw_all := lw_g (lw_at lw_m8 81 rfl) rfl
theorem q1875 : (Jvm.Cond.methodLink "ThreadTownModel" (315 : Nat) ({ cls := "ThreadTownModel", name := "manAt", desc := "(I)I" } : Jvm.MethodName)) ∈ lw_all := lw_g (lw_at lw_m8 82 rfl) rfl
theorem q1876 : (Jvm.Cond.privateMethod ({ cls := "ThreadTownModel", name := "manAt", desc := "(I)I" } : Jvm.MethodName)) ∈ lw_tbl := lw_at lw_m8 83 rfl
theorem q1877 : (Jvm.Cond.instanceMethod ({ cls := "ThreadTownModel", name := "manAt", desc := "(I)I" } : Jvm.MethodName)) ∈ lw_all := lw_g (lw_at lw_m8 84 rfl) rfl
theorem q1878 : (Jvm.Cond.code ({ cls := "ThreadTownModel", name := "manAt", desc := "(I)I" } : Jvm.MethodName) prog_21_method_24_code (3 : Nat) (Option.some Jvm.ClassFile.FieldType.int)) ∈ lw_all := lw_g (lw_at lw_m8 85 rfl) rfl
theorem q1879 : (Jvm.Cond.methodLink "ThreadTownModel" (318 : Nat) ({ cls := "ThreadTownModel", name := "notesCorner", desc := "(III)V" } : Jvm.MethodName)) ∈ lw_all := lw_g (lw_at lw_m8 86 rfl) rfl
theorem q1880 : (Jvm.Cond.privateMethod ({ cls := "ThreadTownModel", name := "notesCorner", desc := "(III)V" } : Jvm.MethodName)) ∈ lw_tbl := lw_at lw_m8 87 rfl
theorem q1881 : (Jvm.Cond.instanceMethod ({ cls := "ThreadTownModel", name := "notesCorner", desc := "(III)V" } : Jvm.MethodName)) ∈ lw_all := lw_g (lw_at lw_m8 88 rfl) rfl
theorem q1882 : (Jvm.Cond.code ({ cls := "ThreadTownModel", name := "notesCorner", desc := "(III)V" } : Jvm.MethodName) prog_21_method_27_code (4 : Nat) (Option.none : Option Jvm.ClassFile.FieldType)) ∈ lw_all := lw_g (lw_at lw_m8 89 rfl) rfl
theorem q1883 : (Jvm.Cond.methodLink "ThreadTownModel" (302 : Nat) ({ cls := "ThreadTownModel", name := "known", desc := "()I" } : Jvm.MethodName)) ∈ lw_all := lw_g (lw_at lw_m8 90 rfl) rfl
theorem q1884 : (Jvm.Cond.privateMethod ({ cls := "ThreadTownModel", name := "known", desc := "()I" } : Jvm.MethodName)) ∈ lw_tbl := lw_at lw_m8 91 rfl
theorem q1885 : (Jvm.Cond.instanceMethod ({ cls := "ThreadTownModel", name := "known", desc := "()I" } : Jvm.MethodName)) ∈ lw_all := lw_g (lw_at lw_m8 92 rfl) rfl
theorem q1886 : (Jvm.Cond.code ({ cls := "ThreadTownModel", name := "known", desc := "()I" } : Jvm.MethodName) prog_21_method_25_code (3 : Nat) (Option.some Jvm.ClassFile.FieldType.int)) ∈ lw_all := lw_g (lw_at lw_m8 93 rfl) rfl
theorem q1887 : (Jvm.Cond.methodLink "ThreadTownModel" (306 : Nat) ({ cls := "ThreadTownModel", name := "tellLaw", desc := "(I)V" } : Jvm.MethodName)) ∈ lw_all := lw_g (lw_at lw_m8 94 rfl) rfl
theorem q1888 : (Jvm.Cond.privateMethod ({ cls := "ThreadTownModel", name := "tellLaw", desc := "(I)V" } : Jvm.MethodName)) ∈ lw_tbl := lw_at lw_m8 95 rfl
theorem q1889 : (Jvm.Cond.instanceMethod ({ cls := "ThreadTownModel", name := "tellLaw", desc := "(I)V" } : Jvm.MethodName)) ∈ lw_all := lw_g (lw_at lw_m8 96 rfl) rfl
theorem q1890 : (Jvm.Cond.code ({ cls := "ThreadTownModel", name := "tellLaw", desc := "(I)V" } : Jvm.MethodName) prog_21_method_31_code (4 : Nat) (Option.none : Option Jvm.ClassFile.FieldType)) ∈ lw_all := lw_g (lw_at lw_m8 97 rfl) rfl
theorem q1891 : (Jvm.Cond.methodLink "ThreadTownModel" (322 : Nat) ({ cls := "ThreadTownModel", name := "expression", desc := "()V" } : Jvm.MethodName)) ∈ lw_all := lw_g (lw_at lw_m8 98 rfl) rfl
theorem q1892 : (Jvm.Cond.privateMethod ({ cls := "ThreadTownModel", name := "expression", desc := "()V" } : Jvm.MethodName)) ∈ lw_tbl := lw_at lw_m8 99 rfl
theorem q1893 : (Jvm.Cond.instanceMethod ({ cls := "ThreadTownModel", name := "expression", desc := "()V" } : Jvm.MethodName)) ∈ lw_all := lw_g (lw_at lw_m8 100 rfl) rfl
theorem q1894 : (Jvm.Cond.code ({ cls := "ThreadTownModel", name := "expression", desc := "()V" } : Jvm.MethodName) prog_21_method_35_code (3 : Nat) (Option.none : Option Jvm.ClassFile.FieldType)) ∈ lw_all := lw_g (lw_at lw_m8 101 rfl) rfl
theorem q1895 : (Jvm.Cond.methodLink "ThreadTownModel" (334 : Nat) ({ cls := "ThreadTownModel", name := "unit", desc := "()V" } : Jvm.MethodName)) ∈ lw_all := lw_g (lw_at lw_m8 102 rfl) rfl
theorem q1896 : (Jvm.Cond.privateMethod ({ cls := "ThreadTownModel", name := "unit", desc := "()V" } : Jvm.MethodName)) ∈ lw_tbl := lw_at lw_m8 103 rfl
theorem q1897 : (Jvm.Cond.instanceMethod ({ cls := "ThreadTownModel", name := "unit", desc := "()V" } : Jvm.MethodName)) ∈ lw_all := lw_g (lw_at lw_m8 104 rfl) rfl
theorem q1898 : (Jvm.Cond.code ({ cls := "ThreadTownModel", name := "unit", desc := "()V" } : Jvm.MethodName) prog_21_method_36_code (1 : Nat) (Option.none : Option Jvm.ClassFile.FieldType)) ∈ lw_all := lw_g (lw_at lw_m8 105 rfl) rfl
theorem q1899 : (Jvm.Cond.methodLink "ThreadTownModel" (331 : Nat) ({ cls := "ThreadTownModel", name := "emit", desc := "(II)V" } : Jvm.MethodName)) ∈ lw_all := lw_g (lw_at lw_m8 106 rfl) rfl
theorem q1900 : (Jvm.Cond.privateMethod ({ cls := "ThreadTownModel", name := "emit", desc := "(II)V" } : Jvm.MethodName)) ∈ lw_tbl := lw_at lw_m8 107 rfl
theorem q1901 : (Jvm.Cond.instanceMethod ({ cls := "ThreadTownModel", name := "emit", desc := "(II)V" } : Jvm.MethodName)) ∈ lw_all := lw_g (lw_at lw_m8 108 rfl) rfl
theorem q1902 : (Jvm.Cond.code ({ cls := "ThreadTownModel", name := "emit", desc := "(II)V" } : Jvm.MethodName) prog_21_method_33_code (3 : Nat) (Option.none : Option Jvm.ClassFile.FieldType)) ∈ lw_all := lw_g (lw_at lw_m8 109 rfl) rfl
theorem q1903 : (Jvm.Cond.methodLink "ThreadTownModel" (337 : Nat) ({ cls := "ThreadTownModel", name := "comesOut", desc := "(Z)V" } : Jvm.MethodName)) ∈ lw_all := lw_g (lw_at lw_m8 110 rfl) rfl
theorem q1904 : (Jvm.Cond.privateMethod ({ cls := "ThreadTownModel", name := "comesOut", desc := "(Z)V" } : Jvm.MethodName)) ∈ lw_tbl := lw_at lw_m8 111 rfl
theorem q1905 : (Jvm.Cond.instanceMethod ({ cls := "ThreadTownModel", name := "comesOut", desc := "(Z)V" } : Jvm.MethodName)) ∈ lw_all := lw_g (lw_at lw_m8 112 rfl) rfl
theorem q1906 : (Jvm.Cond.code ({ cls := "ThreadTownModel", name := "comesOut", desc := "(Z)V" } : Jvm.MethodName) prog_21_method_34_code (3 : Nat) (Option.none : Option Jvm.ClassFile.FieldType)) ∈ lw_all := lw_g (lw_at lw_m8 113 rfl) rfl
theorem q1907 : (Jvm.Cond.methodLink "ThreadTownModel" (325 : Nat) ({ cls := "ThreadTownModel", name := "term", desc := "()V" } : Jvm.MethodName)) ∈ lw_all := lw_g (lw_at lw_m8 114 rfl) rfl
theorem q1908 : (Jvm.Cond.privateMethod ({ cls := "ThreadTownModel", name := "term", desc := "()V" } : Jvm.MethodName)) ∈ lw_tbl := lw_at lw_m8 115 rfl
theorem q1909 : (Jvm.Cond.instanceMethod ({ cls := "ThreadTownModel", name := "term", desc := "()V" } : Jvm.MethodName)) ∈ lw_all := lw_g (lw_at lw_m8 116 rfl) rfl
theorem q1910 : (Jvm.Cond.code ({ cls := "ThreadTownModel", name := "term", desc := "()V" } : Jvm.MethodName) prog_21_method_32_code (1 : Nat) (Option.none : Option Jvm.ClassFile.FieldType)) ∈ lw_all := lw_g (lw_at lw_m8 117 rfl) rfl
theorem q1911 : (Jvm.Cond.methodLink "ThreadTownModel" (309 : Nat) ({ cls := "ThreadTownModel", name := "tellErrand", desc := "()V" } : Jvm.MethodName)) ∈ lw_all := lw_g (lw_at lw_m8 118 rfl) rfl
theorem q1912 : (Jvm.Cond.privateMethod ({ cls := "ThreadTownModel", name := "tellErrand", desc := "()V" } : Jvm.MethodName)) ∈ lw_tbl := lw_at lw_m8 119 rfl
theorem q1913 : (Jvm.Cond.instanceMethod ({ cls := "ThreadTownModel", name := "tellErrand", desc := "()V" } : Jvm.MethodName)) ∈ lw_all := lw_g (lw_at lw_m8 120 rfl) rfl
theorem q1914 : (Jvm.Cond.code ({ cls := "ThreadTownModel", name := "tellErrand", desc := "()V" } : Jvm.MethodName) prog_21_method_29_code (6 : Nat) (Option.none : Option Jvm.ClassFile.FieldType)) ∈ lw_all := lw_g (lw_at lw_m8 121 rfl) rfl
theorem q1915 : (Jvm.Cond.methodLink "ThreadTownModel" (312 : Nat) ({ cls := "ThreadTownModel", name := "tellPillar", desc := "()V" } : Jvm.MethodName)) ∈ lw_all := lw_g (lw_at lw_m8 122 rfl) rfl
theorem q1916 : (Jvm.Cond.privateMethod ({ cls := "ThreadTownModel", name := "tellPillar", desc := "()V" } : Jvm.MethodName)) ∈ lw_tbl := lw_at lw_m8 123 rfl
theorem q1917 : (Jvm.Cond.instanceMethod ({ cls := "ThreadTownModel", name := "tellPillar", desc := "()V" } : Jvm.MethodName)) ∈ lw_all := lw_g (lw_at lw_m8 124 rfl) rfl
theorem q1918 : (Jvm.Cond.code ({ cls := "ThreadTownModel", name := "tellPillar", desc := "()V" } : Jvm.MethodName) prog_21_method_30_code (2 : Nat) (Option.none : Option Jvm.ClassFile.FieldType)) ∈ lw_all := lw_g (lw_at lw_m8 125 rfl) rfl
theorem q1919 : (Jvm.Cond.methodLink "ThreadTownLaw" (31 : Nat) ({ cls := "ThreadTownModel", name := "place", desc := "()I" } : Jvm.MethodName)) ∈ lw_all := lw_g (lw_at lw_m8 126 rfl) rfl
theorem q1920 : (Jvm.Cond.instanceMethod ({ cls := "ThreadTownModel", name := "place", desc := "()I" } : Jvm.MethodName)) ∈ lw_all := lw_g (lw_at lw_m8 127 rfl) rfl
theorem q1921 : (Jvm.Cond.selects "ThreadTownModel" ({ cls := "ThreadTownModel", name := "place", desc := "()I" } : Jvm.MethodName) ({ cls := "ThreadTownModel", name := "place", desc := "()I" } : Jvm.MethodName)) ∈ lw_all := lw_g (lw_at lw_m8 128 rfl) rfl
theorem q1922 : (Jvm.Cond.code ({ cls := "ThreadTownModel", name := "place", desc := "()I" } : Jvm.MethodName) prog_21_method_21_code (1 : Nat) (Option.some Jvm.ClassFile.FieldType.int)) ∈ lw_all := lw_g (lw_at lw_m8 129 rfl) rfl
theorem q1923 : (Jvm.Cond.methodLink "ThreadTownLaw" (36 : Nat) ({ cls := "ThreadTownModel", name := "man", desc := "(II)I" } : Jvm.MethodName)) ∈ lw_all := lw_g (lw_at lw_m8 130 rfl) rfl
theorem q1924 : (Jvm.Cond.instanceMethod ({ cls := "ThreadTownModel", name := "man", desc := "(II)I" } : Jvm.MethodName)) ∈ lw_all := lw_g (lw_at lw_m8 131 rfl) rfl
theorem q1925 : (Jvm.Cond.selects "ThreadTownModel" ({ cls := "ThreadTownModel", name := "man", desc := "(II)I" } : Jvm.MethodName) ({ cls := "ThreadTownModel", name := "man", desc := "(II)I" } : Jvm.MethodName)) ∈ lw_all := lw_g (lw_at lw_m8 132 rfl) rfl
theorem q1926 : (Jvm.Cond.code ({ cls := "ThreadTownModel", name := "man", desc := "(II)I" } : Jvm.MethodName) prog_21_method_57_code (3 : Nat) (Option.some Jvm.ClassFile.FieldType.int)) ∈ lw_all := lw_g (lw_at lw_m8 133 rfl) rfl
theorem q1927 : (Jvm.Cond.methodLink "ThreadTownModel" (394 : Nat) ({ cls := "ThreadTownModel", name := "isMan", desc := "(I)Z" } : Jvm.MethodName)) ∈ lw_all := lw_g (lw_at lw_m8 134 rfl) rfl
theorem q1928 : (Jvm.Cond.privateMethod ({ cls := "ThreadTownModel", name := "isMan", desc := "(I)Z" } : Jvm.MethodName)) ∈ lw_tbl := lw_at lw_m8 135 rfl
theorem q1929 : (Jvm.Cond.instanceMethod ({ cls := "ThreadTownModel", name := "isMan", desc := "(I)Z" } : Jvm.MethodName)) ∈ lw_all := lw_g (lw_at lw_m8 136 rfl) rfl
theorem q1930 : (Jvm.Cond.code ({ cls := "ThreadTownModel", name := "isMan", desc := "(I)Z" } : Jvm.MethodName) prog_21_method_39_code (2 : Nat) (Option.some Jvm.ClassFile.FieldType.boolean)) ∈ lw_all := lw_g (lw_at lw_m8 137 rfl) rfl
theorem q1931 : (Jvm.Cond.methodLink "ThreadTownModel" (345 : Nat) ({ cls := "ThreadTownModel", name := "in", desc := "(III)Z" } : Jvm.MethodName)) ∈ lw_all := lw_g (lw_at lw_m8 138 rfl) rfl
theorem q1932 : (Jvm.Cond.static ({ cls := "ThreadTownModel", name := "in", desc := "(III)Z" } : Jvm.MethodName)) ∈ lw_all := lw_g (lw_at lw_m8 139 rfl) rfl
theorem q1933 : (Jvm.Cond.code ({ cls := "ThreadTownModel", name := "in", desc := "(III)Z" } : Jvm.MethodName) prog_21_method_38_code (3 : Nat) (Option.some Jvm.ClassFile.FieldType.boolean)) ∈ lw_all := lw_g (lw_at lw_m8 140 rfl) rfl
theorem q1934 : (Jvm.Cond.methodLink "ThreadTownModel" (397 : Nat) ({ cls := "ThreadTownModel", name := "copies", desc := "()V" } : Jvm.MethodName)) ∈ lw_all := lw_g (lw_at lw_m8 141 rfl) rfl
theorem q1935 : (Jvm.Cond.privateMethod ({ cls := "ThreadTownModel", name := "copies", desc := "()V" } : Jvm.MethodName)) ∈ lw_tbl := lw_at lw_m8 142 rfl
theorem q1936 : (Jvm.Cond.instanceMethod ({ cls := "ThreadTownModel", name := "copies", desc := "()V" } : Jvm.MethodName)) ∈ lw_all := lw_g (lw_at lw_m8 143 rfl) rfl
theorem q1937 : (Jvm.Cond.code ({ cls := "ThreadTownModel", name := "copies", desc := "()V" } : Jvm.MethodName) prog_21_method_42_code (2 : Nat) (Option.none : Option Jvm.ClassFile.FieldType)) ∈ lw_all := lw_g (lw_at lw_m8 144 rfl) rfl
theorem q1938 : (Jvm.Cond.methodLink "ThreadTownModel" (362 : Nat) ({ cls := "ThreadTownModel", name := "leftOf", desc := "(I)I" } : Jvm.MethodName)) ∈ lw_all := lw_g (lw_at lw_m8 145 rfl) rfl
theorem q1939 : (Jvm.Cond.privateMethod ({ cls := "ThreadTownModel", name := "leftOf", desc := "(I)I" } : Jvm.MethodName)) ∈ lw_tbl := lw_at lw_m8 146 rfl
theorem q1940 : (Jvm.Cond.instanceMethod ({ cls := "ThreadTownModel", name := "leftOf", desc := "(I)I" } : Jvm.MethodName)) ∈ lw_all := lw_g (lw_at lw_m8 147 rfl) rfl
theorem q1941 : (Jvm.Cond.code ({ cls := "ThreadTownModel", name := "leftOf", desc := "(I)I" } : Jvm.MethodName) prog_21_method_47_code (2 : Nat) (Option.some Jvm.ClassFile.FieldType.int)) ∈ lw_all := lw_g (lw_at lw_m8 148 rfl) rfl
theorem q1942 : (Jvm.Cond.methodLink "ThreadTownModel" (359 : Nat) ({ cls := "ThreadTownModel", name := "longOf", desc := "(I)I" } : Jvm.MethodName)) ∈ lw_all := lw_g (lw_at lw_m8 149 rfl) rfl
theorem q1943 : (Jvm.Cond.privateMethod ({ cls := "ThreadTownModel", name := "longOf", desc := "(I)I" } : Jvm.MethodName)) ∈ lw_tbl := lw_at lw_m8 150 rfl
theorem q1944 : (Jvm.Cond.instanceMethod ({ cls := "ThreadTownModel", name := "longOf", desc := "(I)I" } : Jvm.MethodName)) ∈ lw_all := lw_g (lw_at lw_m8 151 rfl) rfl
theorem q1945 : (Jvm.Cond.code ({ cls := "ThreadTownModel", name := "longOf", desc := "(I)I" } : Jvm.MethodName) prog_21_method_46_code (4 : Nat) (Option.some Jvm.ClassFile.FieldType.int)) ∈ lw_all := lw_g (lw_at lw_m8 152 rfl) rfl
theorem q1946 : (Jvm.Cond.methodLink "ThreadTownModel" (356 : Nat) ({ cls := "ThreadTownModel", name := "tellsBy", desc := "(I)I" } : Jvm.MethodName)) ∈ lw_all := lw_g (lw_at lw_m8 153 rfl) rfl
theorem q1947 : (Jvm.Cond.privateMethod ({ cls := "ThreadTownModel", name := "tellsBy", desc := "(I)I" } : Jvm.MethodName)) ∈ lw_tbl := lw_at lw_m8 154 rfl
theorem q1948 : (Jvm.Cond.instanceMethod ({ cls := "ThreadTownModel", name := "tellsBy", desc := "(I)I" } : Jvm.MethodName)) ∈ lw_all := lw_g (lw_at lw_m8 155 rfl) rfl
theorem q1949 : (Jvm.Cond.code ({ cls := "ThreadTownModel", name := "tellsBy", desc := "(I)I" } : Jvm.MethodName) prog_21_method_45_code (5 : Nat) (Option.some Jvm.ClassFile.FieldType.int)) ∈ lw_all := lw_g (lw_at lw_m8 156 rfl) rfl
theorem q1950 : (Jvm.Cond.methodLink "ThreadTownModel" (353 : Nat) ({ cls := "ThreadTownModel", name := "termOf", desc := "(II)I" } : Jvm.MethodName)) ∈ lw_all := lw_g (lw_at lw_m8 157 rfl) rfl
theorem q1951 : (Jvm.Cond.privateMethod ({ cls := "ThreadTownModel", name := "termOf", desc := "(II)I" } : Jvm.MethodName)) ∈ lw_tbl := lw_at lw_m8 158 rfl
theorem q1952 : (Jvm.Cond.instanceMethod ({ cls := "ThreadTownModel", name := "termOf", desc := "(II)I" } : Jvm.MethodName)) ∈ lw_all := lw_g (lw_at lw_m8 159 rfl) rfl
theorem q1953 : (Jvm.Cond.code ({ cls := "ThreadTownModel", name := "termOf", desc := "(II)I" } : Jvm.MethodName) prog_21_method_37_code (8 : Nat) (Option.some Jvm.ClassFile.FieldType.int)) ∈ lw_all := lw_g (lw_at lw_m8 160 rfl) rfl
theorem q1954 : (Jvm.Cond.methodLink "ThreadTownModel" (400 : Nat) ({ cls := "ThreadTownModel", name := "apart", desc := "(II)I" } : Jvm.MethodName)) ∈ lw_all := lw_g (lw_at lw_m8 161 rfl) rfl
theorem q1955 : (Jvm.Cond.static ({ cls := "ThreadTownModel", name := "apart", desc := "(II)I" } : Jvm.MethodName)) ∈ lw_all := lw_g (lw_at lw_m8 162 rfl) rfl
theorem q1956 : (Jvm.Cond.code ({ cls := "ThreadTownModel", name := "apart", desc := "(II)I" } : Jvm.MethodName) prog_21_method_58_code (2 : Nat) (Option.some Jvm.ClassFile.FieldType.int)) ∈ lw_all := lw_g (lw_at lw_m8 163 rfl) rfl
theorem q1957 : (Jvm.Cond.methodLink "ThreadTownModel" (385 : Nat) ({ cls := "ThreadTownModel", name := "goesOf", desc := "(I)I" } : Jvm.MethodName)) ∈ lw_all := lw_g (lw_at lw_m8 164 rfl) rfl
theorem q1958 : (Jvm.Cond.privateMethod ({ cls := "ThreadTownModel", name := "goesOf", desc := "(I)I" } : Jvm.MethodName)) ∈ lw_tbl := lw_at lw_m8 165 rfl
theorem q1959 : (Jvm.Cond.instanceMethod ({ cls := "ThreadTownModel", name := "goesOf", desc := "(I)I" } : Jvm.MethodName)) ∈ lw_all := lw_g (lw_at lw_m8 166 rfl) rfl
theorem q1960 : (Jvm.Cond.code ({ cls := "ThreadTownModel", name := "goesOf", desc := "(I)I" } : Jvm.MethodName) prog_21_method_48_code (5 : Nat) (Option.some Jvm.ClassFile.FieldType.int)) ∈ lw_all := lw_g (lw_at lw_m8 167 rfl) rfl
theorem q1961 : (Jvm.Cond.methodLink "ThreadTownModel" (365 : Nat) ({ cls := "ThreadTownModel", name := "lotOf", desc := "(III)I" } : Jvm.MethodName)) ∈ lw_all := lw_g (lw_at lw_m8 168 rfl) rfl
theorem q1962 : (Jvm.Cond.static ({ cls := "ThreadTownModel", name := "lotOf", desc := "(III)I" } : Jvm.MethodName)) ∈ lw_all := lw_g (lw_at lw_m8 169 rfl) rfl
theorem q1963 : (Jvm.Cond.code ({ cls := "ThreadTownModel", name := "lotOf", desc := "(III)I" } : Jvm.MethodName) prog_21_method_44_code (3 : Nat) (Option.some Jvm.ClassFile.FieldType.int)) ∈ lw_all := lw_g (lw_at lw_m8 170 rfl) rfl
theorem q1964 : (Jvm.Cond.methodLink "ThreadTownModel" (350 : Nat) ({ cls := "ThreadTownModel", name := "mixed", desc := "(II)I" } : Jvm.MethodName)) ∈ lw_all := lw_g (lw_at lw_m8 171 rfl) rfl
theorem q1965 : (Jvm.Cond.static ({ cls := "ThreadTownModel", name := "mixed", desc := "(II)I" } : Jvm.MethodName)) ∈ lw_all := lw_g (lw_at lw_m8 172 rfl) rfl
theorem q1966 : (Jvm.Cond.code ({ cls := "ThreadTownModel", name := "mixed", desc := "(II)I" } : Jvm.MethodName) prog_21_method_43_code (3 : Nat) (Option.some Jvm.ClassFile.FieldType.int)) ∈ lw_all := lw_g (lw_at lw_m8 173 rfl) rfl
theorem q1967 : (Jvm.Cond.constant "ThreadTownModel" (349 : Nat) (1103515245 : Int32)) ∈ lw_all := lw_g (lw_at lw_m8 174 rfl) rfl
theorem q1968 : (Jvm.Cond.methodLink "ThreadTownLaw" (41 : Nat) ({ cls := "ThreadTownModel", name := "piece", desc := "(III)I" } : Jvm.MethodName)) ∈ lw_all := lw_g (lw_at lw_m8 175 rfl) rfl
theorem q1969 : (Jvm.Cond.instanceMethod ({ cls := "ThreadTownModel", name := "piece", desc := "(III)I" } : Jvm.MethodName)) ∈ lw_all := lw_g (lw_at lw_m8 176 rfl) rfl
theorem q1970 : (Jvm.Cond.selects "ThreadTownModel" ({ cls := "ThreadTownModel", name := "piece", desc := "(III)I" } : Jvm.MethodName) ({ cls := "ThreadTownModel", name := "piece", desc := "(III)I" } : Jvm.MethodName)) ∈ lw_all := lw_g (lw_at lw_m8 177 rfl) rfl
theorem q1971 : (Jvm.Cond.code ({ cls := "ThreadTownModel", name := "piece", desc := "(III)I" } : Jvm.MethodName) prog_21_method_59_code (5 : Nat) (Option.some Jvm.ClassFile.FieldType.int)) ∈ lw_all := lw_g (lw_at lw_m8 178 rfl) rfl
theorem q1972 : (Jvm.Cond.methodLink "ThreadTownModel" (381 : Nat) ({ cls := "ThreadTownModel", name := "others", desc := "(IIZ)I" } : Jvm.MethodName)) ∈ lw_all := lw_g (lw_at lw_m8 179 rfl) rfl
theorem q1973 : (Jvm.Cond.privateMethod ({ cls := "ThreadTownModel", name := "others", desc := "(IIZ)I" } : Jvm.MethodName)) ∈ lw_tbl := lw_at lw_m8 180 rfl
theorem q1974 : (Jvm.Cond.instanceMethod ({ cls := "ThreadTownModel", name := "others", desc := "(IIZ)I" } : Jvm.MethodName)) ∈ lw_all := lw_g (lw_at lw_m8 181 rfl) rfl
theorem q1975 : (Jvm.Cond.code ({ cls := "ThreadTownModel", name := "others", desc := "(IIZ)I" } : Jvm.MethodName) prog_21_method_54_code (8 : Nat) (Option.some Jvm.ClassFile.FieldType.int)) ∈ lw_all := lw_g (lw_at lw_m8 182 rfl) rfl
theorem q1976 : (Jvm.Cond.methodLink "ThreadTownLaw" (46 : Nat) ({ cls := "ThreadTownModel", name := "step", desc := "(II)Z" } : Jvm.MethodName)) ∈ lw_all := lw_g (lw_at lw_m8 183 rfl) rfl
theorem q1977 : (Jvm.Cond.instanceMethod ({ cls := "ThreadTownModel", name := "step", desc := "(II)Z" } : Jvm.MethodName)) ∈ lw_all := lw_g (lw_at lw_m8 184 rfl) rfl
theorem q1978 : (Jvm.Cond.selects "ThreadTownModel" ({ cls := "ThreadTownModel", name := "step", desc := "(II)Z" } : Jvm.MethodName) ({ cls := "ThreadTownModel", name := "step", desc := "(II)Z" } : Jvm.MethodName)) ∈ lw_all := lw_g (lw_at lw_m8 185 rfl) rfl
theorem q1979 : (Jvm.Cond.code ({ cls := "ThreadTownModel", name := "step", desc := "(II)Z" } : Jvm.MethodName) prog_21_method_61_code (3 : Nat) (Option.some Jvm.ClassFile.FieldType.boolean)) ∈ lw_all := lw_g (lw_at lw_m8 186 rfl) rfl
theorem q1980 : (Jvm.Cond.methodLink "ThreadTownModel" (388 : Nat) ({ cls := "ThreadTownModel", name := "steps", desc := "(II)Z" } : Jvm.MethodName)) ∈ lw_all := lw_g (lw_at lw_m8 187 rfl) rfl
theorem q1981 : (Jvm.Cond.privateMethod ({ cls := "ThreadTownModel", name := "steps", desc := "(II)Z" } : Jvm.MethodName)) ∈ lw_tbl := lw_at lw_m8 188 rfl
theorem q1982 : (Jvm.Cond.instanceMethod ({ cls := "ThreadTownModel", name := "steps", desc := "(II)Z" } : Jvm.MethodName)) ∈ lw_all := lw_g (lw_at lw_m8 189 rfl) rfl
theorem q1983 : (Jvm.Cond.code ({ cls := "ThreadTownModel", name := "steps", desc := "(II)Z" } : Jvm.MethodName) prog_21_method_53_code (6 : Nat) (Option.some Jvm.ClassFile.FieldType.boolean)) ∈ lw_all := lw_g (lw_at lw_m8 190 rfl) rfl
theorem q1984 : (Jvm.Cond.methodLink "ThreadTownModel" (368 : Nat) ({ cls := "ThreadTownModel", name := "dx", desc := "(I)I" } : Jvm.MethodName)) ∈ lw_all := lw_g (lw_at lw_m8 191 rfl) rfl
theorem q1985 : (Jvm.Cond.static ({ cls := "ThreadTownModel", name := "dx", desc := "(I)I" } : Jvm.MethodName)) ∈ lw_all := lw_g (lw_at lw_m8 192 rfl) rfl
theorem q1986 : (Jvm.Cond.code ({ cls := "ThreadTownModel", name := "dx", desc := "(I)I" } : Jvm.MethodName) prog_21_method_49_code (1 : Nat) (Option.some Jvm.ClassFile.FieldType.int)) ∈ lw_all := lw_g (lw_at lw_m8 193 rfl) rfl
theorem q1987 : (Jvm.Cond.methodLink "ThreadTownModel" (371 : Nat) ({ cls := "ThreadTownModel", name := "dy", desc := "(I)I" } : Jvm.MethodName)) ∈ lw_all := lw_g (lw_at lw_m8 194 rfl) rfl
theorem q1988 : (Jvm.Cond.static ({ cls := "ThreadTownModel", name := "dy", desc := "(I)I" } : Jvm.MethodName)) ∈ lw_all := lw_g (lw_at lw_m8 195 rfl) rfl
theorem q1989 : (Jvm.Cond.code ({ cls := "ThreadTownModel", name := "dy", desc := "(I)I" } : Jvm.MethodName) prog_21_method_50_code (1 : Nat) (Option.some Jvm.ClassFile.FieldType.int)) ∈ lw_all := lw_g (lw_at lw_m8 196 rfl) rfl
theorem q1990 : (Jvm.Cond.methodLink "ThreadTownModel" (374 : Nat) ({ cls := "ThreadTownModel", name := "isCorner", desc := "(II)Z" } : Jvm.MethodName)) ∈ lw_all := lw_g (lw_at lw_m8 197 rfl) rfl
theorem q1991 : (Jvm.Cond.privateMethod ({ cls := "ThreadTownModel", name := "isCorner", desc := "(II)Z" } : Jvm.MethodName)) ∈ lw_tbl := lw_at lw_m8 198 rfl
theorem q1992 : (Jvm.Cond.instanceMethod ({ cls := "ThreadTownModel", name := "isCorner", desc := "(II)Z" } : Jvm.MethodName)) ∈ lw_all := lw_g (lw_at lw_m8 199 rfl) rfl
theorem q1993 : (Jvm.Cond.code ({ cls := "ThreadTownModel", name := "isCorner", desc := "(II)Z" } : Jvm.MethodName) prog_21_method_51_code (3 : Nat) (Option.some Jvm.ClassFile.FieldType.boolean)) ∈ lw_all := lw_g (lw_at lw_m8 200 rfl) rfl
theorem q1994 : (Jvm.Cond.methodLink "ThreadTownModel" (378 : Nat) ({ cls := "ThreadTownModel", name := "streetOf", desc := "(III)I" } : Jvm.MethodName)) ∈ lw_all := lw_g (lw_at lw_m8 201 rfl) rfl
theorem q1995 : (Jvm.Cond.static ({ cls := "ThreadTownModel", name := "streetOf", desc := "(III)I" } : Jvm.MethodName)) ∈ lw_all := lw_g (lw_at lw_m8 202 rfl) rfl
theorem q1996 : (Jvm.Cond.code ({ cls := "ThreadTownModel", name := "streetOf", desc := "(III)I" } : Jvm.MethodName) prog_21_method_52_code (5 : Nat) (Option.some Jvm.ClassFile.FieldType.int)) ∈ lw_all := lw_g (lw_at lw_m8 203 rfl) rfl
theorem q1997 : (Jvm.Cond.methodLink "ThreadTownModel" (404 : Nat) ({ cls := "ThreadTownModel", name := "keeps", desc := "()V" } : Jvm.MethodName)) ∈ lw_all := lw_g (lw_at lw_m8 204 rfl) rfl
theorem q1998 : (Jvm.Cond.privateMethod ({ cls := "ThreadTownModel", name := "keeps", desc := "()V" } : Jvm.MethodName)) ∈ lw_tbl := lw_at lw_m8 205 rfl
theorem q1999 : (Jvm.Cond.instanceMethod ({ cls := "ThreadTownModel", name := "keeps", desc := "()V" } : Jvm.MethodName)) ∈ lw_all := lw_g (lw_at lw_m8 206 rfl) rfl
theorem q2000 : (Jvm.Cond.code ({ cls := "ThreadTownModel", name := "keeps", desc := "()V" } : Jvm.MethodName) prog_21_method_60_code (2 : Nat) (Option.none : Option Jvm.ClassFile.FieldType)) ∈ lw_all := lw_g (lw_at lw_m8 207 rfl) rfl
theorem q2001 : (Jvm.Cond.constant "ThreadTownModel" (403 : Nat) (37410 : Int32)) ∈ lw_all := lw_g (lw_at lw_m8 208 rfl) rfl
theorem q2002 : (Jvm.Cond.methodLink "ThreadTownLaw" (51 : Nat) ({ cls := "ThreadTownModel", name := "wind", desc := "(I)Z" } : Jvm.MethodName)) ∈ lw_all := lw_g (lw_at lw_m8 209 rfl) rfl
theorem q2003 : (Jvm.Cond.instanceMethod ({ cls := "ThreadTownModel", name := "wind", desc := "(I)Z" } : Jvm.MethodName)) ∈ lw_all := lw_g (lw_at lw_m8 210 rfl) rfl
theorem q2004 : (Jvm.Cond.selects "ThreadTownModel" ({ cls := "ThreadTownModel", name := "wind", desc := "(I)Z" } : Jvm.MethodName) ({ cls := "ThreadTownModel", name := "wind", desc := "(I)Z" } : Jvm.MethodName)) ∈ lw_all := lw_g (lw_at lw_m8 211 rfl) rfl
theorem q2005 : (Jvm.Cond.code ({ cls := "ThreadTownModel", name := "wind", desc := "(I)Z" } : Jvm.MethodName) prog_21_method_62_code (2 : Nat) (Option.some Jvm.ClassFile.FieldType.boolean)) ∈ lw_all := lw_g (lw_at lw_m8 212 rfl) rfl
theorem q2006 : (Jvm.Cond.methodLink "ThreadTownModel" (391 : Nat) ({ cls := "ThreadTownModel", name := "winds", desc := "(I)Z" } : Jvm.MethodName)) ∈ lw_all := lw_g (lw_at lw_m8 213 rfl) rfl
theorem q2007 : (Jvm.Cond.privateMethod ({ cls := "ThreadTownModel", name := "winds", desc := "(I)Z" } : Jvm.MethodName)) ∈ lw_tbl := lw_at lw_m8 214 rfl
theorem q2008 : (Jvm.Cond.instanceMethod ({ cls := "ThreadTownModel", name := "winds", desc := "(I)Z" } : Jvm.MethodName)) ∈ lw_all := lw_g (lw_at lw_m8 215 rfl) rfl
theorem q2009 : (Jvm.Cond.code ({ cls := "ThreadTownModel", name := "winds", desc := "(I)Z" } : Jvm.MethodName) prog_21_method_55_code (3 : Nat) (Option.some Jvm.ClassFile.FieldType.boolean)) ∈ lw_all := lw_g (lw_at lw_m8 216 rfl) rfl
theorem q2010 : (Jvm.Cond.methodLink "ThreadTownLaw" (55 : Nat) ({ cls := "ThreadTownModel", name := "home", desc := "(I)I" } : Jvm.MethodName)) ∈ lw_all := lw_g (lw_at lw_m8 217 rfl) rfl
theorem q2011 : (Jvm.Cond.instanceMethod ({ cls := "ThreadTownModel", name := "home", desc := "(I)I" } : Jvm.MethodName)) ∈ lw_all := lw_g (lw_at lw_m8 218 rfl) rfl
theorem q2012 : (Jvm.Cond.selects "ThreadTownModel" ({ cls := "ThreadTownModel", name := "home", desc := "(I)I" } : Jvm.MethodName) ({ cls := "ThreadTownModel", name := "home", desc := "(I)I" } : Jvm.MethodName)) ∈ lw_all := lw_g (lw_at lw_m8 219 rfl) rfl
theorem q2013 : (Jvm.Cond.code ({ cls := "ThreadTownModel", name := "home", desc := "(I)I" } : Jvm.MethodName) prog_21_method_63_code (3 : Nat) (Option.some Jvm.ClassFile.FieldType.int)) ∈ lw_all := lw_g (lw_at lw_m8 220 rfl) rfl
theorem q2014 : (Jvm.Cond.methodLink "ThreadTownLaw" (59 : Nat) ({ cls := "ThreadTownModel", name := "cut", desc := "(I)I" } : Jvm.MethodName)) ∈ lw_all := lw_g (lw_at lw_m8 221 rfl) rfl
theorem q2015 : (Jvm.Cond.instanceMethod ({ cls := "ThreadTownModel", name := "cut", desc := "(I)I" } : Jvm.MethodName)) ∈ lw_all := lw_g (lw_at lw_m8 222 rfl) rfl
theorem q2016 : (Jvm.Cond.selects "ThreadTownModel" ({ cls := "ThreadTownModel", name := "cut", desc := "(I)I" } : Jvm.MethodName) ({ cls := "ThreadTownModel", name := "cut", desc := "(I)I" } : Jvm.MethodName)) ∈ lw_all := lw_g (lw_at lw_m8 223 rfl) rfl
theorem q2017 : (Jvm.Cond.code ({ cls := "ThreadTownModel", name := "cut", desc := "(I)I" } : Jvm.MethodName) prog_21_method_64_code (3 : Nat) (Option.some Jvm.ClassFile.FieldType.int)) ∈ lw_all := lw_g (lw_at lw_m8 224 rfl) rfl
theorem q2018 : (Jvm.Cond.methodLink "ThreadTownLaw" (63 : Nat) ({ cls := "ThreadTownModel", name := "run", desc := "(I)I" } : Jvm.MethodName)) ∈ lw_all := lw_g (lw_at lw_m8 225 rfl) rfl
theorem q2019 : (Jvm.Cond.instanceMethod ({ cls := "ThreadTownModel", name := "run", desc := "(I)I" } : Jvm.MethodName)) ∈ lw_all := lw_g (lw_at lw_m8 226 rfl) rfl
theorem q2020 : (Jvm.Cond.selects "ThreadTownModel" ({ cls := "ThreadTownModel", name := "run", desc := "(I)I" } : Jvm.MethodName) ({ cls := "ThreadTownModel", name := "run", desc := "(I)I" } : Jvm.MethodName)) ∈ lw_all := lw_g (lw_at lw_m8 227 rfl) rfl
theorem q2021 : (Jvm.Cond.code ({ cls := "ThreadTownModel", name := "run", desc := "(I)I" } : Jvm.MethodName) prog_21_method_65_code (3 : Nat) (Option.some Jvm.ClassFile.FieldType.int)) ∈ lw_all := lw_g (lw_at lw_m8 228 rfl) rfl
theorem q2022 : (Jvm.Cond.methodLink "ThreadTownModel" (407 : Nat) ({ cls := "ThreadTownModel", name := "minuteGoes", desc := "()V" } : Jvm.MethodName)) ∈ lw_all := lw_g (lw_at lw_m8 229 rfl) rfl
theorem q2023 : (Jvm.Cond.privateMethod ({ cls := "ThreadTownModel", name := "minuteGoes", desc := "()V" } : Jvm.MethodName)) ∈ lw_tbl := lw_at lw_m8 230 rfl
theorem q2024 : (Jvm.Cond.instanceMethod ({ cls := "ThreadTownModel", name := "minuteGoes", desc := "()V" } : Jvm.MethodName)) ∈ lw_all := lw_g (lw_at lw_m8 231 rfl) rfl
theorem q2025 : (Jvm.Cond.code ({ cls := "ThreadTownModel", name := "minuteGoes", desc := "()V" } : Jvm.MethodName) prog_21_method_56_code (3 : Nat) (Option.none : Option Jvm.ClassFile.FieldType)) ∈ lw_all := lw_g (lw_at lw_m8 232 rfl) rfl
theorem q2026 : (Jvm.Cond.methodLink "ThreadTownLaw" (68 : Nat) ({ cls := "ThreadTownModel", name := "undo", desc := "()Z" } : Jvm.MethodName)) ∈ lw_all := lw_g (lw_at lw_m8 233 rfl) rfl
theorem q2027 : (Jvm.Cond.instanceMethod ({ cls := "ThreadTownModel", name := "undo", desc := "()Z" } : Jvm.MethodName)) ∈ lw_all := lw_g (lw_at lw_m8 234 rfl) rfl
theorem q2028 : (Jvm.Cond.selects "ThreadTownModel" ({ cls := "ThreadTownModel", name := "undo", desc := "()Z" } : Jvm.MethodName) ({ cls := "ThreadTownModel", name := "undo", desc := "()Z" } : Jvm.MethodName)) ∈ lw_all := lw_g (lw_at lw_m8 235 rfl) rfl
theorem q2029 : (Jvm.Cond.code ({ cls := "ThreadTownModel", name := "undo", desc := "()Z" } : Jvm.MethodName) prog_21_method_66_code (2 : Nat) (Option.some Jvm.ClassFile.FieldType.boolean)) ∈ lw_all := lw_g (lw_at lw_m8 236 rfl) rfl
theorem q2030 : (Jvm.Cond.methodLink "ThreadTownLaw" (72 : Nat) ({ cls := "ThreadTownModel", name := "over", desc := "(II)I" } : Jvm.MethodName)) ∈ lw_all := lw_g (lw_at lw_m8 237 rfl) rfl
theorem q2031 : (Jvm.Cond.instanceMethod ({ cls := "ThreadTownModel", name := "over", desc := "(II)I" } : Jvm.MethodName)) ∈ lw_all := lw_g (lw_at lw_m8 238 rfl) rfl
theorem q2032 : (Jvm.Cond.selects "ThreadTownModel" ({ cls := "ThreadTownModel", name := "over", desc := "(II)I" } : Jvm.MethodName) ({ cls := "ThreadTownModel", name := "over", desc := "(II)I" } : Jvm.MethodName)) ∈ lw_all := lw_g (lw_at lw_m8 239 rfl) rfl
theorem q2033 : (Jvm.Cond.code ({ cls := "ThreadTownModel", name := "over", desc := "(II)I" } : Jvm.MethodName) prog_21_method_70_code (3 : Nat) (Option.some Jvm.ClassFile.FieldType.int)) ∈ lw_all := lw_g (lw_at lw_m9 0 rfl) rfl
theorem q2034 : (Jvm.Cond.methodLink "ThreadTownModel" (413 : Nat) ({ cls := "ThreadTownModel", name := "areTwo", desc := "(II)Z" } : Jvm.MethodName)) ∈ lw_all := lw_g (lw_at lw_m9 1 rfl) rfl
theorem q2035 : (Jvm.Cond.privateMethod ({ cls := "ThreadTownModel", name := "areTwo", desc := "(II)Z" } : Jvm.MethodName)) ∈ lw_tbl := lw_at lw_m9 2 rfl
theorem q2036 : (Jvm.Cond.instanceMethod ({ cls := "ThreadTownModel", name := "areTwo", desc := "(II)Z" } : Jvm.MethodName)) ∈ lw_all := lw_g (lw_at lw_m9 3 rfl) rfl
theorem q2037 : (Jvm.Cond.code ({ cls := "ThreadTownModel", name := "areTwo", desc := "(II)Z" } : Jvm.MethodName) prog_21_method_69_code (3 : Nat) (Option.some Jvm.ClassFile.FieldType.boolean)) ∈ lw_all := lw_g (lw_at lw_m9 4 rfl) rfl
theorem q2038 : (Jvm.Cond.methodLink "ThreadTownModel" (410 : Nat) ({ cls := "ThreadTownModel", name := "overOf", desc := "(II)I" } : Jvm.MethodName)) ∈ lw_all := lw_g (lw_at lw_m9 5 rfl) rfl
theorem q2039 : (Jvm.Cond.privateMethod ({ cls := "ThreadTownModel", name := "overOf", desc := "(II)I" } : Jvm.MethodName)) ∈ lw_tbl := lw_at lw_m9 6 rfl
theorem q2040 : (Jvm.Cond.instanceMethod ({ cls := "ThreadTownModel", name := "overOf", desc := "(II)I" } : Jvm.MethodName)) ∈ lw_all := lw_g (lw_at lw_m9 7 rfl) rfl
theorem q2041 : (Jvm.Cond.code ({ cls := "ThreadTownModel", name := "overOf", desc := "(II)I" } : Jvm.MethodName) prog_21_method_67_code (8 : Nat) (Option.some Jvm.ClassFile.FieldType.int)) ∈ lw_all := lw_g (lw_at lw_m9 8 rfl) rfl
theorem q2042 : (Jvm.Cond.methodLink "ThreadTownLaw" (76 : Nat) ({ cls := "ThreadTownModel", name := "waits", desc := "(I)I" } : Jvm.MethodName)) ∈ lw_all := lw_g (lw_at lw_m9 9 rfl) rfl
theorem q2043 : (Jvm.Cond.instanceMethod ({ cls := "ThreadTownModel", name := "waits", desc := "(I)I" } : Jvm.MethodName)) ∈ lw_all := lw_g (lw_at lw_m9 10 rfl) rfl
theorem q2044 : (Jvm.Cond.selects "ThreadTownModel" ({ cls := "ThreadTownModel", name := "waits", desc := "(I)I" } : Jvm.MethodName) ({ cls := "ThreadTownModel", name := "waits", desc := "(I)I" } : Jvm.MethodName)) ∈ lw_all := lw_g (lw_at lw_m9 11 rfl) rfl
theorem q2045 : (Jvm.Cond.code ({ cls := "ThreadTownModel", name := "waits", desc := "(I)I" } : Jvm.MethodName) prog_21_method_71_code (2 : Nat) (Option.some Jvm.ClassFile.FieldType.int)) ∈ lw_all := lw_g (lw_at lw_m9 12 rfl) rfl
theorem q2046 : (Jvm.Cond.methodLink "ThreadTownModel" (416 : Nat) ({ cls := "ThreadTownModel", name := "fillsWaits", desc := "()I" } : Jvm.MethodName)) ∈ lw_all := lw_g (lw_at lw_m9 13 rfl) rfl
theorem q2047 : (Jvm.Cond.privateMethod ({ cls := "ThreadTownModel", name := "fillsWaits", desc := "()I" } : Jvm.MethodName)) ∈ lw_tbl := lw_at lw_m9 14 rfl
theorem q2048 : (Jvm.Cond.instanceMethod ({ cls := "ThreadTownModel", name := "fillsWaits", desc := "()I" } : Jvm.MethodName)) ∈ lw_all := lw_g (lw_at lw_m9 15 rfl) rfl
theorem q2049 : (Jvm.Cond.code ({ cls := "ThreadTownModel", name := "fillsWaits", desc := "()I" } : Jvm.MethodName) prog_21_method_68_code (4 : Nat) (Option.some Jvm.ClassFile.FieldType.int)) ∈ lw_all := lw_g (lw_at lw_m9 16 rfl) rfl
theorem q2050 : (Jvm.Cond.methodLink "ThreadTownLaw" (80 : Nat) ({ cls := "ThreadTownModel", name := "orders", desc := "()I" } : Jvm.MethodName)) ∈ lw_all := lw_g (lw_at lw_m9 17 rfl) rfl
theorem q2051 : (Jvm.Cond.instanceMethod ({ cls := "ThreadTownModel", name := "orders", desc := "()I" } : Jvm.MethodName)) ∈ lw_all := lw_g (lw_at lw_m9 18 rfl) rfl
theorem q2052 : (Jvm.Cond.selects "ThreadTownModel" ({ cls := "ThreadTownModel", name := "orders", desc := "()I" } : Jvm.MethodName) ({ cls := "ThreadTownModel", name := "orders", desc := "()I" } : Jvm.MethodName)) ∈ lw_all := lw_g (lw_at lw_m9 19 rfl) rfl
theorem q2053 : (Jvm.Cond.code ({ cls := "ThreadTownModel", name := "orders", desc := "()I" } : Jvm.MethodName) prog_21_method_73_code (2 : Nat) (Option.some Jvm.ClassFile.FieldType.int)) ∈ lw_all := lw_g (lw_at lw_m9 20 rfl) rfl
theorem q2054 : (Jvm.Cond.methodLink "ThreadTownModel" (419 : Nat) ({ cls := "ThreadTownModel", name := "fillsOrders", desc := "()V" } : Jvm.MethodName)) ∈ lw_all := lw_g (lw_at lw_m9 21 rfl) rfl
theorem q2055 : (Jvm.Cond.privateMethod ({ cls := "ThreadTownModel", name := "fillsOrders", desc := "()V" } : Jvm.MethodName)) ∈ lw_tbl := lw_at lw_m9 22 rfl
theorem q2056 : (Jvm.Cond.instanceMethod ({ cls := "ThreadTownModel", name := "fillsOrders", desc := "()V" } : Jvm.MethodName)) ∈ lw_all := lw_g (lw_at lw_m9 23 rfl) rfl
theorem q2057 : (Jvm.Cond.code ({ cls := "ThreadTownModel", name := "fillsOrders", desc := "()V" } : Jvm.MethodName) prog_21_method_72_code (3 : Nat) (Option.none : Option Jvm.ClassFile.FieldType)) ∈ lw_all := lw_g (lw_at lw_m9 24 rfl) rfl
theorem q2058 : (Jvm.Cond.methodLink "ThreadTownLaw" (84 : Nat) ({ cls := "ThreadTownModel", name := "orderAt", desc := "(I)I" } : Jvm.MethodName)) ∈ lw_all := lw_g (lw_at lw_m9 25 rfl) rfl
theorem q2059 : (Jvm.Cond.instanceMethod ({ cls := "ThreadTownModel", name := "orderAt", desc := "(I)I" } : Jvm.MethodName)) ∈ lw_all := lw_g (lw_at lw_m9 26 rfl) rfl
theorem q2060 : (Jvm.Cond.selects "ThreadTownModel" ({ cls := "ThreadTownModel", name := "orderAt", desc := "(I)I" } : Jvm.MethodName) ({ cls := "ThreadTownModel", name := "orderAt", desc := "(I)I" } : Jvm.MethodName)) ∈ lw_all := lw_g (lw_at lw_m9 27 rfl) rfl
theorem q2061 : (Jvm.Cond.code ({ cls := "ThreadTownModel", name := "orderAt", desc := "(I)I" } : Jvm.MethodName) prog_21_method_74_code (5 : Nat) (Option.some Jvm.ClassFile.FieldType.int)) ∈ lw_all := lw_g (lw_at lw_m9 28 rfl) rfl
theorem q2062 : (Jvm.Cond.methodLink "ThreadTownLaw" (88 : Nat) ({ cls := "ThreadTownModel", name := "cuts", desc := "(I)I" } : Jvm.MethodName)) ∈ lw_all := lw_g (lw_at lw_m9 29 rfl) rfl
theorem q2063 : (Jvm.Cond.instanceMethod ({ cls := "ThreadTownModel", name := "cuts", desc := "(I)I" } : Jvm.MethodName)) ∈ lw_all := lw_g (lw_at lw_m9 30 rfl) rfl
theorem q2064 : (Jvm.Cond.selects "ThreadTownModel" ({ cls := "ThreadTownModel", name := "cuts", desc := "(I)I" } : Jvm.MethodName) ({ cls := "ThreadTownModel", name := "cuts", desc := "(I)I" } : Jvm.MethodName)) ∈ lw_all := lw_g (lw_at lw_m9 31 rfl) rfl
theorem q2065 : (Jvm.Cond.code ({ cls := "ThreadTownModel", name := "cuts", desc := "(I)I" } : Jvm.MethodName) prog_21_method_77_code (6 : Nat) (Option.some Jvm.ClassFile.FieldType.int)) ∈ lw_all := lw_g (lw_at lw_m9 32 rfl) rfl
theorem q2066 : (Jvm.Cond.methodLink "ThreadTownModel" (422 : Nat) ({ cls := "ThreadTownModel", name := "bits", desc := "(I)I" } : Jvm.MethodName)) ∈ lw_all := lw_g (lw_at lw_m9 33 rfl) rfl
theorem q2067 : (Jvm.Cond.static ({ cls := "ThreadTownModel", name := "bits", desc := "(I)I" } : Jvm.MethodName)) ∈ lw_all := lw_g (lw_at lw_m9 34 rfl) rfl
theorem q2068 : (Jvm.Cond.code ({ cls := "ThreadTownModel", name := "bits", desc := "(I)I" } : Jvm.MethodName) prog_21_method_75_code (3 : Nat) (Option.some Jvm.ClassFile.FieldType.int)) ∈ lw_all := lw_g (lw_at lw_m9 35 rfl) rfl
theorem q2069 : (Jvm.Cond.methodLink "ThreadTownModel" (425 : Nat) ({ cls := "ThreadTownModel", name := "piecesOf", desc := "(I)I" } : Jvm.MethodName)) ∈ lw_all := lw_g (lw_at lw_m9 36 rfl) rfl
theorem q2070 : (Jvm.Cond.privateMethod ({ cls := "ThreadTownModel", name := "piecesOf", desc := "(I)I" } : Jvm.MethodName)) ∈ lw_tbl := lw_at lw_m9 37 rfl
theorem q2071 : (Jvm.Cond.instanceMethod ({ cls := "ThreadTownModel", name := "piecesOf", desc := "(I)I" } : Jvm.MethodName)) ∈ lw_all := lw_g (lw_at lw_m9 38 rfl) rfl
theorem q2072 : (Jvm.Cond.code ({ cls := "ThreadTownModel", name := "piecesOf", desc := "(I)I" } : Jvm.MethodName) prog_21_method_76_code (4 : Nat) (Option.some Jvm.ClassFile.FieldType.int)) ∈ lw_all := lw_g (lw_at lw_m9 39 rfl) rfl
theorem q2073 : (Jvm.Cond.methodLink "ThreadTownLaw" (92 : Nat) ({ cls := "ThreadTownModel", name := "way", desc := "(I)I" } : Jvm.MethodName)) ∈ lw_all := lw_g (lw_at lw_m9 40 rfl) rfl
theorem q2074 : (Jvm.Cond.instanceMethod ({ cls := "ThreadTownModel", name := "way", desc := "(I)I" } : Jvm.MethodName)) ∈ lw_all := lw_g (lw_at lw_m9 41 rfl) rfl
theorem q2075 : (Jvm.Cond.selects "ThreadTownModel" ({ cls := "ThreadTownModel", name := "way", desc := "(I)I" } : Jvm.MethodName) ({ cls := "ThreadTownModel", name := "way", desc := "(I)I" } : Jvm.MethodName)) ∈ lw_all := lw_g (lw_at lw_m9 42 rfl) rfl
theorem q2076 : (Jvm.Cond.code ({ cls := "ThreadTownModel", name := "way", desc := "(I)I" } : Jvm.MethodName) prog_21_method_81_code (2 : Nat) (Option.some Jvm.ClassFile.FieldType.int)) ∈ lw_all := lw_g (lw_at lw_m9 43 rfl) rfl
theorem q2077 : (Jvm.Cond.methodLink "ThreadTownModel" (434 : Nat) ({ cls := "ThreadTownModel", name := "wayOf", desc := "(I)I" } : Jvm.MethodName)) ∈ lw_all := lw_g (lw_at lw_m9 44 rfl) rfl
theorem q2078 : (Jvm.Cond.privateMethod ({ cls := "ThreadTownModel", name := "wayOf", desc := "(I)I" } : Jvm.MethodName)) ∈ lw_tbl := lw_at lw_m9 45 rfl
theorem q2079 : (Jvm.Cond.instanceMethod ({ cls := "ThreadTownModel", name := "wayOf", desc := "(I)I" } : Jvm.MethodName)) ∈ lw_all := lw_g (lw_at lw_m9 46 rfl) rfl
theorem q2080 : (Jvm.Cond.code ({ cls := "ThreadTownModel", name := "wayOf", desc := "(I)I" } : Jvm.MethodName) prog_21_method_80_code (2 : Nat) (Option.some Jvm.ClassFile.FieldType.int)) ∈ lw_all := lw_g (lw_at lw_m9 47 rfl) rfl
theorem q2081 : (Jvm.Cond.methodLink "ThreadTownModel" (431 : Nat) ({ cls := "ThreadTownModel", name := "wayFrom", desc := "(III)I" } : Jvm.MethodName)) ∈ lw_all := lw_g (lw_at lw_m9 48 rfl) rfl
theorem q2082 : (Jvm.Cond.privateMethod ({ cls := "ThreadTownModel", name := "wayFrom", desc := "(III)I" } : Jvm.MethodName)) ∈ lw_tbl := lw_at lw_m9 49 rfl
theorem q2083 : (Jvm.Cond.instanceMethod ({ cls := "ThreadTownModel", name := "wayFrom", desc := "(III)I" } : Jvm.MethodName)) ∈ lw_all := lw_g (lw_at lw_m9 50 rfl) rfl
theorem q2084 : (Jvm.Cond.code ({ cls := "ThreadTownModel", name := "wayFrom", desc := "(III)I" } : Jvm.MethodName) prog_21_method_79_code (12 : Nat) (Option.some Jvm.ClassFile.FieldType.int)) ∈ lw_all := lw_g (lw_at lw_m9 51 rfl) rfl
theorem q2085 : (Jvm.Cond.methodLink "ThreadTownModel" (428 : Nat) ({ cls := "ThreadTownModel", name := "nextOrder", desc := "(I)Z" } : Jvm.MethodName)) ∈ lw_all := lw_g (lw_at lw_m9 52 rfl) rfl
theorem q2086 : (Jvm.Cond.privateMethod ({ cls := "ThreadTownModel", name := "nextOrder", desc := "(I)Z" } : Jvm.MethodName)) ∈ lw_tbl := lw_at lw_m9 53 rfl
theorem q2087 : (Jvm.Cond.instanceMethod ({ cls := "ThreadTownModel", name := "nextOrder", desc := "(I)Z" } : Jvm.MethodName)) ∈ lw_all := lw_g (lw_at lw_m9 54 rfl) rfl
theorem q2088 : (Jvm.Cond.code ({ cls := "ThreadTownModel", name := "nextOrder", desc := "(I)Z" } : Jvm.MethodName) prog_21_method_78_code (7 : Nat) (Option.some Jvm.ClassFile.FieldType.boolean)) ∈ lw_all := lw_g (lw_at lw_m9 55 rfl) rfl
theorem q2089 : (Jvm.Cond.methodLink "ThreadTownLaw" (96 : Nat) ({ cls := "ThreadTownModel", name := "wayAt", desc := "(II)I" } : Jvm.MethodName)) ∈ lw_all := lw_g (lw_at lw_m9 56 rfl) rfl
theorem q2090 : (Jvm.Cond.instanceMethod ({ cls := "ThreadTownModel", name := "wayAt", desc := "(II)I" } : Jvm.MethodName)) ∈ lw_all := lw_g (lw_at lw_m9 57 rfl) rfl
theorem q2091 : (Jvm.Cond.selects "ThreadTownModel" ({ cls := "ThreadTownModel", name := "wayAt", desc := "(II)I" } : Jvm.MethodName) ({ cls := "ThreadTownModel", name := "wayAt", desc := "(II)I" } : Jvm.MethodName)) ∈ lw_all := lw_g (lw_at lw_m9 58 rfl) rfl
theorem q2092 : (Jvm.Cond.code ({ cls := "ThreadTownModel", name := "wayAt", desc := "(II)I" } : Jvm.MethodName) prog_21_method_82_code (3 : Nat) (Option.some Jvm.ClassFile.FieldType.int)) ∈ lw_all := lw_g (lw_at lw_m9 59 rfl) rfl
theorem q2093 : (Jvm.Cond.methodLink "ThreadTownLaw" (100 : Nat) ({ cls := "ThreadTownModel", name := "lives", desc := "(I)I" } : Jvm.MethodName)) ∈ lw_all := lw_g (lw_at lw_m9 60 rfl) rfl
theorem q2094 : (Jvm.Cond.instanceMethod ({ cls := "ThreadTownModel", name := "lives", desc := "(I)I" } : Jvm.MethodName)) ∈ lw_all := lw_g (lw_at lw_m9 61 rfl) rfl
theorem q2095 : (Jvm.Cond.selects "ThreadTownModel" ({ cls := "ThreadTownModel", name := "lives", desc := "(I)I" } : Jvm.MethodName) ({ cls := "ThreadTownModel", name := "lives", desc := "(I)I" } : Jvm.MethodName)) ∈ lw_all := lw_g (lw_at lw_m9 62 rfl) rfl
theorem q2096 : (Jvm.Cond.code ({ cls := "ThreadTownModel", name := "lives", desc := "(I)I" } : Jvm.MethodName) prog_21_method_83_code (6 : Nat) (Option.some Jvm.ClassFile.FieldType.int)) ∈ lw_all := lw_g (lw_at lw_m9 63 rfl) rfl
theorem q2097 : (Jvm.Cond.methodLink "ThreadTownLaw" (104 : Nat) ({ cls := "ThreadTownModel", name := "turns", desc := "(II)I" } : Jvm.MethodName)) ∈ lw_all := lw_g (lw_at lw_m9 64 rfl) rfl
theorem q2098 : (Jvm.Cond.instanceMethod ({ cls := "ThreadTownModel", name := "turns", desc := "(II)I" } : Jvm.MethodName)) ∈ lw_all := lw_g (lw_at lw_m9 65 rfl) rfl
theorem q2099 : (Jvm.Cond.selects "ThreadTownModel" ({ cls := "ThreadTownModel", name := "turns", desc := "(II)I" } : Jvm.MethodName) ({ cls := "ThreadTownModel", name := "turns", desc := "(II)I" } : Jvm.MethodName)) ∈ lw_all := lw_g (lw_at lw_m9 66 rfl) rfl
theorem q2100 : (Jvm.Cond.code ({ cls := "ThreadTownModel", name := "turns", desc := "(II)I" } : Jvm.MethodName) prog_21_method_85_code (3 : Nat) (Option.some Jvm.ClassFile.FieldType.int)) ∈ lw_all := lw_g (lw_at lw_m9 67 rfl) rfl
theorem q2101 : (Jvm.Cond.methodLink "ThreadTownModel" (437 : Nat) ({ cls := "ThreadTownModel", name := "turnsOf", desc := "(II)I" } : Jvm.MethodName)) ∈ lw_all := lw_g (lw_at lw_m9 68 rfl) rfl
theorem q2102 : (Jvm.Cond.privateMethod ({ cls := "ThreadTownModel", name := "turnsOf", desc := "(II)I" } : Jvm.MethodName)) ∈ lw_tbl := lw_at lw_m9 69 rfl
theorem q2103 : (Jvm.Cond.instanceMethod ({ cls := "ThreadTownModel", name := "turnsOf", desc := "(II)I" } : Jvm.MethodName)) ∈ lw_all := lw_g (lw_at lw_m9 70 rfl) rfl
theorem q2104 : (Jvm.Cond.code ({ cls := "ThreadTownModel", name := "turnsOf", desc := "(II)I" } : Jvm.MethodName) prog_21_method_84_code (7 : Nat) (Option.some Jvm.ClassFile.FieldType.int)) ∈ lw_all := lw_g (lw_at lw_m9 71 rfl) rfl
theorem q2105 : (Jvm.Cond.methodLink "ThreadTownLaw" (161 : Nat) ({ cls := "ThreadTownModel", name := "thieves", desc := "()I" } : Jvm.MethodName)) ∈ lw_all := lw_g (lw_at lw_m9 72 rfl) rfl
theorem q2106 : (Jvm.Cond.instanceMethod ({ cls := "ThreadTownModel", name := "thieves", desc := "()I" } : Jvm.MethodName)) ∈ lw_all := lw_g (lw_at lw_m9 73 rfl) rfl
theorem q2107 : (Jvm.Cond.selects "ThreadTownModel" ({ cls := "ThreadTownModel", name := "thieves", desc := "()I" } : Jvm.MethodName) ({ cls := "ThreadTownModel", name := "thieves", desc := "()I" } : Jvm.MethodName)) ∈ lw_all := lw_g (lw_at lw_m9 74 rfl) rfl
theorem q2108 : (Jvm.Cond.code ({ cls := "ThreadTownModel", name := "thieves", desc := "()I" } : Jvm.MethodName) prog_21_method_86_code (4 : Nat) (Option.some Jvm.ClassFile.FieldType.int)) ∈ lw_all := lw_g (lw_at lw_m9 75 rfl) rfl
theorem q2109 : (Jvm.Cond.methodLink "ThreadTownLaw" (108 : Nat) ({ cls := "ThreadTownModel", name := "meet", desc := "(II)I" } : Jvm.MethodName)) ∈ lw_all := lw_g (lw_at lw_m9 76 rfl) rfl
theorem q2110 : (Jvm.Cond.instanceMethod ({ cls := "ThreadTownModel", name := "meet", desc := "(II)I" } : Jvm.MethodName)) ∈ lw_all := lw_g (lw_at lw_m9 77 rfl) rfl
theorem q2111 : (Jvm.Cond.selects "ThreadTownModel" ({ cls := "ThreadTownModel", name := "meet", desc := "(II)I" } : Jvm.MethodName) ({ cls := "ThreadTownModel", name := "meet", desc := "(II)I" } : Jvm.MethodName)) ∈ lw_all := lw_g (lw_at lw_m9 78 rfl) rfl
theorem q2112 : (Jvm.Cond.code ({ cls := "ThreadTownModel", name := "meet", desc := "(II)I" } : Jvm.MethodName) prog_21_method_87_code (4 : Nat) (Option.some Jvm.ClassFile.FieldType.int)) ∈ lw_all := lw_g (lw_at lw_m9 79 rfl) rfl
theorem q2113 : (Jvm.Cond.methodLink "ThreadTownLaw" (112 : Nat) ({ cls := "ThreadTownModel", name := "most", desc := "(I)I" } : Jvm.MethodName)) ∈ lw_all := lw_g (lw_at lw_m9 80 rfl) rfl
theorem q2114 : (Jvm.Cond.instanceMethod ({ cls := "ThreadTownModel", name := "most", desc := "(I)I" } : Jvm.MethodName)) ∈ lw_all := lw_g (lw_at lw_m9 81 rfl) rfl
theorem q2115 : (Jvm.Cond.selects "ThreadTownModel" ({ cls := "ThreadTownModel", name := "most", desc := "(I)I" } : Jvm.MethodName) ({ cls := "ThreadTownModel", name := "most", desc := "(I)I" } : Jvm.MethodName)) ∈ lw_all := lw_g (lw_at lw_m9 82 rfl) rfl
theorem q2116 : (Jvm.Cond.code ({ cls := "ThreadTownModel", name := "most", desc := "(I)I" } : Jvm.MethodName) prog_21_method_89_code (4 : Nat) (Option.some Jvm.ClassFile.FieldType.int)) ∈ lw_all := lw_g (lw_at lw_m9 83 rfl) rfl
theorem q2117 : (Jvm.Cond.methodLink "ThreadTownModel" (440 : Nat) ({ cls := "ThreadTownModel", name := "overAll", desc := "(I)I" } : Jvm.MethodName)) ∈ lw_all := lw_g (lw_at lw_m9 84 rfl) rfl
theorem q2118 : (Jvm.Cond.privateMethod ({ cls := "ThreadTownModel", name := "overAll", desc := "(I)I" } : Jvm.MethodName)) ∈ lw_tbl := lw_at lw_m9 85 rfl
theorem q2119 : (Jvm.Cond.instanceMethod ({ cls := "ThreadTownModel", name := "overAll", desc := "(I)I" } : Jvm.MethodName)) ∈ lw_all := lw_g (lw_at lw_m9 86 rfl) rfl
theorem q2120 : (Jvm.Cond.code ({ cls := "ThreadTownModel", name := "overAll", desc := "(I)I" } : Jvm.MethodName) prog_21_method_88_code (4 : Nat) (Option.some Jvm.ClassFile.FieldType.int)) ∈ lw_all := lw_g (lw_at lw_m9 87 rfl) rfl
theorem q2121 : (Jvm.Cond.methodLink "ThreadTownLaw" (169 : Nat) ({ cls := "ThreadTownModel", name := "unfair", desc := "()I" } : Jvm.MethodName)) ∈ lw_all := lw_g (lw_at lw_m9 88 rfl) rfl
theorem q2122 : (Jvm.Cond.instanceMethod ({ cls := "ThreadTownModel", name := "unfair", desc := "()I" } : Jvm.MethodName)) ∈ lw_all := lw_g (lw_at lw_m9 89 rfl) rfl
theorem q2123 : (Jvm.Cond.selects "ThreadTownModel" ({ cls := "ThreadTownModel", name := "unfair", desc := "()I" } : Jvm.MethodName) ({ cls := "ThreadTownModel", name := "unfair", desc := "()I" } : Jvm.MethodName)) ∈ lw_all := lw_g (lw_at lw_m9 90 rfl) rfl
theorem q2124 : (Jvm.Cond.code ({ cls := "ThreadTownModel", name := "unfair", desc := "()I" } : Jvm.MethodName) prog_21_method_90_code (4 : Nat) (Option.some Jvm.ClassFile.FieldType.int)) ∈ lw_all := lw_g (lw_at lw_m9 91 rfl) rfl
theorem q2125 : (Jvm.Cond.methodLink "ThreadTownLaw" (165 : Nat) ({ cls := "ThreadTownModel", name := "nearest", desc := "(II)I" } : Jvm.MethodName)) ∈ lw_all := lw_g (lw_at lw_m9 92 rfl) rfl
theorem q2126 : (Jvm.Cond.instanceMethod ({ cls := "ThreadTownModel", name := "nearest", desc := "(II)I" } : Jvm.MethodName)) ∈ lw_all := lw_g (lw_at lw_m9 93 rfl) rfl
theorem q2127 : (Jvm.Cond.selects "ThreadTownModel" ({ cls := "ThreadTownModel", name := "nearest", desc := "(II)I" } : Jvm.MethodName) ({ cls := "ThreadTownModel", name := "nearest", desc := "(II)I" } : Jvm.MethodName)) ∈ lw_all := lw_g (lw_at lw_m9 94 rfl) rfl
theorem q2128 : (Jvm.Cond.code ({ cls := "ThreadTownModel", name := "nearest", desc := "(II)I" } : Jvm.MethodName) prog_21_method_91_code (7 : Nat) (Option.some Jvm.ClassFile.FieldType.int)) ∈ lw_all := lw_g (lw_at lw_m9 95 rfl) rfl
theorem q2129 : (Jvm.Cond.methodLink "ThreadTownLaw" (117 : Nat) ({ cls := "ThreadTownModel", name := "street", desc := "(IIII)I" } : Jvm.MethodName)) ∈ lw_all := lw_g (lw_at lw_m9 96 rfl) rfl
theorem q2130 : (Jvm.Cond.instanceMethod ({ cls := "ThreadTownModel", name := "street", desc := "(IIII)I" } : Jvm.MethodName)) ∈ lw_all := lw_g (lw_at lw_m9 97 rfl) rfl
theorem q2131 : (Jvm.Cond.selects "ThreadTownModel" ({ cls := "ThreadTownModel", name := "street", desc := "(IIII)I" } : Jvm.MethodName) ({ cls := "ThreadTownModel", name := "street", desc := "(IIII)I" } : Jvm.MethodName)) ∈ lw_all := lw_g (lw_at lw_m9 98 rfl) rfl
theorem q2132 : (Jvm.Cond.code ({ cls := "ThreadTownModel", name := "street", desc := "(IIII)I" } : Jvm.MethodName) prog_21_method_96_code (6 : Nat) (Option.some Jvm.ClassFile.FieldType.int)) ∈ lw_all := lw_g (lw_at lw_m9 99 rfl) rfl
theorem q2133 : (Jvm.Cond.methodLink "ThreadTownModel" (449 : Nat) ({ cls := "ThreadTownModel", name := "isStreet", desc := "(III)Z" } : Jvm.MethodName)) ∈ lw_all := lw_g (lw_at lw_m9 100 rfl) rfl
theorem q2134 : (Jvm.Cond.privateMethod ({ cls := "ThreadTownModel", name := "isStreet", desc := "(III)Z" } : Jvm.MethodName)) ∈ lw_tbl := lw_at lw_m9 101 rfl
theorem q2135 : (Jvm.Cond.instanceMethod ({ cls := "ThreadTownModel", name := "isStreet", desc := "(III)Z" } : Jvm.MethodName)) ∈ lw_all := lw_g (lw_at lw_m9 102 rfl) rfl
theorem q2136 : (Jvm.Cond.code ({ cls := "ThreadTownModel", name := "isStreet", desc := "(III)Z" } : Jvm.MethodName) prog_21_method_92_code (4 : Nat) (Option.some Jvm.ClassFile.FieldType.boolean)) ∈ lw_all := lw_g (lw_at lw_m9 103 rfl) rfl
theorem q2137 : (Jvm.Cond.methodLink "ThreadTownModel" (443 : Nat) ({ cls := "ThreadTownModel", name := "manyOn", desc := "(I)I" } : Jvm.MethodName)) ∈ lw_all := lw_g (lw_at lw_m9 104 rfl) rfl
theorem q2138 : (Jvm.Cond.privateMethod ({ cls := "ThreadTownModel", name := "manyOn", desc := "(I)I" } : Jvm.MethodName)) ∈ lw_tbl := lw_at lw_m9 105 rfl
theorem q2139 : (Jvm.Cond.instanceMethod ({ cls := "ThreadTownModel", name := "manyOn", desc := "(I)I" } : Jvm.MethodName)) ∈ lw_all := lw_g (lw_at lw_m9 106 rfl) rfl
theorem q2140 : (Jvm.Cond.code ({ cls := "ThreadTownModel", name := "manyOn", desc := "(I)I" } : Jvm.MethodName) prog_21_method_94_code (2 : Nat) (Option.some Jvm.ClassFile.FieldType.int)) ∈ lw_all := lw_g (lw_at lw_m9 107 rfl) rfl
theorem q2141 : (Jvm.Cond.methodLink "ThreadTownModel" (446 : Nat) ({ cls := "ThreadTownModel", name := "whoseAt", desc := "(II)I" } : Jvm.MethodName)) ∈ lw_all := lw_g (lw_at lw_m9 108 rfl) rfl
theorem q2142 : (Jvm.Cond.privateMethod ({ cls := "ThreadTownModel", name := "whoseAt", desc := "(II)I" } : Jvm.MethodName)) ∈ lw_tbl := lw_at lw_m9 109 rfl
theorem q2143 : (Jvm.Cond.instanceMethod ({ cls := "ThreadTownModel", name := "whoseAt", desc := "(II)I" } : Jvm.MethodName)) ∈ lw_all := lw_g (lw_at lw_m9 110 rfl) rfl
theorem q2144 : (Jvm.Cond.code ({ cls := "ThreadTownModel", name := "whoseAt", desc := "(II)I" } : Jvm.MethodName) prog_21_method_93_code (6 : Nat) (Option.some Jvm.ClassFile.FieldType.int)) ∈ lw_all := lw_g (lw_at lw_m9 111 rfl) rfl
theorem q2145 : (Jvm.Cond.methodLink "ThreadTownLaw" (129 : Nat) ({ cls := "ThreadTownModel", name := "shows", desc := "(III)I" } : Jvm.MethodName)) ∈ lw_all := lw_g (lw_at lw_m9 112 rfl) rfl
theorem q2146 : (Jvm.Cond.instanceMethod ({ cls := "ThreadTownModel", name := "shows", desc := "(III)I" } : Jvm.MethodName)) ∈ lw_all := lw_g (lw_at lw_m9 113 rfl) rfl
theorem q2147 : (Jvm.Cond.selects "ThreadTownModel" ({ cls := "ThreadTownModel", name := "shows", desc := "(III)I" } : Jvm.MethodName) ({ cls := "ThreadTownModel", name := "shows", desc := "(III)I" } : Jvm.MethodName)) ∈ lw_all := lw_g (lw_at lw_m9 114 rfl) rfl
theorem q2148 : (Jvm.Cond.code ({ cls := "ThreadTownModel", name := "shows", desc := "(III)I" } : Jvm.MethodName) prog_21_method_97_code (5 : Nat) (Option.some Jvm.ClassFile.FieldType.int)) ∈ lw_all := lw_g (lw_at lw_m9 115 rfl) rfl
theorem q2149 : (Jvm.Cond.methodLink "ThreadTownModel" (452 : Nat) ({ cls := "ThreadTownModel", name := "topOf", desc := "(I)I" } : Jvm.MethodName)) ∈ lw_all := lw_g (lw_at lw_m9 116 rfl) rfl
theorem q2150 : (Jvm.Cond.privateMethod ({ cls := "ThreadTownModel", name := "topOf", desc := "(I)I" } : Jvm.MethodName)) ∈ lw_tbl := lw_at lw_m9 117 rfl
theorem q2151 : (Jvm.Cond.instanceMethod ({ cls := "ThreadTownModel", name := "topOf", desc := "(I)I" } : Jvm.MethodName)) ∈ lw_all := lw_g (lw_at lw_m9 118 rfl) rfl
theorem q2152 : (Jvm.Cond.code ({ cls := "ThreadTownModel", name := "topOf", desc := "(I)I" } : Jvm.MethodName) prog_21_method_95_code (2 : Nat) (Option.some Jvm.ClassFile.FieldType.int)) ∈ lw_all := lw_g (lw_at lw_m9 119 rfl) rfl
theorem q2153 : (Jvm.Cond.methodLink "ThreadTownLaw" (133 : Nat) ({ cls := "ThreadTownModel", name := "shown", desc := "(I)I" } : Jvm.MethodName)) ∈ lw_all := lw_g (lw_at lw_m9 120 rfl) rfl
theorem q2154 : (Jvm.Cond.instanceMethod ({ cls := "ThreadTownModel", name := "shown", desc := "(I)I" } : Jvm.MethodName)) ∈ lw_all := lw_g (lw_at lw_m9 121 rfl) rfl
theorem q2155 : (Jvm.Cond.selects "ThreadTownModel" ({ cls := "ThreadTownModel", name := "shown", desc := "(I)I" } : Jvm.MethodName) ({ cls := "ThreadTownModel", name := "shown", desc := "(I)I" } : Jvm.MethodName)) ∈ lw_all := lw_g (lw_at lw_m9 122 rfl) rfl
theorem q2156 : (Jvm.Cond.code ({ cls := "ThreadTownModel", name := "shown", desc := "(I)I" } : Jvm.MethodName) prog_21_method_98_code (5 : Nat) (Option.some Jvm.ClassFile.FieldType.int)) ∈ lw_all := lw_g (lw_at lw_m9 123 rfl) rfl
theorem q2157 : (Jvm.Cond.methodLink "ThreadTownLaw" (137 : Nat) ({ cls := "ThreadTownModel", name := "uppermost", desc := "(I)I" } : Jvm.MethodName)) ∈ lw_all := lw_g (lw_at lw_m9 124 rfl) rfl
theorem q2158 : (Jvm.Cond.instanceMethod ({ cls := "ThreadTownModel", name := "uppermost", desc := "(I)I" } : Jvm.MethodName)) ∈ lw_all := lw_g (lw_at lw_m9 125 rfl) rfl
theorem q2159 : (Jvm.Cond.selects "ThreadTownModel" ({ cls := "ThreadTownModel", name := "uppermost", desc := "(I)I" } : Jvm.MethodName) ({ cls := "ThreadTownModel", name := "uppermost", desc := "(I)I" } : Jvm.MethodName)) ∈ lw_all := lw_g (lw_at lw_m9 126 rfl) rfl
theorem q2160 : (Jvm.Cond.code ({ cls := "ThreadTownModel", name := "uppermost", desc := "(I)I" } : Jvm.MethodName) prog_21_method_99_code (4 : Nat) (Option.some Jvm.ClassFile.FieldType.int)) ∈ lw_all := lw_g (lw_at lw_m9 127 rfl) rfl
theorem q2161 : (Jvm.Cond.methodLink "ThreadTownLaw" (121 : Nat) ({ cls := "ThreadTownModel", name := "dusk", desc := "(II)I" } : Jvm.MethodName)) ∈ lw_all := lw_g (lw_at lw_m9 128 rfl) rfl
theorem q2162 : (Jvm.Cond.instanceMethod ({ cls := "ThreadTownModel", name := "dusk", desc := "(II)I" } : Jvm.MethodName)) ∈ lw_all := lw_g (lw_at lw_m9 129 rfl) rfl
theorem q2163 : (Jvm.Cond.selects "ThreadTownModel" ({ cls := "ThreadTownModel", name := "dusk", desc := "(II)I" } : Jvm.MethodName) ({ cls := "ThreadTownModel", name := "dusk", desc := "(II)I" } : Jvm.MethodName)) ∈ lw_all := lw_g (lw_at lw_m9 130 rfl) rfl
theorem q2164 : (Jvm.Cond.code ({ cls := "ThreadTownModel", name := "dusk", desc := "(II)I" } : Jvm.MethodName) prog_21_method_101_code (6 : Nat) (Option.some Jvm.ClassFile.FieldType.int)) ∈ lw_all := lw_g (lw_at lw_m9 131 rfl) rfl
theorem q2165 : (Jvm.Cond.methodLink "ThreadTownModel" (461 : Nat) ({ cls := "ThreadTownModel", name := "duskBy", desc := "(I)V" } : Jvm.MethodName)) ∈ lw_all := lw_g (lw_at lw_m9 132 rfl) rfl
theorem q2166 : (Jvm.Cond.privateMethod ({ cls := "ThreadTownModel", name := "duskBy", desc := "(I)V" } : Jvm.MethodName)) ∈ lw_tbl := lw_at lw_m9 133 rfl
theorem q2167 : (Jvm.Cond.instanceMethod ({ cls := "ThreadTownModel", name := "duskBy", desc := "(I)V" } : Jvm.MethodName)) ∈ lw_all := lw_g (lw_at lw_m9 134 rfl) rfl
theorem q2168 : (Jvm.Cond.code ({ cls := "ThreadTownModel", name := "duskBy", desc := "(I)V" } : Jvm.MethodName) prog_21_method_100_code (7 : Nat) (Option.none : Option Jvm.ClassFile.FieldType)) ∈ lw_all := lw_g (lw_at lw_m9 135 rfl) rfl
theorem q2169 : (Jvm.Cond.methodLink "ThreadTownLaw" (125 : Nat) ({ cls := "ThreadTownModel", name := "bestDusk", desc := "()I" } : Jvm.MethodName)) ∈ lw_all := lw_g (lw_at lw_m9 136 rfl) rfl
theorem q2170 : (Jvm.Cond.instanceMethod ({ cls := "ThreadTownModel", name := "bestDusk", desc := "()I" } : Jvm.MethodName)) ∈ lw_all := lw_g (lw_at lw_m9 137 rfl) rfl
theorem q2171 : (Jvm.Cond.selects "ThreadTownModel" ({ cls := "ThreadTownModel", name := "bestDusk", desc := "()I" } : Jvm.MethodName) ({ cls := "ThreadTownModel", name := "bestDusk", desc := "()I" } : Jvm.MethodName)) ∈ lw_all := lw_g (lw_at lw_m9 138 rfl) rfl
theorem q2172 : (Jvm.Cond.code ({ cls := "ThreadTownModel", name := "bestDusk", desc := "()I" } : Jvm.MethodName) prog_21_method_102_code (5 : Nat) (Option.some Jvm.ClassFile.FieldType.int)) ∈ lw_all := lw_g (lw_at lw_m9 139 rfl) rfl
theorem q2173 : (Jvm.Cond.methodLink "ThreadTownLaw" (141 : Nat) ({ cls := "ThreadTownModel", name := "knows", desc := "(I)I" } : Jvm.MethodName)) ∈ lw_all := lw_g (lw_at lw_m9 140 rfl) rfl
theorem q2174 : (Jvm.Cond.instanceMethod ({ cls := "ThreadTownModel", name := "knows", desc := "(I)I" } : Jvm.MethodName)) ∈ lw_all := lw_g (lw_at lw_m9 141 rfl) rfl
theorem q2175 : (Jvm.Cond.selects "ThreadTownModel" ({ cls := "ThreadTownModel", name := "knows", desc := "(I)I" } : Jvm.MethodName) ({ cls := "ThreadTownModel", name := "knows", desc := "(I)I" } : Jvm.MethodName)) ∈ lw_all := lw_g (lw_at lw_m9 142 rfl) rfl
theorem q2176 : (Jvm.Cond.code ({ cls := "ThreadTownModel", name := "knows", desc := "(I)I" } : Jvm.MethodName) prog_21_method_104_code (2 : Nat) (Option.some Jvm.ClassFile.FieldType.int)) ∈ lw_all := lw_g (lw_at lw_m9 143 rfl) rfl
theorem q2177 : (Jvm.Cond.methodLink "ThreadTownModel" (464 : Nat) ({ cls := "ThreadTownModel", name := "knowsNow", desc := "(I)I" } : Jvm.MethodName)) ∈ lw_all := lw_g (lw_at lw_m9 144 rfl) rfl
theorem q2178 : (Jvm.Cond.privateMethod ({ cls := "ThreadTownModel", name := "knowsNow", desc := "(I)I" } : Jvm.MethodName)) ∈ lw_tbl := lw_at lw_m9 145 rfl
theorem q2179 : (Jvm.Cond.instanceMethod ({ cls := "ThreadTownModel", name := "knowsNow", desc := "(I)I" } : Jvm.MethodName)) ∈ lw_all := lw_g (lw_at lw_m9 146 rfl) rfl
theorem q2180 : (Jvm.Cond.code ({ cls := "ThreadTownModel", name := "knowsNow", desc := "(I)I" } : Jvm.MethodName) prog_21_method_103_code (4 : Nat) (Option.some Jvm.ClassFile.FieldType.int)) ∈ lw_all := lw_g (lw_at lw_m9 147 rfl) rfl
theorem q2181 : (Jvm.Cond.methodLink "ThreadTownLaw" (145 : Nat) ({ cls := "ThreadTownModel", name := "links", desc := "(II)I" } : Jvm.MethodName)) ∈ lw_all := lw_g (lw_at lw_m9 148 rfl) rfl
theorem q2182 : (Jvm.Cond.instanceMethod ({ cls := "ThreadTownModel", name := "links", desc := "(II)I" } : Jvm.MethodName)) ∈ lw_all := lw_g (lw_at lw_m9 149 rfl) rfl
theorem q2183 : (Jvm.Cond.selects "ThreadTownModel" ({ cls := "ThreadTownModel", name := "links", desc := "(II)I" } : Jvm.MethodName) ({ cls := "ThreadTownModel", name := "links", desc := "(II)I" } : Jvm.MethodName)) ∈ lw_all := lw_g (lw_at lw_m9 150 rfl) rfl
theorem q2184 : (Jvm.Cond.code ({ cls := "ThreadTownModel", name := "links", desc := "(II)I" } : Jvm.MethodName) prog_21_method_106_code (5 : Nat) (Option.some Jvm.ClassFile.FieldType.int)) ∈ lw_all := lw_g (lw_at lw_m9 151 rfl) rfl
theorem q2185 : (Jvm.Cond.methodLink "ThreadTownModel" (467 : Nat) ({ cls := "ThreadTownModel", name := "linkedTo", desc := "(I)I" } : Jvm.MethodName)) ∈ lw_all := lw_g (lw_at lw_m9 152 rfl) rfl
theorem q2186 : (Jvm.Cond.privateMethod ({ cls := "ThreadTownModel", name := "linkedTo", desc := "(I)I" } : Jvm.MethodName)) ∈ lw_tbl := lw_at lw_m9 153 rfl
theorem q2187 : (Jvm.Cond.instanceMethod ({ cls := "ThreadTownModel", name := "linkedTo", desc := "(I)I" } : Jvm.MethodName)) ∈ lw_all := lw_g (lw_at lw_m9 154 rfl) rfl
theorem q2188 : (Jvm.Cond.code ({ cls := "ThreadTownModel", name := "linkedTo", desc := "(I)I" } : Jvm.MethodName) prog_21_method_105_code (4 : Nat) (Option.some Jvm.ClassFile.FieldType.int)) ∈ lw_all := lw_g (lw_at lw_m9 155 rfl) rfl
theorem q2189 : (Jvm.Cond.methodLink "ThreadTownLaw" (149 : Nat) ({ cls := "ThreadTownModel", name := "rounds", desc := "()I" } : Jvm.MethodName)) ∈ lw_all := lw_g (lw_at lw_m9 156 rfl) rfl
theorem q2190 : (Jvm.Cond.instanceMethod ({ cls := "ThreadTownModel", name := "rounds", desc := "()I" } : Jvm.MethodName)) ∈ lw_all := lw_g (lw_at lw_m9 157 rfl) rfl
theorem q2191 : (Jvm.Cond.selects "ThreadTownModel" ({ cls := "ThreadTownModel", name := "rounds", desc := "()I" } : Jvm.MethodName) ({ cls := "ThreadTownModel", name := "rounds", desc := "()I" } : Jvm.MethodName)) ∈ lw_all := lw_g (lw_at lw_m9 158 rfl) rfl
theorem q2192 : (Jvm.Cond.code ({ cls := "ThreadTownModel", name := "rounds", desc := "()I" } : Jvm.MethodName) prog_21_method_107_code (5 : Nat) (Option.some Jvm.ClassFile.FieldType.int)) ∈ lw_all := lw_g (lw_at lw_m9 159 rfl) rfl
theorem q2193 : (Jvm.Cond.methodLink "ThreadTownLaw" (153 : Nat) ({ cls := "ThreadTownModel", name := "crowd", desc := "(I)I" } : Jvm.MethodName)) ∈ lw_all := lw_g (lw_at lw_m9 160 rfl) rfl
theorem q2194 : (Jvm.Cond.instanceMethod ({ cls := "ThreadTownModel", name := "crowd", desc := "(I)I" } : Jvm.MethodName)) ∈ lw_all := lw_g (lw_at lw_m9 161 rfl) rfl
theorem q2195 : (Jvm.Cond.selects "ThreadTownModel" ({ cls := "ThreadTownModel", name := "crowd", desc := "(I)I" } : Jvm.MethodName) ({ cls := "ThreadTownModel", name := "crowd", desc := "(I)I" } : Jvm.MethodName)) ∈ lw_all := lw_g (lw_at lw_m9 162 rfl) rfl
theorem q2196 : (Jvm.Cond.code ({ cls := "ThreadTownModel", name := "crowd", desc := "(I)I" } : Jvm.MethodName) prog_21_method_109_code (8 : Nat) (Option.some Jvm.ClassFile.FieldType.int)) ∈ lw_all := lw_g (lw_at lw_m9 163 rfl) rfl
theorem q2197 : (Jvm.Cond.methodLink "ThreadTownModel" (470 : Nat) ({ cls := "ThreadTownModel", name := "comesTo", desc := "(III)Z" } : Jvm.MethodName)) ∈ lw_all := lw_g (lw_at lw_m9 164 rfl) rfl
theorem q2198 : (Jvm.Cond.privateMethod ({ cls := "ThreadTownModel", name := "comesTo", desc := "(III)Z" } : Jvm.MethodName)) ∈ lw_tbl := lw_at lw_m9 165 rfl
theorem q2199 : (Jvm.Cond.instanceMethod ({ cls := "ThreadTownModel", name := "comesTo", desc := "(III)Z" } : Jvm.MethodName)) ∈ lw_all := lw_g (lw_at lw_m9 166 rfl) rfl
theorem q2200 : (Jvm.Cond.code ({ cls := "ThreadTownModel", name := "comesTo", desc := "(III)Z" } : Jvm.MethodName) prog_21_method_108_code (7 : Nat) (Option.some Jvm.ClassFile.FieldType.boolean)) ∈ lw_all := lw_g (lw_at lw_m9 167 rfl) rfl
theorem q2201 : (Jvm.Cond.methodLink "ThreadTownLaw" (157 : Nat) ({ cls := "ThreadTownModel", name := "plain", desc := "(I)I" } : Jvm.MethodName)) ∈ lw_all := lw_g (lw_at lw_m9 168 rfl) rfl
theorem q2202 : (Jvm.Cond.instanceMethod ({ cls := "ThreadTownModel", name := "plain", desc := "(I)I" } : Jvm.MethodName)) ∈ lw_all := lw_g (lw_at lw_m9 169 rfl) rfl
theorem q2203 : (Jvm.Cond.selects "ThreadTownModel" ({ cls := "ThreadTownModel", name := "plain", desc := "(I)I" } : Jvm.MethodName) ({ cls := "ThreadTownModel", name := "plain", desc := "(I)I" } : Jvm.MethodName)) ∈ lw_all := lw_g (lw_at lw_m9 170 rfl) rfl
theorem q2204 : (Jvm.Cond.code ({ cls := "ThreadTownModel", name := "plain", desc := "(I)I" } : Jvm.MethodName) prog_21_method_111_code (8 : Nat) (Option.some Jvm.ClassFile.FieldType.int)) ∈ lw_all := lw_g (lw_at lw_m9 171 rfl) rfl
theorem q2205 : (Jvm.Cond.methodLink "ThreadTownModel" (473 : Nat) ({ cls := "ThreadTownModel", name := "walks", desc := "(II)V" } : Jvm.MethodName)) ∈ lw_all := lw_g (lw_at lw_m9 172 rfl) rfl
theorem q2206 : (Jvm.Cond.privateMethod ({ cls := "ThreadTownModel", name := "walks", desc := "(II)V" } : Jvm.MethodName)) ∈ lw_tbl := lw_at lw_m9 173 rfl
theorem q2207 : (Jvm.Cond.instanceMethod ({ cls := "ThreadTownModel", name := "walks", desc := "(II)V" } : Jvm.MethodName)) ∈ lw_all := lw_g (lw_at lw_m9 174 rfl) rfl
theorem q2208 : (Jvm.Cond.code ({ cls := "ThreadTownModel", name := "walks", desc := "(II)V" } : Jvm.MethodName) prog_21_method_110_code (11 : Nat) (Option.none : Option Jvm.ClassFile.FieldType)) ∈ lw_all := lw_g (lw_at lw_m9 175 rfl) rfl
theorem q2209 : (Jvm.Cond.methodLink "ThreadTownLaw" (174 : Nat) ({ cls := "ThreadTownModel", name := "tell", desc := "(IIZ)I" } : Jvm.MethodName)) ∈ lw_all := lw_g (lw_at lw_m9 176 rfl) rfl
theorem q2210 : (Jvm.Cond.instanceMethod ({ cls := "ThreadTownModel", name := "tell", desc := "(IIZ)I" } : Jvm.MethodName)) ∈ lw_all := lw_g (lw_at lw_m9 177 rfl) rfl
theorem q2211 : (Jvm.Cond.selects "ThreadTownModel" ({ cls := "ThreadTownModel", name := "tell", desc := "(IIZ)I" } : Jvm.MethodName) ({ cls := "ThreadTownModel", name := "tell", desc := "(IIZ)I" } : Jvm.MethodName)) ∈ lw_all := lw_g (lw_at lw_m9 178 rfl) rfl
theorem q2212 : (Jvm.Cond.code ({ cls := "ThreadTownModel", name := "tell", desc := "(IIZ)I" } : Jvm.MethodName) prog_21_method_112_code (4 : Nat) (Option.some Jvm.ClassFile.FieldType.int)) ∈ lw_all := lw_g (lw_at lw_m9 179 rfl) rfl
theorem q2213 : (Jvm.Cond.methodLink "ThreadTownLaw" (178 : Nat) ({ cls := "ThreadTownModel", name := "forget", desc := "()I" } : Jvm.MethodName)) ∈ lw_all := lw_g (lw_at lw_m9 180 rfl) rfl
theorem q2214 : (Jvm.Cond.instanceMethod ({ cls := "ThreadTownModel", name := "forget", desc := "()I" } : Jvm.MethodName)) ∈ lw_all := lw_g (lw_at lw_m9 181 rfl) rfl
theorem q2215 : (Jvm.Cond.selects "ThreadTownModel" ({ cls := "ThreadTownModel", name := "forget", desc := "()I" } : Jvm.MethodName) ({ cls := "ThreadTownModel", name := "forget", desc := "()I" } : Jvm.MethodName)) ∈ lw_all := lw_g (lw_at lw_m9 182 rfl) rfl
theorem q2216 : (Jvm.Cond.code ({ cls := "ThreadTownModel", name := "forget", desc := "()I" } : Jvm.MethodName) prog_21_method_113_code (2 : Nat) (Option.some Jvm.ClassFile.FieldType.int)) ∈ lw_all := lw_g (lw_at lw_m9 183 rfl) rfl
theorem q2217 : (Jvm.Cond.methodLink "ThreadTownLaw" (182 : Nat) ({ cls := "ThreadTownModel", name := "starts", desc := "(III)I" } : Jvm.MethodName)) ∈ lw_all := lw_g (lw_at lw_m9 184 rfl) rfl
theorem q2218 : (Jvm.Cond.instanceMethod ({ cls := "ThreadTownModel", name := "starts", desc := "(III)I" } : Jvm.MethodName)) ∈ lw_all := lw_g (lw_at lw_m9 185 rfl) rfl
theorem q2219 : (Jvm.Cond.selects "ThreadTownModel" ({ cls := "ThreadTownModel", name := "starts", desc := "(III)I" } : Jvm.MethodName) ({ cls := "ThreadTownModel", name := "starts", desc := "(III)I" } : Jvm.MethodName)) ∈ lw_all := lw_g (lw_at lw_m9 186 rfl) rfl
theorem q2220 : (Jvm.Cond.code ({ cls := "ThreadTownModel", name := "starts", desc := "(III)I" } : Jvm.MethodName) prog_21_method_115_code (7 : Nat) (Option.some Jvm.ClassFile.FieldType.int)) ∈ lw_all := lw_g (lw_at lw_m9 187 rfl) rfl
theorem q2221 : (Jvm.Cond.methodLink "ThreadTownModel" (476 : Nat) ({ cls := "ThreadTownModel", name := "isSo", desc := "(IIII)Z" } : Jvm.MethodName)) ∈ lw_all := lw_g (lw_at lw_m9 188 rfl) rfl
theorem q2222 : (Jvm.Cond.privateMethod ({ cls := "ThreadTownModel", name := "isSo", desc := "(IIII)Z" } : Jvm.MethodName)) ∈ lw_tbl := lw_at lw_m9 189 rfl
theorem q2223 : (Jvm.Cond.instanceMethod ({ cls := "ThreadTownModel", name := "isSo", desc := "(IIII)Z" } : Jvm.MethodName)) ∈ lw_all := lw_g (lw_at lw_m9 190 rfl) rfl
theorem q2224 : (Jvm.Cond.code ({ cls := "ThreadTownModel", name := "isSo", desc := "(IIII)Z" } : Jvm.MethodName) prog_21_method_114_code (7 : Nat) (Option.some Jvm.ClassFile.FieldType.boolean)) ∈ lw_all := lw_g (lw_at lw_m9 191 rfl) rfl
theorem q2225 : (Jvm.Cond.methodLink "ThreadTownLaw" (186 : Nat) ({ cls := "ThreadTownModel", name := "hold", desc := "(I)Z" } : Jvm.MethodName)) ∈ lw_all := lw_g (lw_at lw_m9 192 rfl) rfl
theorem q2226 : (Jvm.Cond.instanceMethod ({ cls := "ThreadTownModel", name := "hold", desc := "(I)Z" } : Jvm.MethodName)) ∈ lw_all := lw_g (lw_at lw_m9 193 rfl) rfl
theorem q2227 : (Jvm.Cond.selects "ThreadTownModel" ({ cls := "ThreadTownModel", name := "hold", desc := "(I)Z" } : Jvm.MethodName) ({ cls := "ThreadTownModel", name := "hold", desc := "(I)Z" } : Jvm.MethodName)) ∈ lw_all := lw_g (lw_at lw_m9 194 rfl) rfl
theorem q2228 : (Jvm.Cond.code ({ cls := "ThreadTownModel", name := "hold", desc := "(I)Z" } : Jvm.MethodName) prog_21_method_116_code (3 : Nat) (Option.some Jvm.ClassFile.FieldType.boolean)) ∈ lw_all := lw_g (lw_at lw_m9 195 rfl) rfl
theorem q2229 : (Jvm.Cond.methodLink "ThreadTownLaw" (190 : Nat) ({ cls := "ThreadTownModel", name := "restore", desc := "(I)Z" } : Jvm.MethodName)) ∈ lw_all := lw_g (lw_at lw_m9 196 rfl) rfl
theorem q2230 : (Jvm.Cond.instanceMethod ({ cls := "ThreadTownModel", name := "restore", desc := "(I)Z" } : Jvm.MethodName)) ∈ lw_all := lw_g (lw_at lw_m9 197 rfl) rfl
theorem q2231 : (Jvm.Cond.selects "ThreadTownModel" ({ cls := "ThreadTownModel", name := "restore", desc := "(I)Z" } : Jvm.MethodName) ({ cls := "ThreadTownModel", name := "restore", desc := "(I)Z" } : Jvm.MethodName)) ∈ lw_all := lw_g (lw_at lw_m9 198 rfl) rfl
theorem q2232 : (Jvm.Cond.code ({ cls := "ThreadTownModel", name := "restore", desc := "(I)Z" } : Jvm.MethodName) prog_21_method_117_code (3 : Nat) (Option.some Jvm.ClassFile.FieldType.boolean)) ∈ lw_all := lw_g (lw_at lw_m9 199 rfl) rfl
theorem q2233 : (Jvm.Cond.methodLink "ThreadTownLaw" (194 : Nat) ({ cls := "ThreadTownModel", name := "count", desc := "(I)I" } : Jvm.MethodName)) ∈ lw_all := lw_g (lw_at lw_m9 200 rfl) rfl
theorem q2234 : (Jvm.Cond.instanceMethod ({ cls := "ThreadTownModel", name := "count", desc := "(I)I" } : Jvm.MethodName)) ∈ lw_all := lw_g (lw_at lw_m9 201 rfl) rfl
theorem q2235 : (Jvm.Cond.selects "ThreadTownModel" ({ cls := "ThreadTownModel", name := "count", desc := "(I)I" } : Jvm.MethodName) ({ cls := "ThreadTownModel", name := "count", desc := "(I)I" } : Jvm.MethodName)) ∈ lw_all := lw_g (lw_at lw_m9 202 rfl) rfl
theorem q2236 : (Jvm.Cond.code ({ cls := "ThreadTownModel", name := "count", desc := "(I)I" } : Jvm.MethodName) prog_21_method_118_code (4 : Nat) (Option.some Jvm.ClassFile.FieldType.int)) ∈ lw_all := lw_g (lw_at lw_m9 203 rfl) rfl
theorem q2237 : (Jvm.Cond.sameMethod "java/lang/Throwable" "java/lang/Throwable" "fillInStackTrace" "(I)Ljava/lang/Throwable;") ∈ lw_all := lw_g (lw_at lw_m9 204 rfl) rfl
theorem q2238 : (Jvm.Cond.sameMethod "java/lang/AbstractStringBuilder" "java/lang/AbstractStringBuilder" "append" "(C)Ljava/lang/AbstractStringBuilder;") ∈ lw_all := lw_g (lw_at lw_m9 205 rfl) rfl
theorem q2239 : (Jvm.Cond.sameMethod "java/lang/AbstractStringBuilder" "java/lang/AbstractStringBuilder" "ensureCapacityInternal" "(I)V") ∈ lw_all := lw_g (lw_at lw_m9 206 rfl) rfl
theorem q2240 : (Jvm.Cond.sameMethod "java/lang/AbstractStringBuilder" "java/lang/AbstractStringBuilder" "newCapacity" "(I)I") ∈ lw_all := lw_g (lw_at lw_m9 207 rfl) rfl
theorem q2241 : (Jvm.Cond.sameMethod "java/lang/AbstractStringBuilder" "java/lang/AbstractStringBuilder" "inflate" "()V") ∈ lw_all := lw_g (lw_at lw_m9 208 rfl) rfl
theorem q2242 : (Jvm.Cond.initialized "java/lang/Object") ∈ lw_all := lw_g (lw_at lw_m9 209 rfl) rfl
theorem q2243 : (Jvm.Cond.castable "java/lang/String" "java/lang/Object") ∈ lw_tbl := lw_at lw_m9 210 rfl
theorem q2244 : (Jvm.Cond.castable "ThreadTown$Cloth" "java/lang/Object") ∈ lw_tbl := lw_at lw_m9 211 rfl
theorem q2245 : (Jvm.Cond.castable "ThreadTown$Dusk" "java/lang/Object") ∈ lw_tbl := lw_at lw_m9 212 rfl
theorem q2246 : (Jvm.Cond.castable "ThreadTown$Sum" "java/lang/Object") ∈ lw_tbl := lw_at lw_m9 213 rfl
theorem q2247 : (Jvm.Cond.castable "ThreadTown" "java/lang/Object") ∈ lw_tbl := lw_at lw_m9 214 rfl
theorem q2248 : (Jvm.Cond.castable "ThreadTown$Fault" "java/lang/Object") ∈ lw_tbl := lw_at lw_m9 215 rfl
theorem q2249 : (Jvm.Cond.castable "ThreadTown$Tokens" "java/lang/Object") ∈ lw_tbl := lw_at lw_m9 216 rfl
theorem q2250 : (Jvm.Cond.castable "ThreadTown$Parser" "java/lang/Object") ∈ lw_tbl := lw_at lw_m9 217 rfl
theorem q2251 : (Jvm.Cond.castable "ThreadTown$Text" "java/lang/Object") ∈ lw_tbl := lw_at lw_m9 218 rfl
theorem q2252 : (Jvm.Cond.castable "java/util/ArrayList" "java/lang/Object") ∈ lw_tbl := lw_at lw_m9 219 rfl
theorem q2253 : (Jvm.Cond.castable "ThreadTown$Asked" "java/lang/Object") ∈ lw_tbl := lw_at lw_m9 220 rfl
theorem q2254 : (Jvm.Cond.castable "ThreadTown$ByNumber" "java/lang/Object") ∈ lw_tbl := lw_at lw_m9 221 rfl
theorem q2255 : (Jvm.Cond.castable "ThreadTown$ByLying" "java/lang/Object") ∈ lw_tbl := lw_at lw_m9 222 rfl
theorem q2256 : (Jvm.Cond.castable "ThreadTown$ByLeft" "java/lang/Object") ∈ lw_tbl := lw_at lw_m9 223 rfl
theorem q2257 : (Jvm.Cond.castable "ThreadTown$ByLaid" "java/lang/Object") ∈ lw_tbl := lw_at lw_m9 224 rfl
theorem q2258 : (Jvm.Cond.castable "ThreadTown$ByLot" "java/lang/Object") ∈ lw_tbl := lw_at lw_m9 225 rfl
theorem q2259 : (Jvm.Cond.castable "ThreadTownModel" "java/lang/Object") ∈ lw_tbl := lw_at lw_m9 226 rfl
theorem q2260 : (Jvm.Cond.castable "ThreadTown$Man" "java/lang/Object") ∈ lw_tbl := lw_at lw_m9 227 rfl
theorem q2261 : (Jvm.Cond.castable "java/lang/StringBuilder" "java/lang/Object") ∈ lw_tbl := lw_at lw_m9 228 rfl
theorem q2262 : (Jvm.Cond.castable "ThreadTown$Law" "java/lang/Object") ∈ lw_tbl := lw_at lw_m9 229 rfl
theorem q2263 : (Jvm.Cond.castable "ThreadTown$Number" "java/lang/Object") ∈ lw_tbl := lw_at lw_m9 230 rfl
theorem q2264 : (Jvm.Cond.castable "ThreadTown$Var" "java/lang/Object") ∈ lw_tbl := lw_at lw_m9 231 rfl
theorem q2265 : (Jvm.Cond.castable "ThreadTown$Joined" "java/lang/Object") ∈ lw_tbl := lw_at lw_m9 232 rfl
theorem q2266 : (Jvm.Cond.castable "java/lang/Throwable" "java/lang/Object") ∈ lw_tbl := lw_at lw_m9 233 rfl
theorem q2267 : (Jvm.Cond.castable "ThreadTown$ByNumber" "ThreadTown$Dusk") ∈ lw_tbl := lw_at lw_m9 234 rfl
theorem q2268 : (Jvm.Cond.castable "ThreadTown$ByLying" "ThreadTown$Dusk") ∈ lw_tbl := lw_at lw_m9 235 rfl
theorem q2269 : (Jvm.Cond.castable "ThreadTown$ByLeft" "ThreadTown$Dusk") ∈ lw_tbl := lw_at lw_m9 236 rfl
theorem q2270 : (Jvm.Cond.castable "ThreadTown$ByLaid" "ThreadTown$Dusk") ∈ lw_tbl := lw_at lw_m9 237 rfl
theorem q2271 : (Jvm.Cond.castable "ThreadTown$ByLot" "ThreadTown$Dusk") ∈ lw_tbl := lw_at lw_m9 238 rfl
theorem q2272 : (Jvm.Cond.castable "ThreadTown$Number" "ThreadTown$Sum") ∈ lw_tbl := lw_at lw_m9 239 rfl
theorem q2273 : (Jvm.Cond.castable "ThreadTown$Var" "ThreadTown$Sum") ∈ lw_tbl := lw_at lw_m10 0 rfl
theorem q2274 : (Jvm.Cond.castable "ThreadTown$Joined" "ThreadTown$Sum") ∈ lw_tbl := lw_at lw_m10 1 rfl
theorem q2275 : (Jvm.Cond.sameMethod "[Ljava/lang/Object;" "java/lang/Object" "getClass" "()Ljava/lang/Class;") ∈ lw_all := lw_g (lw_at lw_m10 2 rfl) rfl
theorem q2276 : (Jvm.Cond.selects "[Ljava/lang/Object;" ({ cls := "java/lang/Object", name := "getClass", desc := "()Ljava/lang/Class;" } : Jvm.MethodName) ({ cls := "java/lang/Object", name := "getClass", desc := "()Ljava/lang/Class;" } : Jvm.MethodName)) ∈ lw_all := lw_g (lw_at lw_m10 3 rfl) rfl
theorem q2277 : (Jvm.Cond.declares ({ cls := "java/lang/Object", name := "getClass", desc := "()Ljava/lang/Class;" } : Jvm.MethodName)) ∈ lw_tbl := lw_at lw_m10 4 rfl
theorem q2278 : (Jvm.Cond.castable "[B" "java/lang/Object") ∈ lw_tbl := lw_at lw_m10 5 rfl
theorem q2279 : (Jvm.Cond.castable "[Ljava/lang/String;" "java/lang/Object") ∈ lw_tbl := lw_at lw_m10 6 rfl
theorem q2280 : (Jvm.Cond.castable "[S" "java/lang/Object") ∈ lw_tbl := lw_at lw_m10 7 rfl
theorem q2281 : (Jvm.Cond.castable "[I" "java/lang/Object") ∈ lw_tbl := lw_at lw_m10 8 rfl
theorem q2282 : (Jvm.Cond.castable "[[I" "java/lang/Object") ∈ lw_tbl := lw_at lw_m10 9 rfl
theorem q2283 : (Jvm.Cond.castable "[LThreadTown$Cloth;" "java/lang/Object") ∈ lw_tbl := lw_at lw_m10 10 rfl
theorem q2284 : (Jvm.Cond.castable "[LThreadTown$Dusk;" "java/lang/Object") ∈ lw_tbl := lw_at lw_m10 11 rfl
theorem q2285 : (Jvm.Cond.castable "[[[I" "java/lang/Object") ∈ lw_tbl := lw_at lw_m10 12 rfl
theorem q2286 : (Jvm.Cond.castable "[Z" "java/lang/Object") ∈ lw_tbl := lw_at lw_m10 13 rfl
theorem q2287 : (Jvm.Cond.castable "[Ljava/lang/Object;" "java/lang/Object") ∈ lw_tbl := lw_at lw_m10 14 rfl
theorem q2288 : (Jvm.Cond.castable "[LThreadTown$Sum;" "java/lang/Object") ∈ lw_tbl := lw_at lw_m10 15 rfl
theorem q2289 : (Jvm.Cond.castable "[J" "java/lang/Object") ∈ lw_tbl := lw_at lw_m10 16 rfl
