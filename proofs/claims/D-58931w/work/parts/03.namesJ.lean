theorem q118 : (Jvm.Cond.initialized "PostChaiseYard$Status") ∈ lw_all := lw_g (lw_at lw_m1 42 rfl) rfl
set_option maxRecDepth 100000
theorem q452 : (Jvm.Cond.selects "PostChaiseYard$Status" ({ cls := "java/lang/Object", name := "getClass", desc := "()Ljava/lang/Class;" } : Jvm.MethodName) ({ cls := "java/lang/Object", name := "getClass", desc := "()Ljava/lang/Class;" } : Jvm.MethodName)) ∈ lw_all := lw_g (lw_at lw_m2 136 rfl) rfl
theorem q630 : (Jvm.Cond.castable "PostChaiseYard$Status" "java/lang/Comparable") ∈ lw_tbl := lw_at lw_m3 74 rfl
theorem q631 : (Jvm.Cond.selects "PostChaiseYard$Status" ({ cls := "java/lang/Comparable", name := "compareTo", desc := "(Ljava/lang/Object;)I" } : Jvm.MethodName) ({ cls := "java/lang/Enum", name := "compareTo", desc := "(Ljava/lang/Object;)I" } : Jvm.MethodName)) ∈ lw_all := lw_g (lw_at lw_m3 75 rfl) rfl
theorem q632 : (Jvm.Cond.unhidden "PostChaiseYard$Status" "compareTo" "(Ljava/lang/Object;)I") ∈ lw_tbl := lw_at lw_m3 76 rfl
theorem q640 : (Jvm.Cond.selects "PostChaiseYard$Status" ({ cls := "java/lang/Enum", name := "compareTo", desc := "(Ljava/lang/Enum;)I" } : Jvm.MethodName) ({ cls := "java/lang/Enum", name := "compareTo", desc := "(Ljava/lang/Enum;)I" } : Jvm.MethodName)) ∈ lw_all := lw_g (lw_at lw_m3 84 rfl) rfl
theorem q646 : (Jvm.Cond.selects "PostChaiseYard$Status" ({ cls := "java/lang/Enum", name := "getDeclaringClass", desc := "()Ljava/lang/Class;" } : Jvm.MethodName) ({ cls := "java/lang/Enum", name := "getDeclaringClass", desc := "()Ljava/lang/Class;" } : Jvm.MethodName)) ∈ lw_all := lw_g (lw_at lw_m3 90 rfl) rfl
theorem q1120 : (Jvm.Cond.laysStatic "PostChaiseYard$Status" "UNDER_WAY" "LPostChaiseYard$Status;") ∈ lw_tbl := lw_at lw_m5 84 rfl
theorem q1122 : (Jvm.Cond.laysStatic "PostChaiseYard$Status" "ARRIVED" "LPostChaiseYard$Status;") ∈ lw_tbl := lw_at lw_m5 86 rfl
theorem q1649 : (Jvm.Cond.laysStatic "PostChaiseYard$Status" "WAITS" "LPostChaiseYard$Status;") ∈ lw_tbl := lw_at lw_m7 133 rfl
theorem q1897 : (Jvm.Cond.laysStatic "PostChaiseYard$Status" "GAVE_UP" "LPostChaiseYard$Status;") ∈ lw_tbl := lw_at lw_m8 141 rfl
theorem q2111 : (Jvm.Cond.selects "PostChaiseYard$Status" ({ cls := "java/lang/Object", name := "equals", desc := "(Ljava/lang/Object;)Z" } : Jvm.MethodName) ({ cls := "java/lang/Enum", name := "equals", desc := "(Ljava/lang/Object;)Z" } : Jvm.MethodName)) ∈ lw_all := lw_g (lw_at lw_m9 115 rfl) rfl
theorem q2990 : (Jvm.Cond.castable "PostChaiseYard$Status" "java/lang/Enum") ∈ lw_tbl := lw_at lw_m13 34 rfl
theorem q2993 : (Jvm.Cond.castable "PostChaiseYard$Status" "java/lang/Object") ∈ lw_tbl := lw_at lw_m13 37 rfl

theorem q1228 : (Jvm.Cond.sameMethod "[B" "java/lang/Object" "clone" "()Ljava/lang/Object;") ∈ lw_all := lw_g (lw_at lw_m5 192 rfl) rfl
set_option maxRecDepth 100000
theorem q1231 : (Jvm.Cond.selects "[B" ({ cls := "[B", name := "clone", desc := "()Ljava/lang/Object;" } : Jvm.MethodName) ({ cls := "java/lang/Object", name := "clone", desc := "()Ljava/lang/Object;" } : Jvm.MethodName)) ∈ lw_all := lw_g (lw_at lw_m5 195 rfl) rfl
theorem q1232 : (Jvm.Cond.castable "[B" "java/lang/Cloneable") ∈ lw_tbl := lw_at lw_m5 196 rfl
theorem q3028 : (Jvm.Cond.castable "[B" "java/lang/Object") ∈ lw_tbl := lw_at lw_m13 72 rfl

theorem q1632 : (Jvm.Cond.sameMethod "[I" "java/lang/Object" "clone" "()Ljava/lang/Object;") ∈ lw_all := lw_g (lw_at lw_m7 116 rfl) rfl
set_option maxRecDepth 100000
theorem q1633 : (Jvm.Cond.selects "[I" ({ cls := "[I", name := "clone", desc := "()Ljava/lang/Object;" } : Jvm.MethodName) ({ cls := "java/lang/Object", name := "clone", desc := "()Ljava/lang/Object;" } : Jvm.MethodName)) ∈ lw_all := lw_g (lw_at lw_m7 117 rfl) rfl
theorem q1634 : (Jvm.Cond.castable "[I" "java/lang/Cloneable") ∈ lw_tbl := lw_at lw_m7 118 rfl
theorem q3029 : (Jvm.Cond.castable "[I" "java/lang/Object") ∈ lw_tbl := lw_at lw_m13 73 rfl

theorem q3031 : (Jvm.Cond.castable "[J" "java/lang/Object") ∈ lw_tbl := lw_at lw_m13 75 rfl
set_option maxRecDepth 100000

theorem q3027 : (Jvm.Cond.castable "[LPostChaiseYard$Status;" "java/lang/Object") ∈ lw_tbl := lw_at lw_m13 71 rfl
set_option maxRecDepth 100000

theorem q3023 : (Jvm.Cond.sameMethod "[Ljava/lang/Object;" "java/lang/Object" "getClass" "()Ljava/lang/Class;") ∈ lw_all := lw_g (lw_at lw_m13 67 rfl) rfl
set_option maxRecDepth 100000
theorem q3024 : (Jvm.Cond.selects "[Ljava/lang/Object;" ({ cls := "java/lang/Object", name := "getClass", desc := "()Ljava/lang/Class;" } : Jvm.MethodName) ({ cls := "java/lang/Object", name := "getClass", desc := "()Ljava/lang/Class;" } : Jvm.MethodName)) ∈ lw_all := lw_g (lw_at lw_m13 68 rfl) rfl
theorem q3030 : (Jvm.Cond.castable "[Ljava/lang/Object;" "java/lang/Object") ∈ lw_tbl := lw_at lw_m13 74 rfl

theorem q3026 : (Jvm.Cond.castable "[Ljava/lang/String;" "java/lang/Object") ∈ lw_tbl := lw_at lw_m13 70 rfl
set_option maxRecDepth 100000

theorem q602 : (Jvm.Cond.interfaceMethod "java/lang/Comparable" "java/lang/Comparable" "compareTo" "(Ljava/lang/Object;)I") ∈ lw_tbl := lw_at lw_m3 46 rfl
set_option maxRecDepth 100000
theorem q603 : (Jvm.Cond.declares ({ cls := "java/lang/Comparable", name := "compareTo", desc := "(Ljava/lang/Object;)I" } : Jvm.MethodName)) ∈ lw_tbl := lw_at lw_m3 47 rfl

theorem q101 : (Jvm.Cond.initialized "java/lang/Integer$IntegerCache") ∈ lw_all := lw_g (lw_at lw_m1 25 rfl) rfl
set_option maxRecDepth 100000
theorem q567 : (Jvm.Cond.laysStatic "java/lang/Integer$IntegerCache" "high" "I") ∈ lw_tbl := lw_at lw_m3 11 rfl
theorem q569 : (Jvm.Cond.laysStatic "java/lang/Integer$IntegerCache" "cache" "[Ljava/lang/Integer;") ∈ lw_tbl := lw_at lw_m3 13 rfl

theorem q94 : (Jvm.Cond.initialized "java/lang/System") ∈ lw_all := lw_g (lw_at lw_m1 18 rfl) rfl
set_option maxRecDepth 100000
theorem q484 : (Jvm.Cond.static ({ cls := "java/lang/System", name := "arraycopy", desc := "(Ljava/lang/Object;ILjava/lang/Object;II)V" } : Jvm.MethodName)) ∈ lw_all := lw_g (lw_at lw_m2 168 rfl) rfl
theorem q485 : (Jvm.Cond.native ({ cls := "java/lang/System", name := "arraycopy", desc := "(Ljava/lang/Object;ILjava/lang/Object;II)V" } : Jvm.MethodName)) ∈ lw_all := lw_g (lw_at lw_m2 169 rfl) rfl

theorem q870 : (Jvm.Cond.interfaceMethod "java/util/Comparator" "java/util/Comparator" "compare" "(Ljava/lang/Object;Ljava/lang/Object;)I") ∈ lw_tbl := lw_at lw_m4 74 rfl
set_option maxRecDepth 100000
theorem q871 : (Jvm.Cond.declares ({ cls := "java/util/Comparator", name := "compare", desc := "(Ljava/lang/Object;Ljava/lang/Object;)I" } : Jvm.MethodName)) ∈ lw_tbl := lw_at lw_m4 75 rfl

theorem q408 : (Jvm.Cond.interfaceMethod "java/util/List" "java/util/List" "add" "(Ljava/lang/Object;)Z") ∈ lw_tbl := lw_at lw_m2 92 rfl
set_option maxRecDepth 100000
theorem q409 : (Jvm.Cond.declares ({ cls := "java/util/List", name := "add", desc := "(Ljava/lang/Object;)Z" } : Jvm.MethodName)) ∈ lw_tbl := lw_at lw_m2 93 rfl
theorem q513 : (Jvm.Cond.interfaceMethod "java/util/List" "java/util/List" "get" "(I)Ljava/lang/Object;") ∈ lw_tbl := lw_at lw_m2 197 rfl
theorem q514 : (Jvm.Cond.declares ({ cls := "java/util/List", name := "get", desc := "(I)Ljava/lang/Object;" } : Jvm.MethodName)) ∈ lw_tbl := lw_at lw_m2 198 rfl
theorem q1029 : (Jvm.Cond.interfaceMethod "java/util/List" "java/util/List" "size" "()I") ∈ lw_tbl := lw_at lw_m4 233 rfl
theorem q1030 : (Jvm.Cond.declares ({ cls := "java/util/List", name := "size", desc := "()I" } : Jvm.MethodName)) ∈ lw_tbl := lw_at lw_m4 234 rfl
theorem q1096 : (Jvm.Cond.interfaceMethod "java/util/List" "java/util/List" "isEmpty" "()Z") ∈ lw_tbl := lw_at lw_m5 60 rfl
theorem q1097 : (Jvm.Cond.declares ({ cls := "java/util/List", name := "isEmpty", desc := "()Z" } : Jvm.MethodName)) ∈ lw_tbl := lw_at lw_m5 61 rfl
theorem q2036 : (Jvm.Cond.interfaceMethod "java/util/List" "java/util/List" "remove" "(I)Ljava/lang/Object;") ∈ lw_tbl := lw_at lw_m9 40 rfl
theorem q2037 : (Jvm.Cond.declares ({ cls := "java/util/List", name := "remove", desc := "(I)Ljava/lang/Object;" } : Jvm.MethodName)) ∈ lw_tbl := lw_at lw_m9 41 rfl
theorem q2088 : (Jvm.Cond.interfaceMethod "java/util/List" "java/util/List" "indexOf" "(Ljava/lang/Object;)I") ∈ lw_tbl := lw_at lw_m9 92 rfl
theorem q2089 : (Jvm.Cond.declares ({ cls := "java/util/List", name := "indexOf", desc := "(Ljava/lang/Object;)I" } : Jvm.MethodName)) ∈ lw_tbl := lw_at lw_m9 93 rfl

theorem q1080 : (Jvm.Cond.publicMethod ({ cls := "java/util/Map", name := "size", desc := "()I" } : Jvm.MethodName)) ∈ lw_tbl := lw_at lw_m5 44 rfl
set_option maxRecDepth 100000
theorem q1081 : (Jvm.Cond.declares ({ cls := "java/util/Map", name := "size", desc := "()I" } : Jvm.MethodName)) ∈ lw_tbl := lw_at lw_m5 45 rfl
theorem q1991 : (Jvm.Cond.publicMethod ({ cls := "java/util/Map", name := "put", desc := "(Ljava/lang/Object;Ljava/lang/Object;)Ljava/lang/Object;" } : Jvm.MethodName)) ∈ lw_tbl := lw_at lw_m8 235 rfl
theorem q1992 : (Jvm.Cond.declares ({ cls := "java/util/Map", name := "put", desc := "(Ljava/lang/Object;Ljava/lang/Object;)Ljava/lang/Object;" } : Jvm.MethodName)) ∈ lw_tbl := lw_at lw_m8 236 rfl
theorem q2001 : (Jvm.Cond.publicMethod ({ cls := "java/util/Map", name := "isEmpty", desc := "()Z" } : Jvm.MethodName)) ∈ lw_tbl := lw_at lw_m9 5 rfl
theorem q2002 : (Jvm.Cond.declares ({ cls := "java/util/Map", name := "isEmpty", desc := "()Z" } : Jvm.MethodName)) ∈ lw_tbl := lw_at lw_m9 6 rfl

theorem q2018 : (Jvm.Cond.publicMethod ({ cls := "java/util/SortedMap", name := "firstKey", desc := "()Ljava/lang/Object;" } : Jvm.MethodName)) ∈ lw_tbl := lw_at lw_m9 22 rfl
set_option maxRecDepth 100000
theorem q2019 : (Jvm.Cond.declares ({ cls := "java/util/SortedMap", name := "firstKey", desc := "()Ljava/lang/Object;" } : Jvm.MethodName)) ∈ lw_tbl := lw_at lw_m9 23 rfl

theorem q1558 : (Jvm.Cond.interfaceMethod "jdk/internal/access/JavaLangAccess" "jdk/internal/access/JavaLangAccess" "getUTF16Char" "([BI)C") ∈ lw_tbl := lw_at lw_m7 42 rfl
set_option maxRecDepth 100000
theorem q1559 : (Jvm.Cond.declares ({ cls := "jdk/internal/access/JavaLangAccess", name := "getUTF16Char", desc := "([BI)C" } : Jvm.MethodName)) ∈ lw_tbl := lw_at lw_m7 43 rfl

theorem q105 : (Jvm.Cond.initialized "jdk/internal/misc/UnsafeConstants") ∈ lw_all := lw_g (lw_at lw_m1 29 rfl) rfl
set_option maxRecDepth 100000
theorem q723 : (Jvm.Cond.laysStatic "jdk/internal/misc/UnsafeConstants" "BIG_ENDIAN" "Z") ∈ lw_tbl := lw_at lw_m3 167 rfl

theorem q137 : (Jvm.Cond.arrayOver (Jvm.ClassFile.FieldType.object "java/lang/String")) ∈ lw_tbl := lw_at lw_m1 61 rfl
set_option maxRecDepth 100000
theorem q151 : (Jvm.Cond.arrayOver (Jvm.ClassFile.FieldType.object "PostChaiseYard$Status")) ∈ lw_tbl := lw_at lw_m1 75 rfl
theorem q182 : (Jvm.Cond.arrayClass Jvm.ClassFile.FieldType.byte) ∈ lw_all := lw_g (lw_at lw_m1 106 rfl) rfl
theorem q183 : (Jvm.Cond.arrayClass Jvm.ClassFile.FieldType.int) ∈ lw_all := lw_g (lw_at lw_m1 107 rfl) rfl
theorem q264 : (Jvm.Cond.arrayOver (Jvm.ClassFile.FieldType.object "java/lang/Object")) ∈ lw_tbl := lw_at lw_m1 188 rfl
theorem q2970 : (Jvm.Cond.arrayClass Jvm.ClassFile.FieldType.long) ∈ lw_all := lw_g (lw_at lw_m13 14 rfl) rfl
theorem q3032 : (Jvm.Cond.arrayClass Jvm.ClassFile.FieldType.char) ∈ lw_all := lw_g (lw_at lw_m13 76 rfl) rfl
theorem q3033 : (Jvm.Cond.arrayClass Jvm.ClassFile.FieldType.short) ∈ lw_all := lw_g (lw_at lw_m13 77 rfl) rfl

/-! java/util/AbstractCollection -/
set_option maxRecDepth 100000
def RJ0 : String := "java/util/AbstractCollection"
abbrev cJ0_init : ByteArray := prog_43_method_1_code
def yJ0_init : MethodName := ⟨RJ0, "<init>", "()V"⟩
theorem dJ0_init_0 : decode cJ0_init 0 = .ok (.aload_n 0, 1) := by decide +kernel
theorem dJ0_init_1 : decode cJ0_init 1 = .ok (.invokespecial 1, 3) := by decide +kernel
theorem dJ0_init_4 : decode cJ0_init 4 = .ok (.return_, 1) := by decide +kernel
abbrev cJ0_isEmpty : ByteArray := prog_43_method_4_code
def yJ0_isEmpty : MethodName := ⟨RJ0, "isEmpty", "()Z"⟩
def dkwJ0_isEmpty_0 : List UInt8 := [42, 182, 0, 7, 154, 0, 7, 4, 167, 0, 4, 3, 172]
abbrev dktJ0_isEmpty_0 : List UInt8 := dkwJ0_isEmpty_0 ++ []
theorem dksJ0_isEmpty_0 : cJ0_isEmpty.data.toList.drop 0 = dktJ0_isEmpty_0 := by decide +kernel
theorem dJ0_isEmpty_0 : decode cJ0_isEmpty 0 = .ok (.aload_n 0, 1) := dk_42 (dk_at dksJ0_isEmpty_0 0 rfl rfl)
theorem dJ0_isEmpty_1 : decode cJ0_isEmpty 1 = .ok (.invokevirtual 7, 3) := dk_182 0 7 (dk_at dksJ0_isEmpty_0 1 rfl rfl)
theorem dJ0_isEmpty_4 : decode cJ0_isEmpty 4 = .ok (.ifCond .ne 7, 3) := dk_154 0 7 (dk_at dksJ0_isEmpty_0 4 rfl rfl)
theorem dJ0_isEmpty_7 : decode cJ0_isEmpty 7 = .ok (.iconst 1, 1) := dk_4 (dk_at dksJ0_isEmpty_0 7 rfl rfl)
theorem dJ0_isEmpty_8 : decode cJ0_isEmpty 8 = .ok (.goto 4, 3) := dk_167 0 4 (dk_at dksJ0_isEmpty_0 8 rfl rfl)
theorem dJ0_isEmpty_11 : decode cJ0_isEmpty 11 = .ok (.iconst 0, 1) := dk_3 (dk_at dksJ0_isEmpty_0 11 rfl rfl)
theorem dJ0_isEmpty_12 : decode cJ0_isEmpty 12 = .ok (.ireturn, 1) := dk_172 (dk_at dksJ0_isEmpty_0 12 rfl rfl)
theorem q79 : (Jvm.Cond.initialized "java/util/AbstractCollection") ∈ lw_all := lw_g (lw_at lw_m1 3 rfl) rfl
theorem q165 : (Jvm.Cond.instanceMethod ({ cls := "java/util/AbstractCollection", name := "<init>", desc := "()V" } : Jvm.MethodName)) ∈ lw_all := lw_g (lw_at lw_m1 89 rfl) rfl
theorem q166 : (Jvm.Cond.code ({ cls := "java/util/AbstractCollection", name := "<init>", desc := "()V" } : Jvm.MethodName) prog_43_method_1_code (1 : Nat) (Option.none : Option Jvm.ClassFile.FieldType)) ∈ lw_all := lw_g (lw_at lw_m1 90 rfl) rfl
theorem q167 : (Jvm.Cond.methodLink "java/util/AbstractCollection" (1 : Nat) ({ cls := "java/lang/Object", name := "<init>", desc := "()V" } : Jvm.MethodName)) ∈ lw_all := lw_g (lw_at lw_m1 91 rfl) rfl
theorem q1054 : (Jvm.Cond.declares ({ cls := "java/util/AbstractCollection", name := "isEmpty", desc := "()Z" } : Jvm.MethodName)) ∈ lw_tbl := lw_at lw_m5 18 rfl
theorem q1056 : (Jvm.Cond.instanceMethod ({ cls := "java/util/AbstractCollection", name := "isEmpty", desc := "()Z" } : Jvm.MethodName)) ∈ lw_all := lw_g (lw_at lw_m5 20 rfl) rfl
theorem q1057 : (Jvm.Cond.code ({ cls := "java/util/AbstractCollection", name := "isEmpty", desc := "()Z" } : Jvm.MethodName) prog_43_method_4_code (1 : Nat) (Option.some Jvm.ClassFile.FieldType.boolean)) ∈ lw_all := lw_g (lw_at lw_m5 21 rfl) rfl
theorem q1058 : (Jvm.Cond.methodLink "java/util/AbstractCollection" (7 : Nat) ({ cls := "java/util/AbstractCollection", name := "size", desc := "()I" } : Jvm.MethodName)) ∈ lw_all := lw_g (lw_at lw_m5 22 rfl) rfl
theorem q1059 : (Jvm.Cond.declares ({ cls := "java/util/AbstractCollection", name := "size", desc := "()I" } : Jvm.MethodName)) ∈ lw_tbl := lw_at lw_m5 23 rfl
theorem q1060 : (Jvm.Cond.sameMethod "java/util/AbstractCollection" "java/util/AbstractCollection" "size" "()I") ∈ lw_all := lw_g (lw_at lw_m5 24 rfl) rfl

/-! java/util/AbstractList -/
set_option maxRecDepth 100000
def RJ1 : String := "java/util/AbstractList"
abbrev cJ1_init : ByteArray := prog_44_method_1_code
def yJ1_init : MethodName := ⟨RJ1, "<init>", "()V"⟩
def dkwJ1_init_0 : List UInt8 := [42, 183, 0, 1, 42, 3, 181, 0, 7, 177]
abbrev dktJ1_init_0 : List UInt8 := dkwJ1_init_0 ++ []
theorem dksJ1_init_0 : cJ1_init.data.toList.drop 0 = dktJ1_init_0 := by decide +kernel
theorem dJ1_init_0 : decode cJ1_init 0 = .ok (.aload_n 0, 1) := dk_42 (dk_at dksJ1_init_0 0 rfl rfl)
theorem dJ1_init_1 : decode cJ1_init 1 = .ok (.invokespecial 1, 3) := dk_183 0 1 (dk_at dksJ1_init_0 1 rfl rfl)
theorem dJ1_init_4 : decode cJ1_init 4 = .ok (.aload_n 0, 1) := dk_42 (dk_at dksJ1_init_0 4 rfl rfl)
theorem dJ1_init_5 : decode cJ1_init 5 = .ok (.iconst 0, 1) := dk_3 (dk_at dksJ1_init_0 5 rfl rfl)
theorem dJ1_init_6 : decode cJ1_init 6 = .ok (.putfield 7, 3) := dk_181 0 7 (dk_at dksJ1_init_0 6 rfl rfl)
theorem dJ1_init_9 : decode cJ1_init 9 = .ok (.return_, 1) := dk_177 (dk_at dksJ1_init_0 9 rfl rfl)
theorem q80 : (Jvm.Cond.initialized "java/util/AbstractList") ∈ lw_all := lw_g (lw_at lw_m1 4 rfl) rfl
theorem q162 : (Jvm.Cond.instanceMethod ({ cls := "java/util/AbstractList", name := "<init>", desc := "()V" } : Jvm.MethodName)) ∈ lw_all := lw_g (lw_at lw_m1 86 rfl) rfl
theorem q163 : (Jvm.Cond.code ({ cls := "java/util/AbstractList", name := "<init>", desc := "()V" } : Jvm.MethodName) prog_44_method_1_code (1 : Nat) (Option.none : Option Jvm.ClassFile.FieldType)) ∈ lw_all := lw_g (lw_at lw_m1 87 rfl) rfl
theorem q164 : (Jvm.Cond.methodLink "java/util/AbstractList" (1 : Nat) ({ cls := "java/util/AbstractCollection", name := "<init>", desc := "()V" } : Jvm.MethodName)) ∈ lw_all := lw_g (lw_at lw_m1 88 rfl) rfl
theorem q172 : (Jvm.Cond.fieldLink "java/util/AbstractList" (7 : Nat) "java/util/AbstractList" "modCount" "I") ∈ lw_all := lw_g (lw_at lw_m1 96 rfl) rfl
theorem q180 : (Jvm.Cond.soleField "java/util/AbstractList" "modCount") ∈ lw_all := lw_g (lw_at lw_m1 104 rfl) rfl

/-! java/util/TreeMap -/
set_option maxRecDepth 100000
def RJ10 : String := "java/util/TreeMap"
def TJ10 : u_T := fun k => match k with
  | 0 => ("java/util/AbstractMap", "keySet", "Ljava/util/Set;", false)
  | 1 => ("java/util/AbstractMap", "values", "Ljava/util/Collection;", false)
  | 2 => ("java/util/TreeMap", "comparator", "Ljava/util/Comparator;", true)
  | 3 => ("java/util/TreeMap", "root", "Ljava/util/TreeMap$Entry;", false)
  | 4 => ("java/util/TreeMap", "size", "I", false)
  | 5 => ("java/util/TreeMap", "modCount", "I", false)
  | 6 => ("java/util/TreeMap", "entrySet", "Ljava/util/TreeMap$EntrySet;", false)
  | 7 => ("java/util/TreeMap", "navigableKeySet", "Ljava/util/TreeMap$KeySet;", false)
  | _ => ("java/util/TreeMap", "descendingMap", "Ljava/util/NavigableMap;", false)
def tyJ10 : Nat → FieldType := fun k => match k with
  | 0 => .object "java/util/Set"
  | 1 => .object "java/util/Collection"
  | 2 => .object "java/util/Comparator"
  | 3 => .object "java/util/TreeMap$Entry"
  | 4 => .int
  | 5 => .int
  | 6 => .object "java/util/TreeMap$EntrySet"
  | 7 => .object "java/util/TreeMap$KeySet"
  | _ => .object "java/util/NavigableMap"
abbrev wsJ100 : List Cond := u_ws RJ10 TJ10 9
theorem nmJ10 : ∀ a, a < 9 → ∀ b, b < 9 → a ≠ b → (TJ10 a).2.1 ≠ (TJ10 b).2.1 := by decide +kernel
theorem tyJ10_ok : ∀ k, k < 9 → parseFieldDescriptor (TJ10 k).2.2.1 = some (tyJ10 k) := by decide +kernel
abbrev cJ10_init : ByteArray := prog_70_method_1_code
def yJ10_init : MethodName := ⟨RJ10, "<init>", "()V"⟩
def dkwJ10_init_0 : List UInt8 := [42, 183, 0, 1, 42, 3, 181, 0, 7, 42, 3, 181, 0, 13, 42, 1, 181, 0, 16, 177]
abbrev dktJ10_init_0 : List UInt8 := dkwJ10_init_0 ++ []
theorem dksJ10_init_0 : cJ10_init.data.toList.drop 0 = dktJ10_init_0 := by decide +kernel
theorem dJ10_init_0 : decode cJ10_init 0 = .ok (.aload_n 0, 1) := dk_42 (dk_at dksJ10_init_0 0 rfl rfl)
theorem dJ10_init_1 : decode cJ10_init 1 = .ok (.invokespecial 1, 3) := dk_183 0 1 (dk_at dksJ10_init_0 1 rfl rfl)
theorem dJ10_init_4 : decode cJ10_init 4 = .ok (.aload_n 0, 1) := dk_42 (dk_at dksJ10_init_0 4 rfl rfl)
theorem dJ10_init_5 : decode cJ10_init 5 = .ok (.iconst 0, 1) := dk_3 (dk_at dksJ10_init_0 5 rfl rfl)
theorem dJ10_init_6 : decode cJ10_init 6 = .ok (.putfield 7, 3) := dk_181 0 7 (dk_at dksJ10_init_0 6 rfl rfl)
theorem dJ10_init_9 : decode cJ10_init 9 = .ok (.aload_n 0, 1) := dk_42 (dk_at dksJ10_init_0 9 rfl rfl)
theorem dJ10_init_10 : decode cJ10_init 10 = .ok (.iconst 0, 1) := dk_3 (dk_at dksJ10_init_0 10 rfl rfl)
theorem dJ10_init_11 : decode cJ10_init 11 = .ok (.putfield 13, 3) := dk_181 0 13 (dk_at dksJ10_init_0 11 rfl rfl)
theorem dJ10_init_14 : decode cJ10_init 14 = .ok (.aload_n 0, 1) := dk_42 (dk_at dksJ10_init_0 14 rfl rfl)
theorem dJ10_init_15 : decode cJ10_init 15 = .ok (.aconst_null, 1) := dk_1 (dk_at dksJ10_init_0 15 rfl rfl)
theorem dJ10_init_16 : decode cJ10_init 16 = .ok (.putfield 16, 3) := dk_181 0 16 (dk_at dksJ10_init_0 16 rfl rfl)
theorem dJ10_init_19 : decode cJ10_init 19 = .ok (.return_, 1) := dk_177 (dk_at dksJ10_init_0 19 rfl rfl)
abbrev cJ10_put : ByteArray := prog_70_method_21_code
def yJ10_put : MethodName := ⟨RJ10, "put", "(Ljava/lang/Object;Ljava/lang/Object;)Ljava/lang/Object;"⟩
def dkwJ10_put_0 : List UInt8 := [42, 43, 44, 4, 182, 0, 127, 176]
abbrev dktJ10_put_0 : List UInt8 := dkwJ10_put_0 ++ []
theorem dksJ10_put_0 : cJ10_put.data.toList.drop 0 = dktJ10_put_0 := by decide +kernel
theorem dJ10_put_0 : decode cJ10_put 0 = .ok (.aload_n 0, 1) := dk_42 (dk_at dksJ10_put_0 0 rfl rfl)
theorem dJ10_put_1 : decode cJ10_put 1 = .ok (.aload_n 1, 1) := dk_43 (dk_at dksJ10_put_0 1 rfl rfl)
theorem dJ10_put_2 : decode cJ10_put 2 = .ok (.aload_n 2, 1) := dk_44 (dk_at dksJ10_put_0 2 rfl rfl)
theorem dJ10_put_3 : decode cJ10_put 3 = .ok (.iconst 1, 1) := dk_4 (dk_at dksJ10_put_0 3 rfl rfl)
theorem dJ10_put_4 : decode cJ10_put 4 = .ok (.invokevirtual 127, 3) := dk_182 0 127 (dk_at dksJ10_put_0 4 rfl rfl)
theorem dJ10_put_7 : decode cJ10_put 7 = .ok (.areturn, 1) := dk_176 (dk_at dksJ10_put_0 7 rfl rfl)
abbrev cJ10_put_2 : ByteArray := prog_70_method_31_code
def yJ10_put_2 : MethodName := ⟨RJ10, "put", "(Ljava/lang/Object;Ljava/lang/Object;Z)Ljava/lang/Object;"⟩
def dkwJ10_put_2_9 : List UInt8 := [4, 167, 0, 4, 3, 182, 0, 139, 1, 176]
abbrev dktJ10_put_2_9 : List UInt8 := dkwJ10_put_2_9 ++ []
def dkwJ10_put_2_8 : List UInt8 := [25, 4, 44, 181, 0, 58, 25, 9, 176, 25, 4, 199, 255, 181, 42, 43, 44, 25, 6, 21, 5, 156, 0, 7]
abbrev dktJ10_put_2_8 : List UInt8 := dkwJ10_put_2_8 ++ dktJ10_put_2_9
def dkwJ10_put_2_7 : List UInt8 := [180, 0, 114, 58, 4, 167, 0, 28, 25, 4, 180, 0, 58, 58, 9, 29, 154, 0, 8, 25, 9, 199, 0, 9]
abbrev dktJ10_put_2_7 : List UInt8 := dkwJ10_put_2_7 ++ dktJ10_put_2_8
def dkwJ10_put_2_6 : List UInt8 := [21, 5, 156, 0, 13, 25, 4, 180, 0, 111, 58, 4, 167, 0, 43, 21, 5, 158, 0, 13, 25, 4]
abbrev dktJ10_put_2_6 : List UInt8 := dkwJ10_put_2_6 ++ dktJ10_put_2_7
def dkwJ10_put_2_5 : List UInt8 := [192, 0, 99, 58, 8, 25, 4, 58, 6, 25, 8, 25, 4, 180, 0, 105, 185, 0, 107, 2, 0, 54, 5]
abbrev dktJ10_put_2_5 : List UInt8 := dkwJ10_put_2_5 ++ dktJ10_put_2_6
def dkwJ10_put_2_4 : List UInt8 := [25, 4, 44, 181, 0, 58, 25, 8, 176, 25, 4, 199, 255, 180, 167, 0, 92, 43, 184, 0, 95, 87, 43]
abbrev dktJ10_put_2_4 : List UInt8 := dkwJ10_put_2_4 ++ dktJ10_put_2_5
def dkwJ10_put_2_3 : List UInt8 := [180, 0, 114, 58, 4, 167, 0, 28, 25, 4, 180, 0, 58, 58, 8, 29, 154, 0, 8, 25, 8, 199, 0, 9]
abbrev dktJ10_put_2_3 : List UInt8 := dkwJ10_put_2_3 ++ dktJ10_put_2_4
def dkwJ10_put_2_2 : List UInt8 := [54, 5, 21, 5, 156, 0, 13, 25, 4, 180, 0, 111, 58, 4, 167, 0, 43, 21, 5, 158, 0, 13, 25, 4]
abbrev dktJ10_put_2_2 : List UInt8 := dkwJ10_put_2_2 ++ dktJ10_put_2_3
def dkwJ10_put_2_1 : List UInt8 := [58, 7, 25, 7, 198, 0, 85, 25, 4, 58, 6, 25, 7, 43, 25, 4, 180, 0, 105, 185, 0, 117, 3, 0]
abbrev dktJ10_put_2_1 : List UInt8 := dkwJ10_put_2_1 ++ dktJ10_put_2_2
def dkwJ10_put_2_0 : List UInt8 := [42, 180, 0, 101, 58, 4, 25, 4, 199, 0, 11, 42, 43, 44, 182, 0, 135, 1, 176, 42, 180, 0, 16]
abbrev dktJ10_put_2_0 : List UInt8 := dkwJ10_put_2_0 ++ dktJ10_put_2_1
theorem dksJ10_put_2_0 : cJ10_put_2.data.toList.drop 0 = dktJ10_put_2_0 := by decide +kernel
theorem dksJ10_put_2_1 : cJ10_put_2.data.toList.drop 23 = dktJ10_put_2_1 := dk_seg dksJ10_put_2_0 23 rfl rfl
theorem dksJ10_put_2_2 : cJ10_put_2.data.toList.drop 47 = dktJ10_put_2_2 := dk_seg dksJ10_put_2_1 24 rfl rfl
theorem dksJ10_put_2_3 : cJ10_put_2.data.toList.drop 71 = dktJ10_put_2_3 := dk_seg dksJ10_put_2_2 24 rfl rfl
theorem dksJ10_put_2_4 : cJ10_put_2.data.toList.drop 95 = dktJ10_put_2_4 := dk_seg dksJ10_put_2_3 24 rfl rfl
theorem dksJ10_put_2_5 : cJ10_put_2.data.toList.drop 118 = dktJ10_put_2_5 := dk_seg dksJ10_put_2_4 23 rfl rfl
theorem dksJ10_put_2_6 : cJ10_put_2.data.toList.drop 141 = dktJ10_put_2_6 := dk_seg dksJ10_put_2_5 23 rfl rfl
theorem dksJ10_put_2_7 : cJ10_put_2.data.toList.drop 163 = dktJ10_put_2_7 := dk_seg dksJ10_put_2_6 22 rfl rfl
theorem dksJ10_put_2_8 : cJ10_put_2.data.toList.drop 187 = dktJ10_put_2_8 := dk_seg dksJ10_put_2_7 24 rfl rfl
theorem dksJ10_put_2_9 : cJ10_put_2.data.toList.drop 211 = dktJ10_put_2_9 := dk_seg dksJ10_put_2_8 24 rfl rfl
theorem dJ10_put_2_0 : decode cJ10_put_2 0 = .ok (.aload_n 0, 1) := dk_42 (dk_at dksJ10_put_2_0 0 rfl rfl)
theorem dJ10_put_2_1 : decode cJ10_put_2 1 = .ok (.getfield 101, 3) := dk_180 0 101 (dk_at dksJ10_put_2_0 1 rfl rfl)
theorem dJ10_put_2_4 : decode cJ10_put_2 4 = .ok (.astore 4, 2) := dk_58 4 (dk_at dksJ10_put_2_0 4 rfl rfl)
theorem dJ10_put_2_6 : decode cJ10_put_2 6 = .ok (.aload 4, 2) := dk_25 4 (dk_at dksJ10_put_2_0 6 rfl rfl)
theorem dJ10_put_2_8 : decode cJ10_put_2 8 = .ok (.ifnonnull 11, 3) := dk_199 0 11 (dk_at dksJ10_put_2_0 8 rfl rfl)
theorem dJ10_put_2_11 : decode cJ10_put_2 11 = .ok (.aload_n 0, 1) := dk_42 (dk_at dksJ10_put_2_0 11 rfl rfl)
theorem dJ10_put_2_12 : decode cJ10_put_2 12 = .ok (.aload_n 1, 1) := dk_43 (dk_at dksJ10_put_2_0 12 rfl rfl)
theorem dJ10_put_2_13 : decode cJ10_put_2 13 = .ok (.aload_n 2, 1) := dk_44 (dk_at dksJ10_put_2_0 13 rfl rfl)
theorem dJ10_put_2_14 : decode cJ10_put_2 14 = .ok (.invokevirtual 135, 3) := dk_182 0 135 (dk_at dksJ10_put_2_0 14 rfl rfl)
theorem dJ10_put_2_17 : decode cJ10_put_2 17 = .ok (.aconst_null, 1) := dk_1 (dk_at dksJ10_put_2_0 17 rfl rfl)
theorem dJ10_put_2_18 : decode cJ10_put_2 18 = .ok (.areturn, 1) := dk_176 (dk_at dksJ10_put_2_0 18 rfl rfl)
theorem dJ10_put_2_19 : decode cJ10_put_2 19 = .ok (.aload_n 0, 1) := dk_42 (dk_at dksJ10_put_2_0 19 rfl rfl)
theorem dJ10_put_2_20 : decode cJ10_put_2 20 = .ok (.getfield 16, 3) := dk_180 0 16 (dk_at dksJ10_put_2_0 20 rfl rfl)
theorem dJ10_put_2_23 : decode cJ10_put_2 23 = .ok (.astore 7, 2) := dk_58 7 (dk_at dksJ10_put_2_1 0 rfl rfl)
theorem dJ10_put_2_25 : decode cJ10_put_2 25 = .ok (.aload 7, 2) := dk_25 7 (dk_at dksJ10_put_2_1 2 rfl rfl)
theorem dJ10_put_2_27 : decode cJ10_put_2 27 = .ok (.ifnull 85, 3) := dk_198 0 85 (dk_at dksJ10_put_2_1 4 rfl rfl)
theorem dJ10_put_2_30 : decode cJ10_put_2 30 = .ok (.aload 4, 2) := dk_25 4 (dk_at dksJ10_put_2_1 7 rfl rfl)
theorem dJ10_put_2_32 : decode cJ10_put_2 32 = .ok (.astore 6, 2) := dk_58 6 (dk_at dksJ10_put_2_1 9 rfl rfl)
theorem dJ10_put_2_34 : decode cJ10_put_2 34 = .ok (.aload 7, 2) := dk_25 7 (dk_at dksJ10_put_2_1 11 rfl rfl)
theorem dJ10_put_2_36 : decode cJ10_put_2 36 = .ok (.aload_n 1, 1) := dk_43 (dk_at dksJ10_put_2_1 13 rfl rfl)
theorem dJ10_put_2_37 : decode cJ10_put_2 37 = .ok (.aload 4, 2) := dk_25 4 (dk_at dksJ10_put_2_1 14 rfl rfl)
theorem dJ10_put_2_39 : decode cJ10_put_2 39 = .ok (.getfield 105, 3) := dk_180 0 105 (dk_at dksJ10_put_2_1 16 rfl rfl)
theorem dJ10_put_2_42 : decode cJ10_put_2 42 = .ok (.invokeinterface 117 3, 5) := by decide +kernel
theorem dJ10_put_2_47 : decode cJ10_put_2 47 = .ok (.istore 5, 2) := dk_54 5 (dk_at dksJ10_put_2_2 0 rfl rfl)
theorem dJ10_put_2_49 : decode cJ10_put_2 49 = .ok (.iload 5, 2) := dk_21 5 (dk_at dksJ10_put_2_2 2 rfl rfl)
theorem dJ10_put_2_51 : decode cJ10_put_2 51 = .ok (.ifCond .ge 13, 3) := dk_156 0 13 (dk_at dksJ10_put_2_2 4 rfl rfl)
theorem dJ10_put_2_54 : decode cJ10_put_2 54 = .ok (.aload 4, 2) := dk_25 4 (dk_at dksJ10_put_2_2 7 rfl rfl)
theorem dJ10_put_2_56 : decode cJ10_put_2 56 = .ok (.getfield 111, 3) := dk_180 0 111 (dk_at dksJ10_put_2_2 9 rfl rfl)
theorem dJ10_put_2_59 : decode cJ10_put_2 59 = .ok (.astore 4, 2) := dk_58 4 (dk_at dksJ10_put_2_2 12 rfl rfl)
theorem dJ10_put_2_61 : decode cJ10_put_2 61 = .ok (.goto 43, 3) := dk_167 0 43 (dk_at dksJ10_put_2_2 14 rfl rfl)
theorem dJ10_put_2_64 : decode cJ10_put_2 64 = .ok (.iload 5, 2) := dk_21 5 (dk_at dksJ10_put_2_2 17 rfl rfl)
theorem dJ10_put_2_66 : decode cJ10_put_2 66 = .ok (.ifCond .le 13, 3) := dk_158 0 13 (dk_at dksJ10_put_2_2 19 rfl rfl)
theorem dJ10_put_2_69 : decode cJ10_put_2 69 = .ok (.aload 4, 2) := dk_25 4 (dk_at dksJ10_put_2_2 22 rfl rfl)
theorem dJ10_put_2_71 : decode cJ10_put_2 71 = .ok (.getfield 114, 3) := dk_180 0 114 (dk_at dksJ10_put_2_3 0 rfl rfl)
theorem dJ10_put_2_74 : decode cJ10_put_2 74 = .ok (.astore 4, 2) := dk_58 4 (dk_at dksJ10_put_2_3 3 rfl rfl)
theorem dJ10_put_2_76 : decode cJ10_put_2 76 = .ok (.goto 28, 3) := dk_167 0 28 (dk_at dksJ10_put_2_3 5 rfl rfl)
theorem dJ10_put_2_79 : decode cJ10_put_2 79 = .ok (.aload 4, 2) := dk_25 4 (dk_at dksJ10_put_2_3 8 rfl rfl)
theorem dJ10_put_2_81 : decode cJ10_put_2 81 = .ok (.getfield 58, 3) := dk_180 0 58 (dk_at dksJ10_put_2_3 10 rfl rfl)
theorem dJ10_put_2_84 : decode cJ10_put_2 84 = .ok (.astore 8, 2) := dk_58 8 (dk_at dksJ10_put_2_3 13 rfl rfl)
theorem dJ10_put_2_86 : decode cJ10_put_2 86 = .ok (.iload_n 3, 1) := dk_29 (dk_at dksJ10_put_2_3 15 rfl rfl)
theorem dJ10_put_2_87 : decode cJ10_put_2 87 = .ok (.ifCond .ne 8, 3) := dk_154 0 8 (dk_at dksJ10_put_2_3 16 rfl rfl)
theorem dJ10_put_2_90 : decode cJ10_put_2 90 = .ok (.aload 8, 2) := dk_25 8 (dk_at dksJ10_put_2_3 19 rfl rfl)
theorem dJ10_put_2_92 : decode cJ10_put_2 92 = .ok (.ifnonnull 9, 3) := dk_199 0 9 (dk_at dksJ10_put_2_3 21 rfl rfl)
theorem dJ10_put_2_95 : decode cJ10_put_2 95 = .ok (.aload 4, 2) := dk_25 4 (dk_at dksJ10_put_2_4 0 rfl rfl)
theorem dJ10_put_2_97 : decode cJ10_put_2 97 = .ok (.aload_n 2, 1) := dk_44 (dk_at dksJ10_put_2_4 2 rfl rfl)
theorem dJ10_put_2_98 : decode cJ10_put_2 98 = .ok (.putfield 58, 3) := dk_181 0 58 (dk_at dksJ10_put_2_4 3 rfl rfl)
theorem dJ10_put_2_101 : decode cJ10_put_2 101 = .ok (.aload 8, 2) := dk_25 8 (dk_at dksJ10_put_2_4 6 rfl rfl)
theorem dJ10_put_2_103 : decode cJ10_put_2 103 = .ok (.areturn, 1) := dk_176 (dk_at dksJ10_put_2_4 8 rfl rfl)
theorem dJ10_put_2_104 : decode cJ10_put_2 104 = .ok (.aload 4, 2) := dk_25 4 (dk_at dksJ10_put_2_4 9 rfl rfl)
theorem dJ10_put_2_106 : decode cJ10_put_2 106 = .ok (.ifnonnull (-76), 3) := dk_199 255 180 (dk_at dksJ10_put_2_4 11 rfl rfl)
theorem dJ10_put_2_109 : decode cJ10_put_2 109 = .ok (.goto 92, 3) := dk_167 0 92 (dk_at dksJ10_put_2_4 14 rfl rfl)
theorem dJ10_put_2_112 : decode cJ10_put_2 112 = .ok (.aload_n 1, 1) := dk_43 (dk_at dksJ10_put_2_4 17 rfl rfl)
theorem dJ10_put_2_113 : decode cJ10_put_2 113 = .ok (.invokestatic 95, 3) := dk_184 0 95 (dk_at dksJ10_put_2_4 18 rfl rfl)
theorem dJ10_put_2_116 : decode cJ10_put_2 116 = .ok (.pop, 1) := dk_87 (dk_at dksJ10_put_2_4 21 rfl rfl)
theorem dJ10_put_2_117 : decode cJ10_put_2 117 = .ok (.aload_n 1, 1) := dk_43 (dk_at dksJ10_put_2_4 22 rfl rfl)
theorem dJ10_put_2_118 : decode cJ10_put_2 118 = .ok (.checkcast 99, 3) := dk_192 0 99 (dk_at dksJ10_put_2_5 0 rfl rfl)
theorem dJ10_put_2_121 : decode cJ10_put_2 121 = .ok (.astore 8, 2) := dk_58 8 (dk_at dksJ10_put_2_5 3 rfl rfl)
theorem dJ10_put_2_123 : decode cJ10_put_2 123 = .ok (.aload 4, 2) := dk_25 4 (dk_at dksJ10_put_2_5 5 rfl rfl)
theorem dJ10_put_2_125 : decode cJ10_put_2 125 = .ok (.astore 6, 2) := dk_58 6 (dk_at dksJ10_put_2_5 7 rfl rfl)
theorem dJ10_put_2_127 : decode cJ10_put_2 127 = .ok (.aload 8, 2) := dk_25 8 (dk_at dksJ10_put_2_5 9 rfl rfl)
theorem dJ10_put_2_129 : decode cJ10_put_2 129 = .ok (.aload 4, 2) := dk_25 4 (dk_at dksJ10_put_2_5 11 rfl rfl)
theorem dJ10_put_2_131 : decode cJ10_put_2 131 = .ok (.getfield 105, 3) := dk_180 0 105 (dk_at dksJ10_put_2_5 13 rfl rfl)
theorem dJ10_put_2_134 : decode cJ10_put_2 134 = .ok (.invokeinterface 107 2, 5) := by decide +kernel
theorem dJ10_put_2_139 : decode cJ10_put_2 139 = .ok (.istore 5, 2) := dk_54 5 (dk_at dksJ10_put_2_5 21 rfl rfl)
theorem dJ10_put_2_141 : decode cJ10_put_2 141 = .ok (.iload 5, 2) := dk_21 5 (dk_at dksJ10_put_2_6 0 rfl rfl)
theorem dJ10_put_2_143 : decode cJ10_put_2 143 = .ok (.ifCond .ge 13, 3) := dk_156 0 13 (dk_at dksJ10_put_2_6 2 rfl rfl)
theorem dJ10_put_2_146 : decode cJ10_put_2 146 = .ok (.aload 4, 2) := dk_25 4 (dk_at dksJ10_put_2_6 5 rfl rfl)
theorem dJ10_put_2_148 : decode cJ10_put_2 148 = .ok (.getfield 111, 3) := dk_180 0 111 (dk_at dksJ10_put_2_6 7 rfl rfl)
theorem dJ10_put_2_151 : decode cJ10_put_2 151 = .ok (.astore 4, 2) := dk_58 4 (dk_at dksJ10_put_2_6 10 rfl rfl)
theorem dJ10_put_2_153 : decode cJ10_put_2 153 = .ok (.goto 43, 3) := dk_167 0 43 (dk_at dksJ10_put_2_6 12 rfl rfl)
theorem dJ10_put_2_156 : decode cJ10_put_2 156 = .ok (.iload 5, 2) := dk_21 5 (dk_at dksJ10_put_2_6 15 rfl rfl)
theorem dJ10_put_2_158 : decode cJ10_put_2 158 = .ok (.ifCond .le 13, 3) := dk_158 0 13 (dk_at dksJ10_put_2_6 17 rfl rfl)
theorem dJ10_put_2_161 : decode cJ10_put_2 161 = .ok (.aload 4, 2) := dk_25 4 (dk_at dksJ10_put_2_6 20 rfl rfl)
theorem dJ10_put_2_163 : decode cJ10_put_2 163 = .ok (.getfield 114, 3) := dk_180 0 114 (dk_at dksJ10_put_2_7 0 rfl rfl)
theorem dJ10_put_2_166 : decode cJ10_put_2 166 = .ok (.astore 4, 2) := dk_58 4 (dk_at dksJ10_put_2_7 3 rfl rfl)
theorem dJ10_put_2_168 : decode cJ10_put_2 168 = .ok (.goto 28, 3) := dk_167 0 28 (dk_at dksJ10_put_2_7 5 rfl rfl)
theorem dJ10_put_2_171 : decode cJ10_put_2 171 = .ok (.aload 4, 2) := dk_25 4 (dk_at dksJ10_put_2_7 8 rfl rfl)
theorem dJ10_put_2_173 : decode cJ10_put_2 173 = .ok (.getfield 58, 3) := dk_180 0 58 (dk_at dksJ10_put_2_7 10 rfl rfl)
theorem dJ10_put_2_176 : decode cJ10_put_2 176 = .ok (.astore 9, 2) := dk_58 9 (dk_at dksJ10_put_2_7 13 rfl rfl)
theorem dJ10_put_2_178 : decode cJ10_put_2 178 = .ok (.iload_n 3, 1) := dk_29 (dk_at dksJ10_put_2_7 15 rfl rfl)
theorem dJ10_put_2_179 : decode cJ10_put_2 179 = .ok (.ifCond .ne 8, 3) := dk_154 0 8 (dk_at dksJ10_put_2_7 16 rfl rfl)
theorem dJ10_put_2_182 : decode cJ10_put_2 182 = .ok (.aload 9, 2) := dk_25 9 (dk_at dksJ10_put_2_7 19 rfl rfl)
theorem dJ10_put_2_184 : decode cJ10_put_2 184 = .ok (.ifnonnull 9, 3) := dk_199 0 9 (dk_at dksJ10_put_2_7 21 rfl rfl)
theorem dJ10_put_2_187 : decode cJ10_put_2 187 = .ok (.aload 4, 2) := dk_25 4 (dk_at dksJ10_put_2_8 0 rfl rfl)
theorem dJ10_put_2_189 : decode cJ10_put_2 189 = .ok (.aload_n 2, 1) := dk_44 (dk_at dksJ10_put_2_8 2 rfl rfl)
theorem dJ10_put_2_190 : decode cJ10_put_2 190 = .ok (.putfield 58, 3) := dk_181 0 58 (dk_at dksJ10_put_2_8 3 rfl rfl)
theorem dJ10_put_2_193 : decode cJ10_put_2 193 = .ok (.aload 9, 2) := dk_25 9 (dk_at dksJ10_put_2_8 6 rfl rfl)
theorem dJ10_put_2_195 : decode cJ10_put_2 195 = .ok (.areturn, 1) := dk_176 (dk_at dksJ10_put_2_8 8 rfl rfl)
theorem dJ10_put_2_196 : decode cJ10_put_2 196 = .ok (.aload 4, 2) := dk_25 4 (dk_at dksJ10_put_2_8 9 rfl rfl)
theorem dJ10_put_2_198 : decode cJ10_put_2 198 = .ok (.ifnonnull (-75), 3) := dk_199 255 181 (dk_at dksJ10_put_2_8 11 rfl rfl)
theorem dJ10_put_2_201 : decode cJ10_put_2 201 = .ok (.aload_n 0, 1) := dk_42 (dk_at dksJ10_put_2_8 14 rfl rfl)
theorem dJ10_put_2_202 : decode cJ10_put_2 202 = .ok (.aload_n 1, 1) := dk_43 (dk_at dksJ10_put_2_8 15 rfl rfl)
theorem dJ10_put_2_203 : decode cJ10_put_2 203 = .ok (.aload_n 2, 1) := dk_44 (dk_at dksJ10_put_2_8 16 rfl rfl)
theorem dJ10_put_2_204 : decode cJ10_put_2 204 = .ok (.aload 6, 2) := dk_25 6 (dk_at dksJ10_put_2_8 17 rfl rfl)
theorem dJ10_put_2_206 : decode cJ10_put_2 206 = .ok (.iload 5, 2) := dk_21 5 (dk_at dksJ10_put_2_8 19 rfl rfl)
theorem dJ10_put_2_208 : decode cJ10_put_2 208 = .ok (.ifCond .ge 7, 3) := dk_156 0 7 (dk_at dksJ10_put_2_8 21 rfl rfl)
theorem dJ10_put_2_211 : decode cJ10_put_2 211 = .ok (.iconst 1, 1) := dk_4 (dk_at dksJ10_put_2_9 0 rfl rfl)
theorem dJ10_put_2_212 : decode cJ10_put_2 212 = .ok (.goto 4, 3) := dk_167 0 4 (dk_at dksJ10_put_2_9 1 rfl rfl)
theorem dJ10_put_2_215 : decode cJ10_put_2 215 = .ok (.iconst 0, 1) := dk_3 (dk_at dksJ10_put_2_9 4 rfl rfl)
theorem dJ10_put_2_216 : decode cJ10_put_2 216 = .ok (.invokevirtual 139, 3) := dk_182 0 139 (dk_at dksJ10_put_2_9 5 rfl rfl)
theorem dJ10_put_2_219 : decode cJ10_put_2 219 = .ok (.aconst_null, 1) := dk_1 (dk_at dksJ10_put_2_9 8 rfl rfl)
theorem dJ10_put_2_220 : decode cJ10_put_2 220 = .ok (.areturn, 1) := dk_176 (dk_at dksJ10_put_2_9 9 rfl rfl)
abbrev cJ10_addEntryToEmptyMap : ByteArray := prog_70_method_30_code
def yJ10_addEntryToEmptyMap : MethodName := ⟨RJ10, "addEntryToEmptyMap", "(Ljava/lang/Object;Ljava/lang/Object;)V"⟩
def dkwJ10_addEntryToEmptyMap_1 : List UInt8 := [181, 0, 7, 42, 89, 180, 0, 13, 4, 96, 181, 0, 13, 177]
abbrev dktJ10_addEntryToEmptyMap_1 : List UInt8 := dkwJ10_addEntryToEmptyMap_1 ++ []
def dkwJ10_addEntryToEmptyMap_0 : List UInt8 := [42, 43, 43, 182, 0, 123, 87, 42, 187, 0, 59, 89, 43, 44, 1, 183, 0, 167, 181, 0, 101, 42, 4]
abbrev dktJ10_addEntryToEmptyMap_0 : List UInt8 := dkwJ10_addEntryToEmptyMap_0 ++ dktJ10_addEntryToEmptyMap_1
theorem dksJ10_addEntryToEmptyMap_0 : cJ10_addEntryToEmptyMap.data.toList.drop 0 = dktJ10_addEntryToEmptyMap_0 := by decide +kernel
theorem dksJ10_addEntryToEmptyMap_1 : cJ10_addEntryToEmptyMap.data.toList.drop 23 = dktJ10_addEntryToEmptyMap_1 := dk_seg dksJ10_addEntryToEmptyMap_0 23 rfl rfl
theorem dJ10_addEntryToEmptyMap_0 : decode cJ10_addEntryToEmptyMap 0 = .ok (.aload_n 0, 1) := dk_42 (dk_at dksJ10_addEntryToEmptyMap_0 0 rfl rfl)
theorem dJ10_addEntryToEmptyMap_1 : decode cJ10_addEntryToEmptyMap 1 = .ok (.aload_n 1, 1) := dk_43 (dk_at dksJ10_addEntryToEmptyMap_0 1 rfl rfl)
theorem dJ10_addEntryToEmptyMap_2 : decode cJ10_addEntryToEmptyMap 2 = .ok (.aload_n 1, 1) := dk_43 (dk_at dksJ10_addEntryToEmptyMap_0 2 rfl rfl)
theorem dJ10_addEntryToEmptyMap_3 : decode cJ10_addEntryToEmptyMap 3 = .ok (.invokevirtual 123, 3) := dk_182 0 123 (dk_at dksJ10_addEntryToEmptyMap_0 3 rfl rfl)
theorem dJ10_addEntryToEmptyMap_6 : decode cJ10_addEntryToEmptyMap 6 = .ok (.pop, 1) := dk_87 (dk_at dksJ10_addEntryToEmptyMap_0 6 rfl rfl)
theorem dJ10_addEntryToEmptyMap_7 : decode cJ10_addEntryToEmptyMap 7 = .ok (.aload_n 0, 1) := dk_42 (dk_at dksJ10_addEntryToEmptyMap_0 7 rfl rfl)
theorem dJ10_addEntryToEmptyMap_8 : decode cJ10_addEntryToEmptyMap 8 = .ok (.new 59, 3) := dk_187 0 59 (dk_at dksJ10_addEntryToEmptyMap_0 8 rfl rfl)
theorem dJ10_addEntryToEmptyMap_11 : decode cJ10_addEntryToEmptyMap 11 = .ok (.dup, 1) := dk_89 (dk_at dksJ10_addEntryToEmptyMap_0 11 rfl rfl)
theorem dJ10_addEntryToEmptyMap_12 : decode cJ10_addEntryToEmptyMap 12 = .ok (.aload_n 1, 1) := dk_43 (dk_at dksJ10_addEntryToEmptyMap_0 12 rfl rfl)
theorem dJ10_addEntryToEmptyMap_13 : decode cJ10_addEntryToEmptyMap 13 = .ok (.aload_n 2, 1) := dk_44 (dk_at dksJ10_addEntryToEmptyMap_0 13 rfl rfl)
theorem dJ10_addEntryToEmptyMap_14 : decode cJ10_addEntryToEmptyMap 14 = .ok (.aconst_null, 1) := dk_1 (dk_at dksJ10_addEntryToEmptyMap_0 14 rfl rfl)
theorem dJ10_addEntryToEmptyMap_15 : decode cJ10_addEntryToEmptyMap 15 = .ok (.invokespecial 167, 3) := dk_183 0 167 (dk_at dksJ10_addEntryToEmptyMap_0 15 rfl rfl)
theorem dJ10_addEntryToEmptyMap_18 : decode cJ10_addEntryToEmptyMap 18 = .ok (.putfield 101, 3) := dk_181 0 101 (dk_at dksJ10_addEntryToEmptyMap_0 18 rfl rfl)
theorem dJ10_addEntryToEmptyMap_21 : decode cJ10_addEntryToEmptyMap 21 = .ok (.aload_n 0, 1) := dk_42 (dk_at dksJ10_addEntryToEmptyMap_0 21 rfl rfl)
theorem dJ10_addEntryToEmptyMap_22 : decode cJ10_addEntryToEmptyMap 22 = .ok (.iconst 1, 1) := dk_4 (dk_at dksJ10_addEntryToEmptyMap_0 22 rfl rfl)
theorem dJ10_addEntryToEmptyMap_23 : decode cJ10_addEntryToEmptyMap 23 = .ok (.putfield 7, 3) := dk_181 0 7 (dk_at dksJ10_addEntryToEmptyMap_1 0 rfl rfl)
theorem dJ10_addEntryToEmptyMap_26 : decode cJ10_addEntryToEmptyMap 26 = .ok (.aload_n 0, 1) := dk_42 (dk_at dksJ10_addEntryToEmptyMap_1 3 rfl rfl)
theorem dJ10_addEntryToEmptyMap_27 : decode cJ10_addEntryToEmptyMap 27 = .ok (.dup, 1) := dk_89 (dk_at dksJ10_addEntryToEmptyMap_1 4 rfl rfl)
theorem dJ10_addEntryToEmptyMap_28 : decode cJ10_addEntryToEmptyMap 28 = .ok (.getfield 13, 3) := dk_180 0 13 (dk_at dksJ10_addEntryToEmptyMap_1 5 rfl rfl)
theorem dJ10_addEntryToEmptyMap_31 : decode cJ10_addEntryToEmptyMap 31 = .ok (.iconst 1, 1) := dk_4 (dk_at dksJ10_addEntryToEmptyMap_1 8 rfl rfl)
theorem dJ10_addEntryToEmptyMap_32 : decode cJ10_addEntryToEmptyMap 32 = .ok (.iadd, 1) := dk_96 (dk_at dksJ10_addEntryToEmptyMap_1 9 rfl rfl)
theorem dJ10_addEntryToEmptyMap_33 : decode cJ10_addEntryToEmptyMap 33 = .ok (.putfield 13, 3) := dk_181 0 13 (dk_at dksJ10_addEntryToEmptyMap_1 10 rfl rfl)
theorem dJ10_addEntryToEmptyMap_36 : decode cJ10_addEntryToEmptyMap 36 = .ok (.return_, 1) := dk_177 (dk_at dksJ10_addEntryToEmptyMap_1 13 rfl rfl)
abbrev cJ10_compare : ByteArray := prog_70_method_67_code
def yJ10_compare : MethodName := ⟨RJ10, "compare", "(Ljava/lang/Object;Ljava/lang/Object;)I"⟩
def dkwJ10_compare_1 : List UInt8 := [43, 44, 185, 0, 117, 3, 0, 172]
abbrev dktJ10_compare_1 : List UInt8 := dkwJ10_compare_1 ++ []
def dkwJ10_compare_0 : List UInt8 := [42, 180, 0, 16, 199, 0, 16, 43, 192, 0, 99, 44, 185, 0, 107, 2, 0, 167, 0, 14, 42, 180, 0, 16]
abbrev dktJ10_compare_0 : List UInt8 := dkwJ10_compare_0 ++ dktJ10_compare_1
theorem dksJ10_compare_0 : cJ10_compare.data.toList.drop 0 = dktJ10_compare_0 := by decide +kernel
theorem dksJ10_compare_1 : cJ10_compare.data.toList.drop 24 = dktJ10_compare_1 := dk_seg dksJ10_compare_0 24 rfl rfl
theorem dJ10_compare_0 : decode cJ10_compare 0 = .ok (.aload_n 0, 1) := dk_42 (dk_at dksJ10_compare_0 0 rfl rfl)
theorem dJ10_compare_1 : decode cJ10_compare 1 = .ok (.getfield 16, 3) := dk_180 0 16 (dk_at dksJ10_compare_0 1 rfl rfl)
theorem dJ10_compare_4 : decode cJ10_compare 4 = .ok (.ifnonnull 16, 3) := dk_199 0 16 (dk_at dksJ10_compare_0 4 rfl rfl)
theorem dJ10_compare_7 : decode cJ10_compare 7 = .ok (.aload_n 1, 1) := dk_43 (dk_at dksJ10_compare_0 7 rfl rfl)
theorem dJ10_compare_8 : decode cJ10_compare 8 = .ok (.checkcast 99, 3) := dk_192 0 99 (dk_at dksJ10_compare_0 8 rfl rfl)
theorem dJ10_compare_11 : decode cJ10_compare 11 = .ok (.aload_n 2, 1) := dk_44 (dk_at dksJ10_compare_0 11 rfl rfl)
theorem dJ10_compare_12 : decode cJ10_compare 12 = .ok (.invokeinterface 107 2, 5) := by decide +kernel
theorem dJ10_compare_17 : decode cJ10_compare 17 = .ok (.goto 14, 3) := dk_167 0 14 (dk_at dksJ10_compare_0 17 rfl rfl)
theorem dJ10_compare_20 : decode cJ10_compare 20 = .ok (.aload_n 0, 1) := dk_42 (dk_at dksJ10_compare_0 20 rfl rfl)
theorem dJ10_compare_21 : decode cJ10_compare 21 = .ok (.getfield 16, 3) := dk_180 0 16 (dk_at dksJ10_compare_0 21 rfl rfl)
theorem dJ10_compare_24 : decode cJ10_compare 24 = .ok (.aload_n 1, 1) := dk_43 (dk_at dksJ10_compare_1 0 rfl rfl)
theorem dJ10_compare_25 : decode cJ10_compare 25 = .ok (.aload_n 2, 1) := dk_44 (dk_at dksJ10_compare_1 1 rfl rfl)
theorem dJ10_compare_26 : decode cJ10_compare 26 = .ok (.invokeinterface 117 3, 5) := by decide +kernel
theorem dJ10_compare_31 : decode cJ10_compare 31 = .ok (.ireturn, 1) := dk_172 (dk_at dksJ10_compare_1 7 rfl rfl)
abbrev cJ10_addEntry : ByteArray := prog_70_method_29_code
def yJ10_addEntry : MethodName := ⟨RJ10, "addEntry", "(Ljava/lang/Object;Ljava/lang/Object;Ljava/util/TreeMap$Entry;Z)V"⟩
def dkwJ10_addEntry_2 : List UInt8 := [181, 0, 7, 42, 89, 180, 0, 13, 4, 96, 181, 0, 13, 177]
abbrev dktJ10_addEntry_2 : List UInt8 := dkwJ10_addEntry_2 ++ []
def dkwJ10_addEntry_1 : List UInt8 := [167, 0, 9, 45, 25, 5, 181, 0, 114, 42, 25, 5, 182, 0, 170, 42, 89, 180, 0, 7, 4, 96]
abbrev dktJ10_addEntry_1 : List UInt8 := dkwJ10_addEntry_1 ++ dktJ10_addEntry_2
def dkwJ10_addEntry_0 : List UInt8 := [187, 0, 59, 89, 43, 44, 45, 183, 0, 167, 58, 5, 21, 4, 153, 0, 12, 45, 25, 5, 181, 0, 111]
abbrev dktJ10_addEntry_0 : List UInt8 := dkwJ10_addEntry_0 ++ dktJ10_addEntry_1
theorem dksJ10_addEntry_0 : cJ10_addEntry.data.toList.drop 0 = dktJ10_addEntry_0 := by decide +kernel
theorem dksJ10_addEntry_1 : cJ10_addEntry.data.toList.drop 23 = dktJ10_addEntry_1 := dk_seg dksJ10_addEntry_0 23 rfl rfl
theorem dksJ10_addEntry_2 : cJ10_addEntry.data.toList.drop 45 = dktJ10_addEntry_2 := dk_seg dksJ10_addEntry_1 22 rfl rfl
theorem dJ10_addEntry_0 : decode cJ10_addEntry 0 = .ok (.new 59, 3) := dk_187 0 59 (dk_at dksJ10_addEntry_0 0 rfl rfl)
theorem dJ10_addEntry_3 : decode cJ10_addEntry 3 = .ok (.dup, 1) := dk_89 (dk_at dksJ10_addEntry_0 3 rfl rfl)
theorem dJ10_addEntry_4 : decode cJ10_addEntry 4 = .ok (.aload_n 1, 1) := dk_43 (dk_at dksJ10_addEntry_0 4 rfl rfl)
theorem dJ10_addEntry_5 : decode cJ10_addEntry 5 = .ok (.aload_n 2, 1) := dk_44 (dk_at dksJ10_addEntry_0 5 rfl rfl)
theorem dJ10_addEntry_6 : decode cJ10_addEntry 6 = .ok (.aload_n 3, 1) := dk_45 (dk_at dksJ10_addEntry_0 6 rfl rfl)
theorem dJ10_addEntry_7 : decode cJ10_addEntry 7 = .ok (.invokespecial 167, 3) := dk_183 0 167 (dk_at dksJ10_addEntry_0 7 rfl rfl)
theorem dJ10_addEntry_10 : decode cJ10_addEntry 10 = .ok (.astore 5, 2) := dk_58 5 (dk_at dksJ10_addEntry_0 10 rfl rfl)
theorem dJ10_addEntry_12 : decode cJ10_addEntry 12 = .ok (.iload 4, 2) := dk_21 4 (dk_at dksJ10_addEntry_0 12 rfl rfl)
theorem dJ10_addEntry_14 : decode cJ10_addEntry 14 = .ok (.ifCond .eq 12, 3) := dk_153 0 12 (dk_at dksJ10_addEntry_0 14 rfl rfl)
theorem dJ10_addEntry_17 : decode cJ10_addEntry 17 = .ok (.aload_n 3, 1) := dk_45 (dk_at dksJ10_addEntry_0 17 rfl rfl)
theorem dJ10_addEntry_18 : decode cJ10_addEntry 18 = .ok (.aload 5, 2) := dk_25 5 (dk_at dksJ10_addEntry_0 18 rfl rfl)
theorem dJ10_addEntry_20 : decode cJ10_addEntry 20 = .ok (.putfield 111, 3) := dk_181 0 111 (dk_at dksJ10_addEntry_0 20 rfl rfl)
theorem dJ10_addEntry_23 : decode cJ10_addEntry 23 = .ok (.goto 9, 3) := dk_167 0 9 (dk_at dksJ10_addEntry_1 0 rfl rfl)
theorem dJ10_addEntry_26 : decode cJ10_addEntry 26 = .ok (.aload_n 3, 1) := dk_45 (dk_at dksJ10_addEntry_1 3 rfl rfl)
theorem dJ10_addEntry_27 : decode cJ10_addEntry 27 = .ok (.aload 5, 2) := dk_25 5 (dk_at dksJ10_addEntry_1 4 rfl rfl)
theorem dJ10_addEntry_29 : decode cJ10_addEntry 29 = .ok (.putfield 114, 3) := dk_181 0 114 (dk_at dksJ10_addEntry_1 6 rfl rfl)
theorem dJ10_addEntry_32 : decode cJ10_addEntry 32 = .ok (.aload_n 0, 1) := dk_42 (dk_at dksJ10_addEntry_1 9 rfl rfl)
theorem dJ10_addEntry_33 : decode cJ10_addEntry 33 = .ok (.aload 5, 2) := dk_25 5 (dk_at dksJ10_addEntry_1 10 rfl rfl)
theorem dJ10_addEntry_35 : decode cJ10_addEntry 35 = .ok (.invokevirtual 170, 3) := dk_182 0 170 (dk_at dksJ10_addEntry_1 12 rfl rfl)
theorem dJ10_addEntry_38 : decode cJ10_addEntry 38 = .ok (.aload_n 0, 1) := dk_42 (dk_at dksJ10_addEntry_1 15 rfl rfl)
theorem dJ10_addEntry_39 : decode cJ10_addEntry 39 = .ok (.dup, 1) := dk_89 (dk_at dksJ10_addEntry_1 16 rfl rfl)
theorem dJ10_addEntry_40 : decode cJ10_addEntry 40 = .ok (.getfield 7, 3) := dk_180 0 7 (dk_at dksJ10_addEntry_1 17 rfl rfl)
theorem dJ10_addEntry_43 : decode cJ10_addEntry 43 = .ok (.iconst 1, 1) := dk_4 (dk_at dksJ10_addEntry_1 20 rfl rfl)
theorem dJ10_addEntry_44 : decode cJ10_addEntry 44 = .ok (.iadd, 1) := dk_96 (dk_at dksJ10_addEntry_1 21 rfl rfl)
theorem dJ10_addEntry_45 : decode cJ10_addEntry 45 = .ok (.putfield 7, 3) := dk_181 0 7 (dk_at dksJ10_addEntry_2 0 rfl rfl)
theorem dJ10_addEntry_48 : decode cJ10_addEntry 48 = .ok (.aload_n 0, 1) := dk_42 (dk_at dksJ10_addEntry_2 3 rfl rfl)
theorem dJ10_addEntry_49 : decode cJ10_addEntry 49 = .ok (.dup, 1) := dk_89 (dk_at dksJ10_addEntry_2 4 rfl rfl)
theorem dJ10_addEntry_50 : decode cJ10_addEntry 50 = .ok (.getfield 13, 3) := dk_180 0 13 (dk_at dksJ10_addEntry_2 5 rfl rfl)
theorem dJ10_addEntry_53 : decode cJ10_addEntry 53 = .ok (.iconst 1, 1) := dk_4 (dk_at dksJ10_addEntry_2 8 rfl rfl)
theorem dJ10_addEntry_54 : decode cJ10_addEntry 54 = .ok (.iadd, 1) := dk_96 (dk_at dksJ10_addEntry_2 9 rfl rfl)
theorem dJ10_addEntry_55 : decode cJ10_addEntry 55 = .ok (.putfield 13, 3) := dk_181 0 13 (dk_at dksJ10_addEntry_2 10 rfl rfl)
theorem dJ10_addEntry_58 : decode cJ10_addEntry 58 = .ok (.return_, 1) := dk_177 (dk_at dksJ10_addEntry_2 13 rfl rfl)
abbrev cJ10_fixAfterInsertion : ByteArray := prog_70_method_83_code
def yJ10_fixAfterInsertion : MethodName := ⟨RJ10, "fixAfterInsertion", "(Ljava/util/TreeMap$Entry;)V"⟩
def dkwJ10_fixAfterInsertion_11 : List UInt8 := [42, 180, 0, 101, 4, 181, 1, 34, 177]
abbrev dktJ10_fixAfterInsertion_11 : List UInt8 := dkwJ10_fixAfterInsertion_11 ++ []
def dkwJ10_fixAfterInsertion_10 : List UInt8 := [184, 1, 38, 184, 1, 38, 3, 184, 1, 51, 42, 43, 184, 1, 38, 184, 1, 38, 182, 1, 55, 167, 255, 6]
abbrev dktJ10_fixAfterInsertion_10 : List UInt8 := dkwJ10_fixAfterInsertion_10 ++ dktJ10_fixAfterInsertion_11
def dkwJ10_fixAfterInsertion_9 : List UInt8 := [166, 0, 13, 43, 184, 1, 38, 76, 42, 43, 182, 1, 58, 43, 184, 1, 38, 4, 184, 1, 51, 43]
abbrev dktJ10_fixAfterInsertion_9 : List UInt8 := dkwJ10_fixAfterInsertion_9 ++ dktJ10_fixAfterInsertion_10
def dkwJ10_fixAfterInsertion_8 : List UInt8 := [184, 1, 51, 43, 184, 1, 38, 184, 1, 38, 76, 167, 0, 54, 43, 43, 184, 1, 38, 184, 1, 41]
abbrev dktJ10_fixAfterInsertion_8 : List UInt8 := dkwJ10_fixAfterInsertion_8 ++ dktJ10_fixAfterInsertion_9
def dkwJ10_fixAfterInsertion_7 : List UInt8 := [154, 0, 38, 43, 184, 1, 38, 4, 184, 1, 51, 44, 4, 184, 1, 51, 43, 184, 1, 38, 184, 1, 38, 3]
abbrev dktJ10_fixAfterInsertion_7 : List UInt8 := dkwJ10_fixAfterInsertion_7 ++ dktJ10_fixAfterInsertion_8
def dkwJ10_fixAfterInsertion_6 : List UInt8 := [184, 1, 38, 182, 1, 58, 167, 255, 113, 43, 184, 1, 38, 184, 1, 38, 184, 1, 41, 77, 44, 184, 1, 47]
abbrev dktJ10_fixAfterInsertion_6 : List UInt8 := dkwJ10_fixAfterInsertion_6 ++ dktJ10_fixAfterInsertion_7
def dkwJ10_fixAfterInsertion_5 : List UInt8 := [43, 184, 1, 38, 4, 184, 1, 51, 43, 184, 1, 38, 184, 1, 38, 3, 184, 1, 51, 42, 43, 184, 1, 38]
abbrev dktJ10_fixAfterInsertion_5 : List UInt8 := dkwJ10_fixAfterInsertion_5 ++ dktJ10_fixAfterInsertion_6
def dkwJ10_fixAfterInsertion_4 : List UInt8 := [167, 0, 54, 43, 43, 184, 1, 38, 184, 1, 44, 166, 0, 13, 43, 184, 1, 38, 76, 42, 43, 182, 1, 55]
abbrev dktJ10_fixAfterInsertion_4 : List UInt8 := dkwJ10_fixAfterInsertion_4 ++ dktJ10_fixAfterInsertion_5
def dkwJ10_fixAfterInsertion_3 : List UInt8 := [184, 1, 51, 43, 184, 1, 38, 184, 1, 38, 3, 184, 1, 51, 43, 184, 1, 38, 184, 1, 38, 76]
abbrev dktJ10_fixAfterInsertion_3 : List UInt8 := dkwJ10_fixAfterInsertion_3 ++ dktJ10_fixAfterInsertion_4
def dkwJ10_fixAfterInsertion_2 : List UInt8 := [184, 1, 38, 184, 1, 44, 77, 44, 184, 1, 47, 154, 0, 38, 43, 184, 1, 38, 4, 184, 1, 51, 44, 4]
abbrev dktJ10_fixAfterInsertion_2 : List UInt8 := dkwJ10_fixAfterInsertion_2 ++ dktJ10_fixAfterInsertion_3
def dkwJ10_fixAfterInsertion_1 : List UInt8 := [154, 0, 234, 43, 184, 1, 38, 43, 184, 1, 38, 184, 1, 38, 184, 1, 41, 166, 0, 110, 43, 184, 1, 38]
abbrev dktJ10_fixAfterInsertion_1 : List UInt8 := dkwJ10_fixAfterInsertion_1 ++ dktJ10_fixAfterInsertion_2
def dkwJ10_fixAfterInsertion_0 : List UInt8 := [43, 3, 181, 1, 34, 43, 198, 0, 252, 43, 42, 180, 0, 101, 165, 0, 244, 43, 180, 0, 124, 180, 1, 34]
abbrev dktJ10_fixAfterInsertion_0 : List UInt8 := dkwJ10_fixAfterInsertion_0 ++ dktJ10_fixAfterInsertion_1
theorem dksJ10_fixAfterInsertion_0 : cJ10_fixAfterInsertion.data.toList.drop 0 = dktJ10_fixAfterInsertion_0 := by decide +kernel
theorem dksJ10_fixAfterInsertion_1 : cJ10_fixAfterInsertion.data.toList.drop 24 = dktJ10_fixAfterInsertion_1 := dk_seg dksJ10_fixAfterInsertion_0 24 rfl rfl
theorem dksJ10_fixAfterInsertion_2 : cJ10_fixAfterInsertion.data.toList.drop 48 = dktJ10_fixAfterInsertion_2 := dk_seg dksJ10_fixAfterInsertion_1 24 rfl rfl
theorem dksJ10_fixAfterInsertion_3 : cJ10_fixAfterInsertion.data.toList.drop 72 = dktJ10_fixAfterInsertion_3 := dk_seg dksJ10_fixAfterInsertion_2 24 rfl rfl
theorem dksJ10_fixAfterInsertion_4 : cJ10_fixAfterInsertion.data.toList.drop 94 = dktJ10_fixAfterInsertion_4 := dk_seg dksJ10_fixAfterInsertion_3 22 rfl rfl
theorem dksJ10_fixAfterInsertion_5 : cJ10_fixAfterInsertion.data.toList.drop 118 = dktJ10_fixAfterInsertion_5 := dk_seg dksJ10_fixAfterInsertion_4 24 rfl rfl
theorem dksJ10_fixAfterInsertion_6 : cJ10_fixAfterInsertion.data.toList.drop 142 = dktJ10_fixAfterInsertion_6 := dk_seg dksJ10_fixAfterInsertion_5 24 rfl rfl
theorem dksJ10_fixAfterInsertion_7 : cJ10_fixAfterInsertion.data.toList.drop 166 = dktJ10_fixAfterInsertion_7 := dk_seg dksJ10_fixAfterInsertion_6 24 rfl rfl
theorem dksJ10_fixAfterInsertion_8 : cJ10_fixAfterInsertion.data.toList.drop 190 = dktJ10_fixAfterInsertion_8 := dk_seg dksJ10_fixAfterInsertion_7 24 rfl rfl
theorem dksJ10_fixAfterInsertion_9 : cJ10_fixAfterInsertion.data.toList.drop 212 = dktJ10_fixAfterInsertion_9 := dk_seg dksJ10_fixAfterInsertion_8 22 rfl rfl
theorem dksJ10_fixAfterInsertion_10 : cJ10_fixAfterInsertion.data.toList.drop 234 = dktJ10_fixAfterInsertion_10 := dk_seg dksJ10_fixAfterInsertion_9 22 rfl rfl
theorem dksJ10_fixAfterInsertion_11 : cJ10_fixAfterInsertion.data.toList.drop 258 = dktJ10_fixAfterInsertion_11 := dk_seg dksJ10_fixAfterInsertion_10 24 rfl rfl
theorem dJ10_fixAfterInsertion_0 : decode cJ10_fixAfterInsertion 0 = .ok (.aload_n 1, 1) := dk_43 (dk_at dksJ10_fixAfterInsertion_0 0 rfl rfl)
theorem dJ10_fixAfterInsertion_1 : decode cJ10_fixAfterInsertion 1 = .ok (.iconst 0, 1) := dk_3 (dk_at dksJ10_fixAfterInsertion_0 1 rfl rfl)
theorem dJ10_fixAfterInsertion_2 : decode cJ10_fixAfterInsertion 2 = .ok (.putfield 290, 3) := dk_181 1 34 (dk_at dksJ10_fixAfterInsertion_0 2 rfl rfl)
theorem dJ10_fixAfterInsertion_5 : decode cJ10_fixAfterInsertion 5 = .ok (.aload_n 1, 1) := dk_43 (dk_at dksJ10_fixAfterInsertion_0 5 rfl rfl)
theorem dJ10_fixAfterInsertion_6 : decode cJ10_fixAfterInsertion 6 = .ok (.ifnull 252, 3) := dk_198 0 252 (dk_at dksJ10_fixAfterInsertion_0 6 rfl rfl)
theorem dJ10_fixAfterInsertion_9 : decode cJ10_fixAfterInsertion 9 = .ok (.aload_n 1, 1) := dk_43 (dk_at dksJ10_fixAfterInsertion_0 9 rfl rfl)
theorem dJ10_fixAfterInsertion_10 : decode cJ10_fixAfterInsertion 10 = .ok (.aload_n 0, 1) := dk_42 (dk_at dksJ10_fixAfterInsertion_0 10 rfl rfl)
theorem dJ10_fixAfterInsertion_11 : decode cJ10_fixAfterInsertion 11 = .ok (.getfield 101, 3) := dk_180 0 101 (dk_at dksJ10_fixAfterInsertion_0 11 rfl rfl)
theorem dJ10_fixAfterInsertion_14 : decode cJ10_fixAfterInsertion 14 = .ok (.if_acmp .eq 244, 3) := dk_165 0 244 (dk_at dksJ10_fixAfterInsertion_0 14 rfl rfl)
theorem dJ10_fixAfterInsertion_17 : decode cJ10_fixAfterInsertion 17 = .ok (.aload_n 1, 1) := dk_43 (dk_at dksJ10_fixAfterInsertion_0 17 rfl rfl)
theorem dJ10_fixAfterInsertion_18 : decode cJ10_fixAfterInsertion 18 = .ok (.getfield 124, 3) := dk_180 0 124 (dk_at dksJ10_fixAfterInsertion_0 18 rfl rfl)
theorem dJ10_fixAfterInsertion_21 : decode cJ10_fixAfterInsertion 21 = .ok (.getfield 290, 3) := dk_180 1 34 (dk_at dksJ10_fixAfterInsertion_0 21 rfl rfl)
theorem dJ10_fixAfterInsertion_24 : decode cJ10_fixAfterInsertion 24 = .ok (.ifCond .ne 234, 3) := dk_154 0 234 (dk_at dksJ10_fixAfterInsertion_1 0 rfl rfl)
theorem dJ10_fixAfterInsertion_27 : decode cJ10_fixAfterInsertion 27 = .ok (.aload_n 1, 1) := dk_43 (dk_at dksJ10_fixAfterInsertion_1 3 rfl rfl)
theorem dJ10_fixAfterInsertion_28 : decode cJ10_fixAfterInsertion 28 = .ok (.invokestatic 294, 3) := dk_184 1 38 (dk_at dksJ10_fixAfterInsertion_1 4 rfl rfl)
theorem dJ10_fixAfterInsertion_31 : decode cJ10_fixAfterInsertion 31 = .ok (.aload_n 1, 1) := dk_43 (dk_at dksJ10_fixAfterInsertion_1 7 rfl rfl)
theorem dJ10_fixAfterInsertion_32 : decode cJ10_fixAfterInsertion 32 = .ok (.invokestatic 294, 3) := dk_184 1 38 (dk_at dksJ10_fixAfterInsertion_1 8 rfl rfl)
theorem dJ10_fixAfterInsertion_35 : decode cJ10_fixAfterInsertion 35 = .ok (.invokestatic 294, 3) := dk_184 1 38 (dk_at dksJ10_fixAfterInsertion_1 11 rfl rfl)
theorem dJ10_fixAfterInsertion_38 : decode cJ10_fixAfterInsertion 38 = .ok (.invokestatic 297, 3) := dk_184 1 41 (dk_at dksJ10_fixAfterInsertion_1 14 rfl rfl)
theorem dJ10_fixAfterInsertion_41 : decode cJ10_fixAfterInsertion 41 = .ok (.if_acmp .ne 110, 3) := dk_166 0 110 (dk_at dksJ10_fixAfterInsertion_1 17 rfl rfl)
theorem dJ10_fixAfterInsertion_44 : decode cJ10_fixAfterInsertion 44 = .ok (.aload_n 1, 1) := dk_43 (dk_at dksJ10_fixAfterInsertion_1 20 rfl rfl)
theorem dJ10_fixAfterInsertion_45 : decode cJ10_fixAfterInsertion 45 = .ok (.invokestatic 294, 3) := dk_184 1 38 (dk_at dksJ10_fixAfterInsertion_1 21 rfl rfl)
theorem dJ10_fixAfterInsertion_48 : decode cJ10_fixAfterInsertion 48 = .ok (.invokestatic 294, 3) := dk_184 1 38 (dk_at dksJ10_fixAfterInsertion_2 0 rfl rfl)
theorem dJ10_fixAfterInsertion_51 : decode cJ10_fixAfterInsertion 51 = .ok (.invokestatic 300, 3) := dk_184 1 44 (dk_at dksJ10_fixAfterInsertion_2 3 rfl rfl)
theorem dJ10_fixAfterInsertion_54 : decode cJ10_fixAfterInsertion 54 = .ok (.astore_n 2, 1) := dk_77 (dk_at dksJ10_fixAfterInsertion_2 6 rfl rfl)
theorem dJ10_fixAfterInsertion_55 : decode cJ10_fixAfterInsertion 55 = .ok (.aload_n 2, 1) := dk_44 (dk_at dksJ10_fixAfterInsertion_2 7 rfl rfl)
theorem dJ10_fixAfterInsertion_56 : decode cJ10_fixAfterInsertion 56 = .ok (.invokestatic 303, 3) := dk_184 1 47 (dk_at dksJ10_fixAfterInsertion_2 8 rfl rfl)
theorem dJ10_fixAfterInsertion_59 : decode cJ10_fixAfterInsertion 59 = .ok (.ifCond .ne 38, 3) := dk_154 0 38 (dk_at dksJ10_fixAfterInsertion_2 11 rfl rfl)
theorem dJ10_fixAfterInsertion_62 : decode cJ10_fixAfterInsertion 62 = .ok (.aload_n 1, 1) := dk_43 (dk_at dksJ10_fixAfterInsertion_2 14 rfl rfl)
theorem dJ10_fixAfterInsertion_63 : decode cJ10_fixAfterInsertion 63 = .ok (.invokestatic 294, 3) := dk_184 1 38 (dk_at dksJ10_fixAfterInsertion_2 15 rfl rfl)
theorem dJ10_fixAfterInsertion_66 : decode cJ10_fixAfterInsertion 66 = .ok (.iconst 1, 1) := dk_4 (dk_at dksJ10_fixAfterInsertion_2 18 rfl rfl)
theorem dJ10_fixAfterInsertion_67 : decode cJ10_fixAfterInsertion 67 = .ok (.invokestatic 307, 3) := dk_184 1 51 (dk_at dksJ10_fixAfterInsertion_2 19 rfl rfl)
theorem dJ10_fixAfterInsertion_70 : decode cJ10_fixAfterInsertion 70 = .ok (.aload_n 2, 1) := dk_44 (dk_at dksJ10_fixAfterInsertion_2 22 rfl rfl)
theorem dJ10_fixAfterInsertion_71 : decode cJ10_fixAfterInsertion 71 = .ok (.iconst 1, 1) := dk_4 (dk_at dksJ10_fixAfterInsertion_2 23 rfl rfl)
theorem dJ10_fixAfterInsertion_72 : decode cJ10_fixAfterInsertion 72 = .ok (.invokestatic 307, 3) := dk_184 1 51 (dk_at dksJ10_fixAfterInsertion_3 0 rfl rfl)
theorem dJ10_fixAfterInsertion_75 : decode cJ10_fixAfterInsertion 75 = .ok (.aload_n 1, 1) := dk_43 (dk_at dksJ10_fixAfterInsertion_3 3 rfl rfl)
theorem dJ10_fixAfterInsertion_76 : decode cJ10_fixAfterInsertion 76 = .ok (.invokestatic 294, 3) := dk_184 1 38 (dk_at dksJ10_fixAfterInsertion_3 4 rfl rfl)
theorem dJ10_fixAfterInsertion_79 : decode cJ10_fixAfterInsertion 79 = .ok (.invokestatic 294, 3) := dk_184 1 38 (dk_at dksJ10_fixAfterInsertion_3 7 rfl rfl)
theorem dJ10_fixAfterInsertion_82 : decode cJ10_fixAfterInsertion 82 = .ok (.iconst 0, 1) := dk_3 (dk_at dksJ10_fixAfterInsertion_3 10 rfl rfl)
theorem dJ10_fixAfterInsertion_83 : decode cJ10_fixAfterInsertion 83 = .ok (.invokestatic 307, 3) := dk_184 1 51 (dk_at dksJ10_fixAfterInsertion_3 11 rfl rfl)
theorem dJ10_fixAfterInsertion_86 : decode cJ10_fixAfterInsertion 86 = .ok (.aload_n 1, 1) := dk_43 (dk_at dksJ10_fixAfterInsertion_3 14 rfl rfl)
theorem dJ10_fixAfterInsertion_87 : decode cJ10_fixAfterInsertion 87 = .ok (.invokestatic 294, 3) := dk_184 1 38 (dk_at dksJ10_fixAfterInsertion_3 15 rfl rfl)
theorem dJ10_fixAfterInsertion_90 : decode cJ10_fixAfterInsertion 90 = .ok (.invokestatic 294, 3) := dk_184 1 38 (dk_at dksJ10_fixAfterInsertion_3 18 rfl rfl)
theorem dJ10_fixAfterInsertion_93 : decode cJ10_fixAfterInsertion 93 = .ok (.astore_n 1, 1) := dk_76 (dk_at dksJ10_fixAfterInsertion_3 21 rfl rfl)
theorem dJ10_fixAfterInsertion_94 : decode cJ10_fixAfterInsertion 94 = .ok (.goto 54, 3) := dk_167 0 54 (dk_at dksJ10_fixAfterInsertion_4 0 rfl rfl)
theorem dJ10_fixAfterInsertion_97 : decode cJ10_fixAfterInsertion 97 = .ok (.aload_n 1, 1) := dk_43 (dk_at dksJ10_fixAfterInsertion_4 3 rfl rfl)
theorem dJ10_fixAfterInsertion_98 : decode cJ10_fixAfterInsertion 98 = .ok (.aload_n 1, 1) := dk_43 (dk_at dksJ10_fixAfterInsertion_4 4 rfl rfl)
theorem dJ10_fixAfterInsertion_99 : decode cJ10_fixAfterInsertion 99 = .ok (.invokestatic 294, 3) := dk_184 1 38 (dk_at dksJ10_fixAfterInsertion_4 5 rfl rfl)
theorem dJ10_fixAfterInsertion_102 : decode cJ10_fixAfterInsertion 102 = .ok (.invokestatic 300, 3) := dk_184 1 44 (dk_at dksJ10_fixAfterInsertion_4 8 rfl rfl)
theorem dJ10_fixAfterInsertion_105 : decode cJ10_fixAfterInsertion 105 = .ok (.if_acmp .ne 13, 3) := dk_166 0 13 (dk_at dksJ10_fixAfterInsertion_4 11 rfl rfl)
theorem dJ10_fixAfterInsertion_108 : decode cJ10_fixAfterInsertion 108 = .ok (.aload_n 1, 1) := dk_43 (dk_at dksJ10_fixAfterInsertion_4 14 rfl rfl)
theorem dJ10_fixAfterInsertion_109 : decode cJ10_fixAfterInsertion 109 = .ok (.invokestatic 294, 3) := dk_184 1 38 (dk_at dksJ10_fixAfterInsertion_4 15 rfl rfl)
theorem dJ10_fixAfterInsertion_112 : decode cJ10_fixAfterInsertion 112 = .ok (.astore_n 1, 1) := dk_76 (dk_at dksJ10_fixAfterInsertion_4 18 rfl rfl)
theorem dJ10_fixAfterInsertion_113 : decode cJ10_fixAfterInsertion 113 = .ok (.aload_n 0, 1) := dk_42 (dk_at dksJ10_fixAfterInsertion_4 19 rfl rfl)
theorem dJ10_fixAfterInsertion_114 : decode cJ10_fixAfterInsertion 114 = .ok (.aload_n 1, 1) := dk_43 (dk_at dksJ10_fixAfterInsertion_4 20 rfl rfl)
theorem dJ10_fixAfterInsertion_115 : decode cJ10_fixAfterInsertion 115 = .ok (.invokevirtual 311, 3) := dk_182 1 55 (dk_at dksJ10_fixAfterInsertion_4 21 rfl rfl)
theorem dJ10_fixAfterInsertion_118 : decode cJ10_fixAfterInsertion 118 = .ok (.aload_n 1, 1) := dk_43 (dk_at dksJ10_fixAfterInsertion_5 0 rfl rfl)
theorem dJ10_fixAfterInsertion_119 : decode cJ10_fixAfterInsertion 119 = .ok (.invokestatic 294, 3) := dk_184 1 38 (dk_at dksJ10_fixAfterInsertion_5 1 rfl rfl)
theorem dJ10_fixAfterInsertion_122 : decode cJ10_fixAfterInsertion 122 = .ok (.iconst 1, 1) := dk_4 (dk_at dksJ10_fixAfterInsertion_5 4 rfl rfl)
theorem dJ10_fixAfterInsertion_123 : decode cJ10_fixAfterInsertion 123 = .ok (.invokestatic 307, 3) := dk_184 1 51 (dk_at dksJ10_fixAfterInsertion_5 5 rfl rfl)
theorem dJ10_fixAfterInsertion_126 : decode cJ10_fixAfterInsertion 126 = .ok (.aload_n 1, 1) := dk_43 (dk_at dksJ10_fixAfterInsertion_5 8 rfl rfl)
theorem dJ10_fixAfterInsertion_127 : decode cJ10_fixAfterInsertion 127 = .ok (.invokestatic 294, 3) := dk_184 1 38 (dk_at dksJ10_fixAfterInsertion_5 9 rfl rfl)
theorem dJ10_fixAfterInsertion_130 : decode cJ10_fixAfterInsertion 130 = .ok (.invokestatic 294, 3) := dk_184 1 38 (dk_at dksJ10_fixAfterInsertion_5 12 rfl rfl)
theorem dJ10_fixAfterInsertion_133 : decode cJ10_fixAfterInsertion 133 = .ok (.iconst 0, 1) := dk_3 (dk_at dksJ10_fixAfterInsertion_5 15 rfl rfl)
theorem dJ10_fixAfterInsertion_134 : decode cJ10_fixAfterInsertion 134 = .ok (.invokestatic 307, 3) := dk_184 1 51 (dk_at dksJ10_fixAfterInsertion_5 16 rfl rfl)
theorem dJ10_fixAfterInsertion_137 : decode cJ10_fixAfterInsertion 137 = .ok (.aload_n 0, 1) := dk_42 (dk_at dksJ10_fixAfterInsertion_5 19 rfl rfl)
theorem dJ10_fixAfterInsertion_138 : decode cJ10_fixAfterInsertion 138 = .ok (.aload_n 1, 1) := dk_43 (dk_at dksJ10_fixAfterInsertion_5 20 rfl rfl)
theorem dJ10_fixAfterInsertion_139 : decode cJ10_fixAfterInsertion 139 = .ok (.invokestatic 294, 3) := dk_184 1 38 (dk_at dksJ10_fixAfterInsertion_5 21 rfl rfl)
theorem dJ10_fixAfterInsertion_142 : decode cJ10_fixAfterInsertion 142 = .ok (.invokestatic 294, 3) := dk_184 1 38 (dk_at dksJ10_fixAfterInsertion_6 0 rfl rfl)
theorem dJ10_fixAfterInsertion_145 : decode cJ10_fixAfterInsertion 145 = .ok (.invokevirtual 314, 3) := dk_182 1 58 (dk_at dksJ10_fixAfterInsertion_6 3 rfl rfl)
theorem dJ10_fixAfterInsertion_148 : decode cJ10_fixAfterInsertion 148 = .ok (.goto (-143), 3) := dk_167 255 113 (dk_at dksJ10_fixAfterInsertion_6 6 rfl rfl)
theorem dJ10_fixAfterInsertion_151 : decode cJ10_fixAfterInsertion 151 = .ok (.aload_n 1, 1) := dk_43 (dk_at dksJ10_fixAfterInsertion_6 9 rfl rfl)
theorem dJ10_fixAfterInsertion_152 : decode cJ10_fixAfterInsertion 152 = .ok (.invokestatic 294, 3) := dk_184 1 38 (dk_at dksJ10_fixAfterInsertion_6 10 rfl rfl)
theorem dJ10_fixAfterInsertion_155 : decode cJ10_fixAfterInsertion 155 = .ok (.invokestatic 294, 3) := dk_184 1 38 (dk_at dksJ10_fixAfterInsertion_6 13 rfl rfl)
theorem dJ10_fixAfterInsertion_158 : decode cJ10_fixAfterInsertion 158 = .ok (.invokestatic 297, 3) := dk_184 1 41 (dk_at dksJ10_fixAfterInsertion_6 16 rfl rfl)
theorem dJ10_fixAfterInsertion_161 : decode cJ10_fixAfterInsertion 161 = .ok (.astore_n 2, 1) := dk_77 (dk_at dksJ10_fixAfterInsertion_6 19 rfl rfl)
theorem dJ10_fixAfterInsertion_162 : decode cJ10_fixAfterInsertion 162 = .ok (.aload_n 2, 1) := dk_44 (dk_at dksJ10_fixAfterInsertion_6 20 rfl rfl)
theorem dJ10_fixAfterInsertion_163 : decode cJ10_fixAfterInsertion 163 = .ok (.invokestatic 303, 3) := dk_184 1 47 (dk_at dksJ10_fixAfterInsertion_6 21 rfl rfl)
theorem dJ10_fixAfterInsertion_166 : decode cJ10_fixAfterInsertion 166 = .ok (.ifCond .ne 38, 3) := dk_154 0 38 (dk_at dksJ10_fixAfterInsertion_7 0 rfl rfl)
theorem dJ10_fixAfterInsertion_169 : decode cJ10_fixAfterInsertion 169 = .ok (.aload_n 1, 1) := dk_43 (dk_at dksJ10_fixAfterInsertion_7 3 rfl rfl)
theorem dJ10_fixAfterInsertion_170 : decode cJ10_fixAfterInsertion 170 = .ok (.invokestatic 294, 3) := dk_184 1 38 (dk_at dksJ10_fixAfterInsertion_7 4 rfl rfl)
theorem dJ10_fixAfterInsertion_173 : decode cJ10_fixAfterInsertion 173 = .ok (.iconst 1, 1) := dk_4 (dk_at dksJ10_fixAfterInsertion_7 7 rfl rfl)
theorem dJ10_fixAfterInsertion_174 : decode cJ10_fixAfterInsertion 174 = .ok (.invokestatic 307, 3) := dk_184 1 51 (dk_at dksJ10_fixAfterInsertion_7 8 rfl rfl)
theorem dJ10_fixAfterInsertion_177 : decode cJ10_fixAfterInsertion 177 = .ok (.aload_n 2, 1) := dk_44 (dk_at dksJ10_fixAfterInsertion_7 11 rfl rfl)
theorem dJ10_fixAfterInsertion_178 : decode cJ10_fixAfterInsertion 178 = .ok (.iconst 1, 1) := dk_4 (dk_at dksJ10_fixAfterInsertion_7 12 rfl rfl)
theorem dJ10_fixAfterInsertion_179 : decode cJ10_fixAfterInsertion 179 = .ok (.invokestatic 307, 3) := dk_184 1 51 (dk_at dksJ10_fixAfterInsertion_7 13 rfl rfl)
theorem dJ10_fixAfterInsertion_182 : decode cJ10_fixAfterInsertion 182 = .ok (.aload_n 1, 1) := dk_43 (dk_at dksJ10_fixAfterInsertion_7 16 rfl rfl)
theorem dJ10_fixAfterInsertion_183 : decode cJ10_fixAfterInsertion 183 = .ok (.invokestatic 294, 3) := dk_184 1 38 (dk_at dksJ10_fixAfterInsertion_7 17 rfl rfl)
theorem dJ10_fixAfterInsertion_186 : decode cJ10_fixAfterInsertion 186 = .ok (.invokestatic 294, 3) := dk_184 1 38 (dk_at dksJ10_fixAfterInsertion_7 20 rfl rfl)
theorem dJ10_fixAfterInsertion_189 : decode cJ10_fixAfterInsertion 189 = .ok (.iconst 0, 1) := dk_3 (dk_at dksJ10_fixAfterInsertion_7 23 rfl rfl)
theorem dJ10_fixAfterInsertion_190 : decode cJ10_fixAfterInsertion 190 = .ok (.invokestatic 307, 3) := dk_184 1 51 (dk_at dksJ10_fixAfterInsertion_8 0 rfl rfl)
theorem dJ10_fixAfterInsertion_193 : decode cJ10_fixAfterInsertion 193 = .ok (.aload_n 1, 1) := dk_43 (dk_at dksJ10_fixAfterInsertion_8 3 rfl rfl)
theorem dJ10_fixAfterInsertion_194 : decode cJ10_fixAfterInsertion 194 = .ok (.invokestatic 294, 3) := dk_184 1 38 (dk_at dksJ10_fixAfterInsertion_8 4 rfl rfl)
theorem dJ10_fixAfterInsertion_197 : decode cJ10_fixAfterInsertion 197 = .ok (.invokestatic 294, 3) := dk_184 1 38 (dk_at dksJ10_fixAfterInsertion_8 7 rfl rfl)
theorem dJ10_fixAfterInsertion_200 : decode cJ10_fixAfterInsertion 200 = .ok (.astore_n 1, 1) := dk_76 (dk_at dksJ10_fixAfterInsertion_8 10 rfl rfl)
theorem dJ10_fixAfterInsertion_201 : decode cJ10_fixAfterInsertion 201 = .ok (.goto 54, 3) := dk_167 0 54 (dk_at dksJ10_fixAfterInsertion_8 11 rfl rfl)
theorem dJ10_fixAfterInsertion_204 : decode cJ10_fixAfterInsertion 204 = .ok (.aload_n 1, 1) := dk_43 (dk_at dksJ10_fixAfterInsertion_8 14 rfl rfl)
theorem dJ10_fixAfterInsertion_205 : decode cJ10_fixAfterInsertion 205 = .ok (.aload_n 1, 1) := dk_43 (dk_at dksJ10_fixAfterInsertion_8 15 rfl rfl)
theorem dJ10_fixAfterInsertion_206 : decode cJ10_fixAfterInsertion 206 = .ok (.invokestatic 294, 3) := dk_184 1 38 (dk_at dksJ10_fixAfterInsertion_8 16 rfl rfl)
theorem dJ10_fixAfterInsertion_209 : decode cJ10_fixAfterInsertion 209 = .ok (.invokestatic 297, 3) := dk_184 1 41 (dk_at dksJ10_fixAfterInsertion_8 19 rfl rfl)
theorem dJ10_fixAfterInsertion_212 : decode cJ10_fixAfterInsertion 212 = .ok (.if_acmp .ne 13, 3) := dk_166 0 13 (dk_at dksJ10_fixAfterInsertion_9 0 rfl rfl)
theorem dJ10_fixAfterInsertion_215 : decode cJ10_fixAfterInsertion 215 = .ok (.aload_n 1, 1) := dk_43 (dk_at dksJ10_fixAfterInsertion_9 3 rfl rfl)
theorem dJ10_fixAfterInsertion_216 : decode cJ10_fixAfterInsertion 216 = .ok (.invokestatic 294, 3) := dk_184 1 38 (dk_at dksJ10_fixAfterInsertion_9 4 rfl rfl)
theorem dJ10_fixAfterInsertion_219 : decode cJ10_fixAfterInsertion 219 = .ok (.astore_n 1, 1) := dk_76 (dk_at dksJ10_fixAfterInsertion_9 7 rfl rfl)
theorem dJ10_fixAfterInsertion_220 : decode cJ10_fixAfterInsertion 220 = .ok (.aload_n 0, 1) := dk_42 (dk_at dksJ10_fixAfterInsertion_9 8 rfl rfl)
theorem dJ10_fixAfterInsertion_221 : decode cJ10_fixAfterInsertion 221 = .ok (.aload_n 1, 1) := dk_43 (dk_at dksJ10_fixAfterInsertion_9 9 rfl rfl)
theorem dJ10_fixAfterInsertion_222 : decode cJ10_fixAfterInsertion 222 = .ok (.invokevirtual 314, 3) := dk_182 1 58 (dk_at dksJ10_fixAfterInsertion_9 10 rfl rfl)
theorem dJ10_fixAfterInsertion_225 : decode cJ10_fixAfterInsertion 225 = .ok (.aload_n 1, 1) := dk_43 (dk_at dksJ10_fixAfterInsertion_9 13 rfl rfl)
theorem dJ10_fixAfterInsertion_226 : decode cJ10_fixAfterInsertion 226 = .ok (.invokestatic 294, 3) := dk_184 1 38 (dk_at dksJ10_fixAfterInsertion_9 14 rfl rfl)
theorem dJ10_fixAfterInsertion_229 : decode cJ10_fixAfterInsertion 229 = .ok (.iconst 1, 1) := dk_4 (dk_at dksJ10_fixAfterInsertion_9 17 rfl rfl)
theorem dJ10_fixAfterInsertion_230 : decode cJ10_fixAfterInsertion 230 = .ok (.invokestatic 307, 3) := dk_184 1 51 (dk_at dksJ10_fixAfterInsertion_9 18 rfl rfl)
theorem dJ10_fixAfterInsertion_233 : decode cJ10_fixAfterInsertion 233 = .ok (.aload_n 1, 1) := dk_43 (dk_at dksJ10_fixAfterInsertion_9 21 rfl rfl)
theorem dJ10_fixAfterInsertion_234 : decode cJ10_fixAfterInsertion 234 = .ok (.invokestatic 294, 3) := dk_184 1 38 (dk_at dksJ10_fixAfterInsertion_10 0 rfl rfl)
theorem dJ10_fixAfterInsertion_237 : decode cJ10_fixAfterInsertion 237 = .ok (.invokestatic 294, 3) := dk_184 1 38 (dk_at dksJ10_fixAfterInsertion_10 3 rfl rfl)
theorem dJ10_fixAfterInsertion_240 : decode cJ10_fixAfterInsertion 240 = .ok (.iconst 0, 1) := dk_3 (dk_at dksJ10_fixAfterInsertion_10 6 rfl rfl)
theorem dJ10_fixAfterInsertion_241 : decode cJ10_fixAfterInsertion 241 = .ok (.invokestatic 307, 3) := dk_184 1 51 (dk_at dksJ10_fixAfterInsertion_10 7 rfl rfl)
theorem dJ10_fixAfterInsertion_244 : decode cJ10_fixAfterInsertion 244 = .ok (.aload_n 0, 1) := dk_42 (dk_at dksJ10_fixAfterInsertion_10 10 rfl rfl)
theorem dJ10_fixAfterInsertion_245 : decode cJ10_fixAfterInsertion 245 = .ok (.aload_n 1, 1) := dk_43 (dk_at dksJ10_fixAfterInsertion_10 11 rfl rfl)
theorem dJ10_fixAfterInsertion_246 : decode cJ10_fixAfterInsertion 246 = .ok (.invokestatic 294, 3) := dk_184 1 38 (dk_at dksJ10_fixAfterInsertion_10 12 rfl rfl)
theorem dJ10_fixAfterInsertion_249 : decode cJ10_fixAfterInsertion 249 = .ok (.invokestatic 294, 3) := dk_184 1 38 (dk_at dksJ10_fixAfterInsertion_10 15 rfl rfl)
theorem dJ10_fixAfterInsertion_252 : decode cJ10_fixAfterInsertion 252 = .ok (.invokevirtual 311, 3) := dk_182 1 55 (dk_at dksJ10_fixAfterInsertion_10 18 rfl rfl)
theorem dJ10_fixAfterInsertion_255 : decode cJ10_fixAfterInsertion 255 = .ok (.goto (-250), 3) := dk_167 255 6 (dk_at dksJ10_fixAfterInsertion_10 21 rfl rfl)
theorem dJ10_fixAfterInsertion_258 : decode cJ10_fixAfterInsertion 258 = .ok (.aload_n 0, 1) := dk_42 (dk_at dksJ10_fixAfterInsertion_11 0 rfl rfl)
theorem dJ10_fixAfterInsertion_259 : decode cJ10_fixAfterInsertion 259 = .ok (.getfield 101, 3) := dk_180 0 101 (dk_at dksJ10_fixAfterInsertion_11 1 rfl rfl)
theorem dJ10_fixAfterInsertion_262 : decode cJ10_fixAfterInsertion 262 = .ok (.iconst 1, 1) := dk_4 (dk_at dksJ10_fixAfterInsertion_11 4 rfl rfl)
theorem dJ10_fixAfterInsertion_263 : decode cJ10_fixAfterInsertion 263 = .ok (.putfield 290, 3) := dk_181 1 34 (dk_at dksJ10_fixAfterInsertion_11 5 rfl rfl)
theorem dJ10_fixAfterInsertion_266 : decode cJ10_fixAfterInsertion 266 = .ok (.return_, 1) := dk_177 (dk_at dksJ10_fixAfterInsertion_11 8 rfl rfl)
abbrev cJ10_parentOf : ByteArray := prog_70_method_77_code
def yJ10_parentOf : MethodName := ⟨RJ10, "parentOf", "(Ljava/util/TreeMap$Entry;)Ljava/util/TreeMap$Entry;"⟩
def dkwJ10_parentOf_0 : List UInt8 := [42, 199, 0, 7, 1, 167, 0, 7, 42, 180, 0, 124, 176]
abbrev dktJ10_parentOf_0 : List UInt8 := dkwJ10_parentOf_0 ++ []
theorem dksJ10_parentOf_0 : cJ10_parentOf.data.toList.drop 0 = dktJ10_parentOf_0 := by decide +kernel
theorem dJ10_parentOf_0 : decode cJ10_parentOf 0 = .ok (.aload_n 0, 1) := dk_42 (dk_at dksJ10_parentOf_0 0 rfl rfl)
theorem dJ10_parentOf_1 : decode cJ10_parentOf 1 = .ok (.ifnonnull 7, 3) := dk_199 0 7 (dk_at dksJ10_parentOf_0 1 rfl rfl)
theorem dJ10_parentOf_4 : decode cJ10_parentOf 4 = .ok (.aconst_null, 1) := dk_1 (dk_at dksJ10_parentOf_0 4 rfl rfl)
theorem dJ10_parentOf_5 : decode cJ10_parentOf 5 = .ok (.goto 7, 3) := dk_167 0 7 (dk_at dksJ10_parentOf_0 5 rfl rfl)
theorem dJ10_parentOf_8 : decode cJ10_parentOf 8 = .ok (.aload_n 0, 1) := dk_42 (dk_at dksJ10_parentOf_0 8 rfl rfl)
theorem dJ10_parentOf_9 : decode cJ10_parentOf 9 = .ok (.getfield 124, 3) := dk_180 0 124 (dk_at dksJ10_parentOf_0 9 rfl rfl)
theorem dJ10_parentOf_12 : decode cJ10_parentOf 12 = .ok (.areturn, 1) := dk_176 (dk_at dksJ10_parentOf_0 12 rfl rfl)
abbrev cJ10_leftOf : ByteArray := prog_70_method_79_code
def yJ10_leftOf : MethodName := ⟨RJ10, "leftOf", "(Ljava/util/TreeMap$Entry;)Ljava/util/TreeMap$Entry;"⟩
def dkwJ10_leftOf_0 : List UInt8 := [42, 199, 0, 7, 1, 167, 0, 7, 42, 180, 0, 111, 176]
abbrev dktJ10_leftOf_0 : List UInt8 := dkwJ10_leftOf_0 ++ []
theorem dksJ10_leftOf_0 : cJ10_leftOf.data.toList.drop 0 = dktJ10_leftOf_0 := by decide +kernel
theorem dJ10_leftOf_0 : decode cJ10_leftOf 0 = .ok (.aload_n 0, 1) := dk_42 (dk_at dksJ10_leftOf_0 0 rfl rfl)
theorem dJ10_leftOf_1 : decode cJ10_leftOf 1 = .ok (.ifnonnull 7, 3) := dk_199 0 7 (dk_at dksJ10_leftOf_0 1 rfl rfl)
theorem dJ10_leftOf_4 : decode cJ10_leftOf 4 = .ok (.aconst_null, 1) := dk_1 (dk_at dksJ10_leftOf_0 4 rfl rfl)
theorem dJ10_leftOf_5 : decode cJ10_leftOf 5 = .ok (.goto 7, 3) := dk_167 0 7 (dk_at dksJ10_leftOf_0 5 rfl rfl)
theorem dJ10_leftOf_8 : decode cJ10_leftOf 8 = .ok (.aload_n 0, 1) := dk_42 (dk_at dksJ10_leftOf_0 8 rfl rfl)
theorem dJ10_leftOf_9 : decode cJ10_leftOf 9 = .ok (.getfield 111, 3) := dk_180 0 111 (dk_at dksJ10_leftOf_0 9 rfl rfl)
theorem dJ10_leftOf_12 : decode cJ10_leftOf 12 = .ok (.areturn, 1) := dk_176 (dk_at dksJ10_leftOf_0 12 rfl rfl)
abbrev cJ10_rightOf : ByteArray := prog_70_method_80_code
def yJ10_rightOf : MethodName := ⟨RJ10, "rightOf", "(Ljava/util/TreeMap$Entry;)Ljava/util/TreeMap$Entry;"⟩
def dkwJ10_rightOf_0 : List UInt8 := [42, 199, 0, 7, 1, 167, 0, 7, 42, 180, 0, 114, 176]
abbrev dktJ10_rightOf_0 : List UInt8 := dkwJ10_rightOf_0 ++ []
theorem dksJ10_rightOf_0 : cJ10_rightOf.data.toList.drop 0 = dktJ10_rightOf_0 := by decide +kernel
theorem dJ10_rightOf_0 : decode cJ10_rightOf 0 = .ok (.aload_n 0, 1) := dk_42 (dk_at dksJ10_rightOf_0 0 rfl rfl)
theorem dJ10_rightOf_1 : decode cJ10_rightOf 1 = .ok (.ifnonnull 7, 3) := dk_199 0 7 (dk_at dksJ10_rightOf_0 1 rfl rfl)
theorem dJ10_rightOf_4 : decode cJ10_rightOf 4 = .ok (.aconst_null, 1) := dk_1 (dk_at dksJ10_rightOf_0 4 rfl rfl)
theorem dJ10_rightOf_5 : decode cJ10_rightOf 5 = .ok (.goto 7, 3) := dk_167 0 7 (dk_at dksJ10_rightOf_0 5 rfl rfl)
theorem dJ10_rightOf_8 : decode cJ10_rightOf 8 = .ok (.aload_n 0, 1) := dk_42 (dk_at dksJ10_rightOf_0 8 rfl rfl)
theorem dJ10_rightOf_9 : decode cJ10_rightOf 9 = .ok (.getfield 114, 3) := dk_180 0 114 (dk_at dksJ10_rightOf_0 9 rfl rfl)
theorem dJ10_rightOf_12 : decode cJ10_rightOf 12 = .ok (.areturn, 1) := dk_176 (dk_at dksJ10_rightOf_0 12 rfl rfl)
abbrev cJ10_colorOf : ByteArray := prog_70_method_76_code
def yJ10_colorOf : MethodName := ⟨RJ10, "colorOf", "(Ljava/util/TreeMap$Entry;)Z"⟩
def dkwJ10_colorOf_0 : List UInt8 := [42, 199, 0, 7, 4, 167, 0, 7, 42, 180, 1, 34, 172]
abbrev dktJ10_colorOf_0 : List UInt8 := dkwJ10_colorOf_0 ++ []
theorem dksJ10_colorOf_0 : cJ10_colorOf.data.toList.drop 0 = dktJ10_colorOf_0 := by decide +kernel
theorem dJ10_colorOf_0 : decode cJ10_colorOf 0 = .ok (.aload_n 0, 1) := dk_42 (dk_at dksJ10_colorOf_0 0 rfl rfl)
theorem dJ10_colorOf_1 : decode cJ10_colorOf 1 = .ok (.ifnonnull 7, 3) := dk_199 0 7 (dk_at dksJ10_colorOf_0 1 rfl rfl)
theorem dJ10_colorOf_4 : decode cJ10_colorOf 4 = .ok (.iconst 1, 1) := dk_4 (dk_at dksJ10_colorOf_0 4 rfl rfl)
theorem dJ10_colorOf_5 : decode cJ10_colorOf 5 = .ok (.goto 7, 3) := dk_167 0 7 (dk_at dksJ10_colorOf_0 5 rfl rfl)
theorem dJ10_colorOf_8 : decode cJ10_colorOf 8 = .ok (.aload_n 0, 1) := dk_42 (dk_at dksJ10_colorOf_0 8 rfl rfl)
theorem dJ10_colorOf_9 : decode cJ10_colorOf 9 = .ok (.getfield 290, 3) := dk_180 1 34 (dk_at dksJ10_colorOf_0 9 rfl rfl)
theorem dJ10_colorOf_12 : decode cJ10_colorOf 12 = .ok (.ireturn, 1) := dk_172 (dk_at dksJ10_colorOf_0 12 rfl rfl)
abbrev cJ10_setColor : ByteArray := prog_70_method_78_code
def yJ10_setColor : MethodName := ⟨RJ10, "setColor", "(Ljava/util/TreeMap$Entry;Z)V"⟩
def dkwJ10_setColor_0 : List UInt8 := [42, 198, 0, 8, 42, 27, 181, 1, 34, 177]
abbrev dktJ10_setColor_0 : List UInt8 := dkwJ10_setColor_0 ++ []
theorem dksJ10_setColor_0 : cJ10_setColor.data.toList.drop 0 = dktJ10_setColor_0 := by decide +kernel
theorem dJ10_setColor_0 : decode cJ10_setColor 0 = .ok (.aload_n 0, 1) := dk_42 (dk_at dksJ10_setColor_0 0 rfl rfl)
theorem dJ10_setColor_1 : decode cJ10_setColor 1 = .ok (.ifnull 8, 3) := dk_198 0 8 (dk_at dksJ10_setColor_0 1 rfl rfl)
theorem dJ10_setColor_4 : decode cJ10_setColor 4 = .ok (.aload_n 0, 1) := dk_42 (dk_at dksJ10_setColor_0 4 rfl rfl)
theorem dJ10_setColor_5 : decode cJ10_setColor 5 = .ok (.iload_n 1, 1) := dk_27 (dk_at dksJ10_setColor_0 5 rfl rfl)
theorem dJ10_setColor_6 : decode cJ10_setColor 6 = .ok (.putfield 290, 3) := dk_181 1 34 (dk_at dksJ10_setColor_0 6 rfl rfl)
theorem dJ10_setColor_9 : decode cJ10_setColor 9 = .ok (.return_, 1) := dk_177 (dk_at dksJ10_setColor_0 9 rfl rfl)
abbrev cJ10_rotateLeft : ByteArray := prog_70_method_81_code
def yJ10_rotateLeft : MethodName := ⟨RJ10, "rotateLeft", "(Ljava/util/TreeMap$Entry;)V"⟩
def dkwJ10_rotateLeft_4 : List UInt8 := [177]
abbrev dktJ10_rotateLeft_4 : List UInt8 := dkwJ10_rotateLeft_4 ++ []
def dkwJ10_rotateLeft_3 : List UInt8 := [181, 0, 111, 167, 0, 11, 43, 180, 0, 124, 44, 181, 0, 114, 44, 43, 181, 0, 111, 43, 44, 181, 0, 124]
abbrev dktJ10_rotateLeft_3 : List UInt8 := dkwJ10_rotateLeft_3 ++ dktJ10_rotateLeft_4
def dkwJ10_rotateLeft_2 : List UInt8 := [44, 181, 0, 101, 167, 0, 33, 43, 180, 0, 124, 180, 0, 111, 43, 166, 0, 14, 43, 180, 0, 124, 44]
abbrev dktJ10_rotateLeft_2 : List UInt8 := dkwJ10_rotateLeft_2 ++ dktJ10_rotateLeft_3
def dkwJ10_rotateLeft_1 : List UInt8 := [44, 180, 0, 111, 43, 181, 0, 124, 44, 43, 180, 0, 124, 181, 0, 124, 43, 180, 0, 124, 199, 0, 11, 42]
abbrev dktJ10_rotateLeft_1 : List UInt8 := dkwJ10_rotateLeft_1 ++ dktJ10_rotateLeft_2
def dkwJ10_rotateLeft_0 : List UInt8 := [43, 198, 0, 94, 43, 180, 0, 114, 77, 43, 44, 180, 0, 111, 181, 0, 114, 44, 180, 0, 111, 198, 0, 11]
abbrev dktJ10_rotateLeft_0 : List UInt8 := dkwJ10_rotateLeft_0 ++ dktJ10_rotateLeft_1
theorem dksJ10_rotateLeft_0 : cJ10_rotateLeft.data.toList.drop 0 = dktJ10_rotateLeft_0 := by decide +kernel
theorem dksJ10_rotateLeft_1 : cJ10_rotateLeft.data.toList.drop 24 = dktJ10_rotateLeft_1 := dk_seg dksJ10_rotateLeft_0 24 rfl rfl
theorem dksJ10_rotateLeft_2 : cJ10_rotateLeft.data.toList.drop 48 = dktJ10_rotateLeft_2 := dk_seg dksJ10_rotateLeft_1 24 rfl rfl
theorem dksJ10_rotateLeft_3 : cJ10_rotateLeft.data.toList.drop 71 = dktJ10_rotateLeft_3 := dk_seg dksJ10_rotateLeft_2 23 rfl rfl
theorem dksJ10_rotateLeft_4 : cJ10_rotateLeft.data.toList.drop 95 = dktJ10_rotateLeft_4 := dk_seg dksJ10_rotateLeft_3 24 rfl rfl
theorem dJ10_rotateLeft_0 : decode cJ10_rotateLeft 0 = .ok (.aload_n 1, 1) := dk_43 (dk_at dksJ10_rotateLeft_0 0 rfl rfl)
theorem dJ10_rotateLeft_1 : decode cJ10_rotateLeft 1 = .ok (.ifnull 94, 3) := dk_198 0 94 (dk_at dksJ10_rotateLeft_0 1 rfl rfl)
theorem dJ10_rotateLeft_4 : decode cJ10_rotateLeft 4 = .ok (.aload_n 1, 1) := dk_43 (dk_at dksJ10_rotateLeft_0 4 rfl rfl)
theorem dJ10_rotateLeft_5 : decode cJ10_rotateLeft 5 = .ok (.getfield 114, 3) := dk_180 0 114 (dk_at dksJ10_rotateLeft_0 5 rfl rfl)
theorem dJ10_rotateLeft_8 : decode cJ10_rotateLeft 8 = .ok (.astore_n 2, 1) := dk_77 (dk_at dksJ10_rotateLeft_0 8 rfl rfl)
theorem dJ10_rotateLeft_9 : decode cJ10_rotateLeft 9 = .ok (.aload_n 1, 1) := dk_43 (dk_at dksJ10_rotateLeft_0 9 rfl rfl)
theorem dJ10_rotateLeft_10 : decode cJ10_rotateLeft 10 = .ok (.aload_n 2, 1) := dk_44 (dk_at dksJ10_rotateLeft_0 10 rfl rfl)
theorem dJ10_rotateLeft_11 : decode cJ10_rotateLeft 11 = .ok (.getfield 111, 3) := dk_180 0 111 (dk_at dksJ10_rotateLeft_0 11 rfl rfl)
theorem dJ10_rotateLeft_14 : decode cJ10_rotateLeft 14 = .ok (.putfield 114, 3) := dk_181 0 114 (dk_at dksJ10_rotateLeft_0 14 rfl rfl)
theorem dJ10_rotateLeft_17 : decode cJ10_rotateLeft 17 = .ok (.aload_n 2, 1) := dk_44 (dk_at dksJ10_rotateLeft_0 17 rfl rfl)
theorem dJ10_rotateLeft_18 : decode cJ10_rotateLeft 18 = .ok (.getfield 111, 3) := dk_180 0 111 (dk_at dksJ10_rotateLeft_0 18 rfl rfl)
theorem dJ10_rotateLeft_21 : decode cJ10_rotateLeft 21 = .ok (.ifnull 11, 3) := dk_198 0 11 (dk_at dksJ10_rotateLeft_0 21 rfl rfl)
theorem dJ10_rotateLeft_24 : decode cJ10_rotateLeft 24 = .ok (.aload_n 2, 1) := dk_44 (dk_at dksJ10_rotateLeft_1 0 rfl rfl)
theorem dJ10_rotateLeft_25 : decode cJ10_rotateLeft 25 = .ok (.getfield 111, 3) := dk_180 0 111 (dk_at dksJ10_rotateLeft_1 1 rfl rfl)
theorem dJ10_rotateLeft_28 : decode cJ10_rotateLeft 28 = .ok (.aload_n 1, 1) := dk_43 (dk_at dksJ10_rotateLeft_1 4 rfl rfl)
theorem dJ10_rotateLeft_29 : decode cJ10_rotateLeft 29 = .ok (.putfield 124, 3) := dk_181 0 124 (dk_at dksJ10_rotateLeft_1 5 rfl rfl)
theorem dJ10_rotateLeft_32 : decode cJ10_rotateLeft 32 = .ok (.aload_n 2, 1) := dk_44 (dk_at dksJ10_rotateLeft_1 8 rfl rfl)
theorem dJ10_rotateLeft_33 : decode cJ10_rotateLeft 33 = .ok (.aload_n 1, 1) := dk_43 (dk_at dksJ10_rotateLeft_1 9 rfl rfl)
theorem dJ10_rotateLeft_34 : decode cJ10_rotateLeft 34 = .ok (.getfield 124, 3) := dk_180 0 124 (dk_at dksJ10_rotateLeft_1 10 rfl rfl)
theorem dJ10_rotateLeft_37 : decode cJ10_rotateLeft 37 = .ok (.putfield 124, 3) := dk_181 0 124 (dk_at dksJ10_rotateLeft_1 13 rfl rfl)
theorem dJ10_rotateLeft_40 : decode cJ10_rotateLeft 40 = .ok (.aload_n 1, 1) := dk_43 (dk_at dksJ10_rotateLeft_1 16 rfl rfl)
theorem dJ10_rotateLeft_41 : decode cJ10_rotateLeft 41 = .ok (.getfield 124, 3) := dk_180 0 124 (dk_at dksJ10_rotateLeft_1 17 rfl rfl)
theorem dJ10_rotateLeft_44 : decode cJ10_rotateLeft 44 = .ok (.ifnonnull 11, 3) := dk_199 0 11 (dk_at dksJ10_rotateLeft_1 20 rfl rfl)
theorem dJ10_rotateLeft_47 : decode cJ10_rotateLeft 47 = .ok (.aload_n 0, 1) := dk_42 (dk_at dksJ10_rotateLeft_1 23 rfl rfl)
theorem dJ10_rotateLeft_48 : decode cJ10_rotateLeft 48 = .ok (.aload_n 2, 1) := dk_44 (dk_at dksJ10_rotateLeft_2 0 rfl rfl)
theorem dJ10_rotateLeft_49 : decode cJ10_rotateLeft 49 = .ok (.putfield 101, 3) := dk_181 0 101 (dk_at dksJ10_rotateLeft_2 1 rfl rfl)
theorem dJ10_rotateLeft_52 : decode cJ10_rotateLeft 52 = .ok (.goto 33, 3) := dk_167 0 33 (dk_at dksJ10_rotateLeft_2 4 rfl rfl)
theorem dJ10_rotateLeft_55 : decode cJ10_rotateLeft 55 = .ok (.aload_n 1, 1) := dk_43 (dk_at dksJ10_rotateLeft_2 7 rfl rfl)
theorem dJ10_rotateLeft_56 : decode cJ10_rotateLeft 56 = .ok (.getfield 124, 3) := dk_180 0 124 (dk_at dksJ10_rotateLeft_2 8 rfl rfl)
theorem dJ10_rotateLeft_59 : decode cJ10_rotateLeft 59 = .ok (.getfield 111, 3) := dk_180 0 111 (dk_at dksJ10_rotateLeft_2 11 rfl rfl)
theorem dJ10_rotateLeft_62 : decode cJ10_rotateLeft 62 = .ok (.aload_n 1, 1) := dk_43 (dk_at dksJ10_rotateLeft_2 14 rfl rfl)
theorem dJ10_rotateLeft_63 : decode cJ10_rotateLeft 63 = .ok (.if_acmp .ne 14, 3) := dk_166 0 14 (dk_at dksJ10_rotateLeft_2 15 rfl rfl)
theorem dJ10_rotateLeft_66 : decode cJ10_rotateLeft 66 = .ok (.aload_n 1, 1) := dk_43 (dk_at dksJ10_rotateLeft_2 18 rfl rfl)
theorem dJ10_rotateLeft_67 : decode cJ10_rotateLeft 67 = .ok (.getfield 124, 3) := dk_180 0 124 (dk_at dksJ10_rotateLeft_2 19 rfl rfl)
theorem dJ10_rotateLeft_70 : decode cJ10_rotateLeft 70 = .ok (.aload_n 2, 1) := dk_44 (dk_at dksJ10_rotateLeft_2 22 rfl rfl)
theorem dJ10_rotateLeft_71 : decode cJ10_rotateLeft 71 = .ok (.putfield 111, 3) := dk_181 0 111 (dk_at dksJ10_rotateLeft_3 0 rfl rfl)
theorem dJ10_rotateLeft_74 : decode cJ10_rotateLeft 74 = .ok (.goto 11, 3) := dk_167 0 11 (dk_at dksJ10_rotateLeft_3 3 rfl rfl)
theorem dJ10_rotateLeft_77 : decode cJ10_rotateLeft 77 = .ok (.aload_n 1, 1) := dk_43 (dk_at dksJ10_rotateLeft_3 6 rfl rfl)
theorem dJ10_rotateLeft_78 : decode cJ10_rotateLeft 78 = .ok (.getfield 124, 3) := dk_180 0 124 (dk_at dksJ10_rotateLeft_3 7 rfl rfl)
theorem dJ10_rotateLeft_81 : decode cJ10_rotateLeft 81 = .ok (.aload_n 2, 1) := dk_44 (dk_at dksJ10_rotateLeft_3 10 rfl rfl)
theorem dJ10_rotateLeft_82 : decode cJ10_rotateLeft 82 = .ok (.putfield 114, 3) := dk_181 0 114 (dk_at dksJ10_rotateLeft_3 11 rfl rfl)
theorem dJ10_rotateLeft_85 : decode cJ10_rotateLeft 85 = .ok (.aload_n 2, 1) := dk_44 (dk_at dksJ10_rotateLeft_3 14 rfl rfl)
theorem dJ10_rotateLeft_86 : decode cJ10_rotateLeft 86 = .ok (.aload_n 1, 1) := dk_43 (dk_at dksJ10_rotateLeft_3 15 rfl rfl)
theorem dJ10_rotateLeft_87 : decode cJ10_rotateLeft 87 = .ok (.putfield 111, 3) := dk_181 0 111 (dk_at dksJ10_rotateLeft_3 16 rfl rfl)
theorem dJ10_rotateLeft_90 : decode cJ10_rotateLeft 90 = .ok (.aload_n 1, 1) := dk_43 (dk_at dksJ10_rotateLeft_3 19 rfl rfl)
theorem dJ10_rotateLeft_91 : decode cJ10_rotateLeft 91 = .ok (.aload_n 2, 1) := dk_44 (dk_at dksJ10_rotateLeft_3 20 rfl rfl)
theorem dJ10_rotateLeft_92 : decode cJ10_rotateLeft 92 = .ok (.putfield 124, 3) := dk_181 0 124 (dk_at dksJ10_rotateLeft_3 21 rfl rfl)
theorem dJ10_rotateLeft_95 : decode cJ10_rotateLeft 95 = .ok (.return_, 1) := dk_177 (dk_at dksJ10_rotateLeft_4 0 rfl rfl)
abbrev cJ10_rotateRight : ByteArray := prog_70_method_82_code
def yJ10_rotateRight : MethodName := ⟨RJ10, "rotateRight", "(Ljava/util/TreeMap$Entry;)V"⟩
def dkwJ10_rotateRight_4 : List UInt8 := [177]
abbrev dktJ10_rotateRight_4 : List UInt8 := dkwJ10_rotateRight_4 ++ []
def dkwJ10_rotateRight_3 : List UInt8 := [181, 0, 114, 167, 0, 11, 43, 180, 0, 124, 44, 181, 0, 111, 44, 43, 181, 0, 114, 43, 44, 181, 0, 124]
abbrev dktJ10_rotateRight_3 : List UInt8 := dkwJ10_rotateRight_3 ++ dktJ10_rotateRight_4
def dkwJ10_rotateRight_2 : List UInt8 := [44, 181, 0, 101, 167, 0, 33, 43, 180, 0, 124, 180, 0, 114, 43, 166, 0, 14, 43, 180, 0, 124, 44]
abbrev dktJ10_rotateRight_2 : List UInt8 := dkwJ10_rotateRight_2 ++ dktJ10_rotateRight_3
def dkwJ10_rotateRight_1 : List UInt8 := [44, 180, 0, 114, 43, 181, 0, 124, 44, 43, 180, 0, 124, 181, 0, 124, 43, 180, 0, 124, 199, 0, 11, 42]
abbrev dktJ10_rotateRight_1 : List UInt8 := dkwJ10_rotateRight_1 ++ dktJ10_rotateRight_2
def dkwJ10_rotateRight_0 : List UInt8 := [43, 198, 0, 94, 43, 180, 0, 111, 77, 43, 44, 180, 0, 114, 181, 0, 111, 44, 180, 0, 114, 198, 0, 11]
abbrev dktJ10_rotateRight_0 : List UInt8 := dkwJ10_rotateRight_0 ++ dktJ10_rotateRight_1
theorem dksJ10_rotateRight_0 : cJ10_rotateRight.data.toList.drop 0 = dktJ10_rotateRight_0 := by decide +kernel
theorem dksJ10_rotateRight_1 : cJ10_rotateRight.data.toList.drop 24 = dktJ10_rotateRight_1 := dk_seg dksJ10_rotateRight_0 24 rfl rfl
theorem dksJ10_rotateRight_2 : cJ10_rotateRight.data.toList.drop 48 = dktJ10_rotateRight_2 := dk_seg dksJ10_rotateRight_1 24 rfl rfl
theorem dksJ10_rotateRight_3 : cJ10_rotateRight.data.toList.drop 71 = dktJ10_rotateRight_3 := dk_seg dksJ10_rotateRight_2 23 rfl rfl
theorem dksJ10_rotateRight_4 : cJ10_rotateRight.data.toList.drop 95 = dktJ10_rotateRight_4 := dk_seg dksJ10_rotateRight_3 24 rfl rfl
theorem dJ10_rotateRight_0 : decode cJ10_rotateRight 0 = .ok (.aload_n 1, 1) := dk_43 (dk_at dksJ10_rotateRight_0 0 rfl rfl)
theorem dJ10_rotateRight_1 : decode cJ10_rotateRight 1 = .ok (.ifnull 94, 3) := dk_198 0 94 (dk_at dksJ10_rotateRight_0 1 rfl rfl)
theorem dJ10_rotateRight_4 : decode cJ10_rotateRight 4 = .ok (.aload_n 1, 1) := dk_43 (dk_at dksJ10_rotateRight_0 4 rfl rfl)
theorem dJ10_rotateRight_5 : decode cJ10_rotateRight 5 = .ok (.getfield 111, 3) := dk_180 0 111 (dk_at dksJ10_rotateRight_0 5 rfl rfl)
theorem dJ10_rotateRight_8 : decode cJ10_rotateRight 8 = .ok (.astore_n 2, 1) := dk_77 (dk_at dksJ10_rotateRight_0 8 rfl rfl)
theorem dJ10_rotateRight_9 : decode cJ10_rotateRight 9 = .ok (.aload_n 1, 1) := dk_43 (dk_at dksJ10_rotateRight_0 9 rfl rfl)
theorem dJ10_rotateRight_10 : decode cJ10_rotateRight 10 = .ok (.aload_n 2, 1) := dk_44 (dk_at dksJ10_rotateRight_0 10 rfl rfl)
theorem dJ10_rotateRight_11 : decode cJ10_rotateRight 11 = .ok (.getfield 114, 3) := dk_180 0 114 (dk_at dksJ10_rotateRight_0 11 rfl rfl)
theorem dJ10_rotateRight_14 : decode cJ10_rotateRight 14 = .ok (.putfield 111, 3) := dk_181 0 111 (dk_at dksJ10_rotateRight_0 14 rfl rfl)
theorem dJ10_rotateRight_17 : decode cJ10_rotateRight 17 = .ok (.aload_n 2, 1) := dk_44 (dk_at dksJ10_rotateRight_0 17 rfl rfl)
theorem dJ10_rotateRight_18 : decode cJ10_rotateRight 18 = .ok (.getfield 114, 3) := dk_180 0 114 (dk_at dksJ10_rotateRight_0 18 rfl rfl)
theorem dJ10_rotateRight_21 : decode cJ10_rotateRight 21 = .ok (.ifnull 11, 3) := dk_198 0 11 (dk_at dksJ10_rotateRight_0 21 rfl rfl)
theorem dJ10_rotateRight_24 : decode cJ10_rotateRight 24 = .ok (.aload_n 2, 1) := dk_44 (dk_at dksJ10_rotateRight_1 0 rfl rfl)
theorem dJ10_rotateRight_25 : decode cJ10_rotateRight 25 = .ok (.getfield 114, 3) := dk_180 0 114 (dk_at dksJ10_rotateRight_1 1 rfl rfl)
theorem dJ10_rotateRight_28 : decode cJ10_rotateRight 28 = .ok (.aload_n 1, 1) := dk_43 (dk_at dksJ10_rotateRight_1 4 rfl rfl)
theorem dJ10_rotateRight_29 : decode cJ10_rotateRight 29 = .ok (.putfield 124, 3) := dk_181 0 124 (dk_at dksJ10_rotateRight_1 5 rfl rfl)
theorem dJ10_rotateRight_32 : decode cJ10_rotateRight 32 = .ok (.aload_n 2, 1) := dk_44 (dk_at dksJ10_rotateRight_1 8 rfl rfl)
theorem dJ10_rotateRight_33 : decode cJ10_rotateRight 33 = .ok (.aload_n 1, 1) := dk_43 (dk_at dksJ10_rotateRight_1 9 rfl rfl)
theorem dJ10_rotateRight_34 : decode cJ10_rotateRight 34 = .ok (.getfield 124, 3) := dk_180 0 124 (dk_at dksJ10_rotateRight_1 10 rfl rfl)
theorem dJ10_rotateRight_37 : decode cJ10_rotateRight 37 = .ok (.putfield 124, 3) := dk_181 0 124 (dk_at dksJ10_rotateRight_1 13 rfl rfl)
theorem dJ10_rotateRight_40 : decode cJ10_rotateRight 40 = .ok (.aload_n 1, 1) := dk_43 (dk_at dksJ10_rotateRight_1 16 rfl rfl)
theorem dJ10_rotateRight_41 : decode cJ10_rotateRight 41 = .ok (.getfield 124, 3) := dk_180 0 124 (dk_at dksJ10_rotateRight_1 17 rfl rfl)
theorem dJ10_rotateRight_44 : decode cJ10_rotateRight 44 = .ok (.ifnonnull 11, 3) := dk_199 0 11 (dk_at dksJ10_rotateRight_1 20 rfl rfl)
theorem dJ10_rotateRight_47 : decode cJ10_rotateRight 47 = .ok (.aload_n 0, 1) := dk_42 (dk_at dksJ10_rotateRight_1 23 rfl rfl)
theorem dJ10_rotateRight_48 : decode cJ10_rotateRight 48 = .ok (.aload_n 2, 1) := dk_44 (dk_at dksJ10_rotateRight_2 0 rfl rfl)
theorem dJ10_rotateRight_49 : decode cJ10_rotateRight 49 = .ok (.putfield 101, 3) := dk_181 0 101 (dk_at dksJ10_rotateRight_2 1 rfl rfl)
theorem dJ10_rotateRight_52 : decode cJ10_rotateRight 52 = .ok (.goto 33, 3) := dk_167 0 33 (dk_at dksJ10_rotateRight_2 4 rfl rfl)
theorem dJ10_rotateRight_55 : decode cJ10_rotateRight 55 = .ok (.aload_n 1, 1) := dk_43 (dk_at dksJ10_rotateRight_2 7 rfl rfl)
theorem dJ10_rotateRight_56 : decode cJ10_rotateRight 56 = .ok (.getfield 124, 3) := dk_180 0 124 (dk_at dksJ10_rotateRight_2 8 rfl rfl)
theorem dJ10_rotateRight_59 : decode cJ10_rotateRight 59 = .ok (.getfield 114, 3) := dk_180 0 114 (dk_at dksJ10_rotateRight_2 11 rfl rfl)
theorem dJ10_rotateRight_62 : decode cJ10_rotateRight 62 = .ok (.aload_n 1, 1) := dk_43 (dk_at dksJ10_rotateRight_2 14 rfl rfl)
theorem dJ10_rotateRight_63 : decode cJ10_rotateRight 63 = .ok (.if_acmp .ne 14, 3) := dk_166 0 14 (dk_at dksJ10_rotateRight_2 15 rfl rfl)
theorem dJ10_rotateRight_66 : decode cJ10_rotateRight 66 = .ok (.aload_n 1, 1) := dk_43 (dk_at dksJ10_rotateRight_2 18 rfl rfl)
theorem dJ10_rotateRight_67 : decode cJ10_rotateRight 67 = .ok (.getfield 124, 3) := dk_180 0 124 (dk_at dksJ10_rotateRight_2 19 rfl rfl)
theorem dJ10_rotateRight_70 : decode cJ10_rotateRight 70 = .ok (.aload_n 2, 1) := dk_44 (dk_at dksJ10_rotateRight_2 22 rfl rfl)
theorem dJ10_rotateRight_71 : decode cJ10_rotateRight 71 = .ok (.putfield 114, 3) := dk_181 0 114 (dk_at dksJ10_rotateRight_3 0 rfl rfl)
theorem dJ10_rotateRight_74 : decode cJ10_rotateRight 74 = .ok (.goto 11, 3) := dk_167 0 11 (dk_at dksJ10_rotateRight_3 3 rfl rfl)
theorem dJ10_rotateRight_77 : decode cJ10_rotateRight 77 = .ok (.aload_n 1, 1) := dk_43 (dk_at dksJ10_rotateRight_3 6 rfl rfl)
theorem dJ10_rotateRight_78 : decode cJ10_rotateRight 78 = .ok (.getfield 124, 3) := dk_180 0 124 (dk_at dksJ10_rotateRight_3 7 rfl rfl)
theorem dJ10_rotateRight_81 : decode cJ10_rotateRight 81 = .ok (.aload_n 2, 1) := dk_44 (dk_at dksJ10_rotateRight_3 10 rfl rfl)
theorem dJ10_rotateRight_82 : decode cJ10_rotateRight 82 = .ok (.putfield 111, 3) := dk_181 0 111 (dk_at dksJ10_rotateRight_3 11 rfl rfl)
theorem dJ10_rotateRight_85 : decode cJ10_rotateRight 85 = .ok (.aload_n 2, 1) := dk_44 (dk_at dksJ10_rotateRight_3 14 rfl rfl)
theorem dJ10_rotateRight_86 : decode cJ10_rotateRight 86 = .ok (.aload_n 1, 1) := dk_43 (dk_at dksJ10_rotateRight_3 15 rfl rfl)
theorem dJ10_rotateRight_87 : decode cJ10_rotateRight 87 = .ok (.putfield 114, 3) := dk_181 0 114 (dk_at dksJ10_rotateRight_3 16 rfl rfl)
theorem dJ10_rotateRight_90 : decode cJ10_rotateRight 90 = .ok (.aload_n 1, 1) := dk_43 (dk_at dksJ10_rotateRight_3 19 rfl rfl)
theorem dJ10_rotateRight_91 : decode cJ10_rotateRight 91 = .ok (.aload_n 2, 1) := dk_44 (dk_at dksJ10_rotateRight_3 20 rfl rfl)
theorem dJ10_rotateRight_92 : decode cJ10_rotateRight 92 = .ok (.putfield 124, 3) := dk_181 0 124 (dk_at dksJ10_rotateRight_3 21 rfl rfl)
theorem dJ10_rotateRight_95 : decode cJ10_rotateRight 95 = .ok (.return_, 1) := dk_177 (dk_at dksJ10_rotateRight_4 0 rfl rfl)
abbrev cJ10_size : ByteArray := prog_70_method_5_code
def yJ10_size : MethodName := ⟨RJ10, "size", "()I"⟩
theorem dJ10_size_0 : decode cJ10_size 0 = .ok (.aload_n 0, 1) := by decide +kernel
theorem dJ10_size_1 : decode cJ10_size 1 = .ok (.getfield 7, 3) := by decide +kernel
theorem dJ10_size_4 : decode cJ10_size 4 = .ok (.ireturn, 1) := by decide +kernel
abbrev cJ10_get : ByteArray := prog_70_method_8_code
def yJ10_get : MethodName := ⟨RJ10, "get", "(Ljava/lang/Object;)Ljava/lang/Object;"⟩
def dkwJ10_get_0 : List UInt8 := [42, 43, 182, 0, 50, 77, 44, 199, 0, 7, 1, 167, 0, 7, 44, 180, 0, 58, 176]
abbrev dktJ10_get_0 : List UInt8 := dkwJ10_get_0 ++ []
theorem dksJ10_get_0 : cJ10_get.data.toList.drop 0 = dktJ10_get_0 := by decide +kernel
theorem dJ10_get_0 : decode cJ10_get 0 = .ok (.aload_n 0, 1) := dk_42 (dk_at dksJ10_get_0 0 rfl rfl)
theorem dJ10_get_1 : decode cJ10_get 1 = .ok (.aload_n 1, 1) := dk_43 (dk_at dksJ10_get_0 1 rfl rfl)
theorem dJ10_get_2 : decode cJ10_get 2 = .ok (.invokevirtual 50, 3) := dk_182 0 50 (dk_at dksJ10_get_0 2 rfl rfl)
theorem dJ10_get_5 : decode cJ10_get 5 = .ok (.astore_n 2, 1) := dk_77 (dk_at dksJ10_get_0 5 rfl rfl)
theorem dJ10_get_6 : decode cJ10_get 6 = .ok (.aload_n 2, 1) := dk_44 (dk_at dksJ10_get_0 6 rfl rfl)
theorem dJ10_get_7 : decode cJ10_get 7 = .ok (.ifnonnull 7, 3) := dk_199 0 7 (dk_at dksJ10_get_0 7 rfl rfl)
theorem dJ10_get_10 : decode cJ10_get 10 = .ok (.aconst_null, 1) := dk_1 (dk_at dksJ10_get_0 10 rfl rfl)
theorem dJ10_get_11 : decode cJ10_get 11 = .ok (.goto 7, 3) := dk_167 0 7 (dk_at dksJ10_get_0 11 rfl rfl)
theorem dJ10_get_14 : decode cJ10_get 14 = .ok (.aload_n 2, 1) := dk_44 (dk_at dksJ10_get_0 14 rfl rfl)
theorem dJ10_get_15 : decode cJ10_get 15 = .ok (.getfield 58, 3) := dk_180 0 58 (dk_at dksJ10_get_0 15 rfl rfl)
theorem dJ10_get_18 : decode cJ10_get 18 = .ok (.areturn, 1) := dk_176 (dk_at dksJ10_get_0 18 rfl rfl)
abbrev cJ10_getEntry : ByteArray := prog_70_method_15_code
def yJ10_getEntry : MethodName := ⟨RJ10, "getEntry", "(Ljava/lang/Object;)Ljava/util/TreeMap$Entry;"⟩
def dkwJ10_getEntry_3 : List UInt8 := [45, 176, 167, 255, 212, 1, 176]
abbrev dktJ10_getEntry_3 : List UInt8 := dkwJ10_getEntry_3 ++ []
def dkwJ10_getEntry_2 : List UInt8 := [156, 0, 11, 45, 180, 0, 111, 78, 167, 0, 18, 21, 4, 158, 0, 11, 45, 180, 0, 114, 78, 167, 0, 5]
abbrev dktJ10_getEntry_2 : List UInt8 := dkwJ10_getEntry_2 ++ dktJ10_getEntry_3
def dkwJ10_getEntry_1 : List UInt8 := [180, 0, 101, 78, 45, 198, 0, 46, 44, 45, 180, 0, 105, 185, 0, 107, 2, 0, 54, 4, 21, 4]
abbrev dktJ10_getEntry_1 : List UInt8 := dkwJ10_getEntry_1 ++ dktJ10_getEntry_2
def dkwJ10_getEntry_0 : List UInt8 := [42, 180, 0, 16, 198, 0, 9, 42, 43, 182, 0, 92, 176, 43, 184, 0, 95, 87, 43, 192, 0, 99, 77, 42]
abbrev dktJ10_getEntry_0 : List UInt8 := dkwJ10_getEntry_0 ++ dktJ10_getEntry_1
theorem dksJ10_getEntry_0 : cJ10_getEntry.data.toList.drop 0 = dktJ10_getEntry_0 := by decide +kernel
theorem dksJ10_getEntry_1 : cJ10_getEntry.data.toList.drop 24 = dktJ10_getEntry_1 := dk_seg dksJ10_getEntry_0 24 rfl rfl
theorem dksJ10_getEntry_2 : cJ10_getEntry.data.toList.drop 46 = dktJ10_getEntry_2 := dk_seg dksJ10_getEntry_1 22 rfl rfl
theorem dksJ10_getEntry_3 : cJ10_getEntry.data.toList.drop 70 = dktJ10_getEntry_3 := dk_seg dksJ10_getEntry_2 24 rfl rfl
theorem dJ10_getEntry_0 : decode cJ10_getEntry 0 = .ok (.aload_n 0, 1) := dk_42 (dk_at dksJ10_getEntry_0 0 rfl rfl)
theorem dJ10_getEntry_1 : decode cJ10_getEntry 1 = .ok (.getfield 16, 3) := dk_180 0 16 (dk_at dksJ10_getEntry_0 1 rfl rfl)
theorem dJ10_getEntry_4 : decode cJ10_getEntry 4 = .ok (.ifnull 9, 3) := dk_198 0 9 (dk_at dksJ10_getEntry_0 4 rfl rfl)
theorem dJ10_getEntry_7 : decode cJ10_getEntry 7 = .ok (.aload_n 0, 1) := dk_42 (dk_at dksJ10_getEntry_0 7 rfl rfl)
theorem dJ10_getEntry_8 : decode cJ10_getEntry 8 = .ok (.aload_n 1, 1) := dk_43 (dk_at dksJ10_getEntry_0 8 rfl rfl)
theorem dJ10_getEntry_9 : decode cJ10_getEntry 9 = .ok (.invokevirtual 92, 3) := dk_182 0 92 (dk_at dksJ10_getEntry_0 9 rfl rfl)
theorem dJ10_getEntry_12 : decode cJ10_getEntry 12 = .ok (.areturn, 1) := dk_176 (dk_at dksJ10_getEntry_0 12 rfl rfl)
theorem dJ10_getEntry_13 : decode cJ10_getEntry 13 = .ok (.aload_n 1, 1) := dk_43 (dk_at dksJ10_getEntry_0 13 rfl rfl)
theorem dJ10_getEntry_14 : decode cJ10_getEntry 14 = .ok (.invokestatic 95, 3) := dk_184 0 95 (dk_at dksJ10_getEntry_0 14 rfl rfl)
theorem dJ10_getEntry_17 : decode cJ10_getEntry 17 = .ok (.pop, 1) := dk_87 (dk_at dksJ10_getEntry_0 17 rfl rfl)
theorem dJ10_getEntry_18 : decode cJ10_getEntry 18 = .ok (.aload_n 1, 1) := dk_43 (dk_at dksJ10_getEntry_0 18 rfl rfl)
theorem dJ10_getEntry_19 : decode cJ10_getEntry 19 = .ok (.checkcast 99, 3) := dk_192 0 99 (dk_at dksJ10_getEntry_0 19 rfl rfl)
theorem dJ10_getEntry_22 : decode cJ10_getEntry 22 = .ok (.astore_n 2, 1) := dk_77 (dk_at dksJ10_getEntry_0 22 rfl rfl)
theorem dJ10_getEntry_23 : decode cJ10_getEntry 23 = .ok (.aload_n 0, 1) := dk_42 (dk_at dksJ10_getEntry_0 23 rfl rfl)
theorem dJ10_getEntry_24 : decode cJ10_getEntry 24 = .ok (.getfield 101, 3) := dk_180 0 101 (dk_at dksJ10_getEntry_1 0 rfl rfl)
theorem dJ10_getEntry_27 : decode cJ10_getEntry 27 = .ok (.astore_n 3, 1) := dk_78 (dk_at dksJ10_getEntry_1 3 rfl rfl)
theorem dJ10_getEntry_28 : decode cJ10_getEntry 28 = .ok (.aload_n 3, 1) := dk_45 (dk_at dksJ10_getEntry_1 4 rfl rfl)
theorem dJ10_getEntry_29 : decode cJ10_getEntry 29 = .ok (.ifnull 46, 3) := dk_198 0 46 (dk_at dksJ10_getEntry_1 5 rfl rfl)
theorem dJ10_getEntry_32 : decode cJ10_getEntry 32 = .ok (.aload_n 2, 1) := dk_44 (dk_at dksJ10_getEntry_1 8 rfl rfl)
theorem dJ10_getEntry_33 : decode cJ10_getEntry 33 = .ok (.aload_n 3, 1) := dk_45 (dk_at dksJ10_getEntry_1 9 rfl rfl)
theorem dJ10_getEntry_34 : decode cJ10_getEntry 34 = .ok (.getfield 105, 3) := dk_180 0 105 (dk_at dksJ10_getEntry_1 10 rfl rfl)
theorem dJ10_getEntry_37 : decode cJ10_getEntry 37 = .ok (.invokeinterface 107 2, 5) := by decide +kernel
theorem dJ10_getEntry_42 : decode cJ10_getEntry 42 = .ok (.istore 4, 2) := dk_54 4 (dk_at dksJ10_getEntry_1 18 rfl rfl)
theorem dJ10_getEntry_44 : decode cJ10_getEntry 44 = .ok (.iload 4, 2) := dk_21 4 (dk_at dksJ10_getEntry_1 20 rfl rfl)
theorem dJ10_getEntry_46 : decode cJ10_getEntry 46 = .ok (.ifCond .ge 11, 3) := dk_156 0 11 (dk_at dksJ10_getEntry_2 0 rfl rfl)
theorem dJ10_getEntry_49 : decode cJ10_getEntry 49 = .ok (.aload_n 3, 1) := dk_45 (dk_at dksJ10_getEntry_2 3 rfl rfl)
theorem dJ10_getEntry_50 : decode cJ10_getEntry 50 = .ok (.getfield 111, 3) := dk_180 0 111 (dk_at dksJ10_getEntry_2 4 rfl rfl)
theorem dJ10_getEntry_53 : decode cJ10_getEntry 53 = .ok (.astore_n 3, 1) := dk_78 (dk_at dksJ10_getEntry_2 7 rfl rfl)
theorem dJ10_getEntry_54 : decode cJ10_getEntry 54 = .ok (.goto 18, 3) := dk_167 0 18 (dk_at dksJ10_getEntry_2 8 rfl rfl)
theorem dJ10_getEntry_57 : decode cJ10_getEntry 57 = .ok (.iload 4, 2) := dk_21 4 (dk_at dksJ10_getEntry_2 11 rfl rfl)
theorem dJ10_getEntry_59 : decode cJ10_getEntry 59 = .ok (.ifCond .le 11, 3) := dk_158 0 11 (dk_at dksJ10_getEntry_2 13 rfl rfl)
theorem dJ10_getEntry_62 : decode cJ10_getEntry 62 = .ok (.aload_n 3, 1) := dk_45 (dk_at dksJ10_getEntry_2 16 rfl rfl)
theorem dJ10_getEntry_63 : decode cJ10_getEntry 63 = .ok (.getfield 114, 3) := dk_180 0 114 (dk_at dksJ10_getEntry_2 17 rfl rfl)
theorem dJ10_getEntry_66 : decode cJ10_getEntry 66 = .ok (.astore_n 3, 1) := dk_78 (dk_at dksJ10_getEntry_2 20 rfl rfl)
theorem dJ10_getEntry_67 : decode cJ10_getEntry 67 = .ok (.goto 5, 3) := dk_167 0 5 (dk_at dksJ10_getEntry_2 21 rfl rfl)
theorem dJ10_getEntry_70 : decode cJ10_getEntry 70 = .ok (.aload_n 3, 1) := dk_45 (dk_at dksJ10_getEntry_3 0 rfl rfl)
theorem dJ10_getEntry_71 : decode cJ10_getEntry 71 = .ok (.areturn, 1) := dk_176 (dk_at dksJ10_getEntry_3 1 rfl rfl)
theorem dJ10_getEntry_72 : decode cJ10_getEntry 72 = .ok (.goto (-44), 3) := dk_167 255 212 (dk_at dksJ10_getEntry_3 2 rfl rfl)
theorem dJ10_getEntry_75 : decode cJ10_getEntry 75 = .ok (.aconst_null, 1) := dk_1 (dk_at dksJ10_getEntry_3 5 rfl rfl)
theorem dJ10_getEntry_76 : decode cJ10_getEntry 76 = .ok (.areturn, 1) := dk_176 (dk_at dksJ10_getEntry_3 6 rfl rfl)
abbrev cJ10_getEntryUsingComparator : ByteArray := prog_70_method_16_code
def yJ10_getEntryUsingComparator : MethodName := ⟨RJ10, "getEntryUsingComparator", "(Ljava/lang/Object;)Ljava/util/TreeMap$Entry;"⟩
def dkwJ10_getEntryUsingComparator_3 : List UInt8 := [1, 176]
abbrev dktJ10_getEntryUsingComparator_3 : List UInt8 := dkwJ10_getEntryUsingComparator_3 ++ []
def dkwJ10_getEntryUsingComparator_2 : List UInt8 := [167, 0, 21, 21, 5, 158, 0, 13, 25, 4, 180, 0, 114, 58, 4, 167, 0, 6, 25, 4, 176, 167, 255, 204]
abbrev dktJ10_getEntryUsingComparator_2 : List UInt8 := dkwJ10_getEntryUsingComparator_2 ++ dktJ10_getEntryUsingComparator_3
def dkwJ10_getEntryUsingComparator_1 : List UInt8 := [25, 4, 180, 0, 105, 185, 0, 117, 3, 0, 54, 5, 21, 5, 156, 0, 13, 25, 4, 180, 0, 111, 58, 4]
abbrev dktJ10_getEntryUsingComparator_1 : List UInt8 := dkwJ10_getEntryUsingComparator_1 ++ dktJ10_getEntryUsingComparator_2
def dkwJ10_getEntryUsingComparator_0 : List UInt8 := [43, 77, 42, 180, 0, 16, 78, 45, 198, 0, 64, 42, 180, 0, 101, 58, 4, 25, 4, 198, 0, 53, 45, 44]
abbrev dktJ10_getEntryUsingComparator_0 : List UInt8 := dkwJ10_getEntryUsingComparator_0 ++ dktJ10_getEntryUsingComparator_1
theorem dksJ10_getEntryUsingComparator_0 : cJ10_getEntryUsingComparator.data.toList.drop 0 = dktJ10_getEntryUsingComparator_0 := by decide +kernel
theorem dksJ10_getEntryUsingComparator_1 : cJ10_getEntryUsingComparator.data.toList.drop 24 = dktJ10_getEntryUsingComparator_1 := dk_seg dksJ10_getEntryUsingComparator_0 24 rfl rfl
theorem dksJ10_getEntryUsingComparator_2 : cJ10_getEntryUsingComparator.data.toList.drop 48 = dktJ10_getEntryUsingComparator_2 := dk_seg dksJ10_getEntryUsingComparator_1 24 rfl rfl
theorem dksJ10_getEntryUsingComparator_3 : cJ10_getEntryUsingComparator.data.toList.drop 72 = dktJ10_getEntryUsingComparator_3 := dk_seg dksJ10_getEntryUsingComparator_2 24 rfl rfl
theorem dJ10_getEntryUsingComparator_0 : decode cJ10_getEntryUsingComparator 0 = .ok (.aload_n 1, 1) := dk_43 (dk_at dksJ10_getEntryUsingComparator_0 0 rfl rfl)
theorem dJ10_getEntryUsingComparator_1 : decode cJ10_getEntryUsingComparator 1 = .ok (.astore_n 2, 1) := dk_77 (dk_at dksJ10_getEntryUsingComparator_0 1 rfl rfl)
theorem dJ10_getEntryUsingComparator_2 : decode cJ10_getEntryUsingComparator 2 = .ok (.aload_n 0, 1) := dk_42 (dk_at dksJ10_getEntryUsingComparator_0 2 rfl rfl)
theorem dJ10_getEntryUsingComparator_3 : decode cJ10_getEntryUsingComparator 3 = .ok (.getfield 16, 3) := dk_180 0 16 (dk_at dksJ10_getEntryUsingComparator_0 3 rfl rfl)
theorem dJ10_getEntryUsingComparator_6 : decode cJ10_getEntryUsingComparator 6 = .ok (.astore_n 3, 1) := dk_78 (dk_at dksJ10_getEntryUsingComparator_0 6 rfl rfl)
theorem dJ10_getEntryUsingComparator_7 : decode cJ10_getEntryUsingComparator 7 = .ok (.aload_n 3, 1) := dk_45 (dk_at dksJ10_getEntryUsingComparator_0 7 rfl rfl)
theorem dJ10_getEntryUsingComparator_8 : decode cJ10_getEntryUsingComparator 8 = .ok (.ifnull 64, 3) := dk_198 0 64 (dk_at dksJ10_getEntryUsingComparator_0 8 rfl rfl)
theorem dJ10_getEntryUsingComparator_11 : decode cJ10_getEntryUsingComparator 11 = .ok (.aload_n 0, 1) := dk_42 (dk_at dksJ10_getEntryUsingComparator_0 11 rfl rfl)
theorem dJ10_getEntryUsingComparator_12 : decode cJ10_getEntryUsingComparator 12 = .ok (.getfield 101, 3) := dk_180 0 101 (dk_at dksJ10_getEntryUsingComparator_0 12 rfl rfl)
theorem dJ10_getEntryUsingComparator_15 : decode cJ10_getEntryUsingComparator 15 = .ok (.astore 4, 2) := dk_58 4 (dk_at dksJ10_getEntryUsingComparator_0 15 rfl rfl)
theorem dJ10_getEntryUsingComparator_17 : decode cJ10_getEntryUsingComparator 17 = .ok (.aload 4, 2) := dk_25 4 (dk_at dksJ10_getEntryUsingComparator_0 17 rfl rfl)
theorem dJ10_getEntryUsingComparator_19 : decode cJ10_getEntryUsingComparator 19 = .ok (.ifnull 53, 3) := dk_198 0 53 (dk_at dksJ10_getEntryUsingComparator_0 19 rfl rfl)
theorem dJ10_getEntryUsingComparator_22 : decode cJ10_getEntryUsingComparator 22 = .ok (.aload_n 3, 1) := dk_45 (dk_at dksJ10_getEntryUsingComparator_0 22 rfl rfl)
theorem dJ10_getEntryUsingComparator_23 : decode cJ10_getEntryUsingComparator 23 = .ok (.aload_n 2, 1) := dk_44 (dk_at dksJ10_getEntryUsingComparator_0 23 rfl rfl)
theorem dJ10_getEntryUsingComparator_24 : decode cJ10_getEntryUsingComparator 24 = .ok (.aload 4, 2) := dk_25 4 (dk_at dksJ10_getEntryUsingComparator_1 0 rfl rfl)
theorem dJ10_getEntryUsingComparator_26 : decode cJ10_getEntryUsingComparator 26 = .ok (.getfield 105, 3) := dk_180 0 105 (dk_at dksJ10_getEntryUsingComparator_1 2 rfl rfl)
theorem dJ10_getEntryUsingComparator_29 : decode cJ10_getEntryUsingComparator 29 = .ok (.invokeinterface 117 3, 5) := by decide +kernel
theorem dJ10_getEntryUsingComparator_34 : decode cJ10_getEntryUsingComparator 34 = .ok (.istore 5, 2) := dk_54 5 (dk_at dksJ10_getEntryUsingComparator_1 10 rfl rfl)
theorem dJ10_getEntryUsingComparator_36 : decode cJ10_getEntryUsingComparator 36 = .ok (.iload 5, 2) := dk_21 5 (dk_at dksJ10_getEntryUsingComparator_1 12 rfl rfl)
theorem dJ10_getEntryUsingComparator_38 : decode cJ10_getEntryUsingComparator 38 = .ok (.ifCond .ge 13, 3) := dk_156 0 13 (dk_at dksJ10_getEntryUsingComparator_1 14 rfl rfl)
theorem dJ10_getEntryUsingComparator_41 : decode cJ10_getEntryUsingComparator 41 = .ok (.aload 4, 2) := dk_25 4 (dk_at dksJ10_getEntryUsingComparator_1 17 rfl rfl)
theorem dJ10_getEntryUsingComparator_43 : decode cJ10_getEntryUsingComparator 43 = .ok (.getfield 111, 3) := dk_180 0 111 (dk_at dksJ10_getEntryUsingComparator_1 19 rfl rfl)
theorem dJ10_getEntryUsingComparator_46 : decode cJ10_getEntryUsingComparator 46 = .ok (.astore 4, 2) := dk_58 4 (dk_at dksJ10_getEntryUsingComparator_1 22 rfl rfl)
theorem dJ10_getEntryUsingComparator_48 : decode cJ10_getEntryUsingComparator 48 = .ok (.goto 21, 3) := dk_167 0 21 (dk_at dksJ10_getEntryUsingComparator_2 0 rfl rfl)
theorem dJ10_getEntryUsingComparator_51 : decode cJ10_getEntryUsingComparator 51 = .ok (.iload 5, 2) := dk_21 5 (dk_at dksJ10_getEntryUsingComparator_2 3 rfl rfl)
theorem dJ10_getEntryUsingComparator_53 : decode cJ10_getEntryUsingComparator 53 = .ok (.ifCond .le 13, 3) := dk_158 0 13 (dk_at dksJ10_getEntryUsingComparator_2 5 rfl rfl)
theorem dJ10_getEntryUsingComparator_56 : decode cJ10_getEntryUsingComparator 56 = .ok (.aload 4, 2) := dk_25 4 (dk_at dksJ10_getEntryUsingComparator_2 8 rfl rfl)
theorem dJ10_getEntryUsingComparator_58 : decode cJ10_getEntryUsingComparator 58 = .ok (.getfield 114, 3) := dk_180 0 114 (dk_at dksJ10_getEntryUsingComparator_2 10 rfl rfl)
theorem dJ10_getEntryUsingComparator_61 : decode cJ10_getEntryUsingComparator 61 = .ok (.astore 4, 2) := dk_58 4 (dk_at dksJ10_getEntryUsingComparator_2 13 rfl rfl)
theorem dJ10_getEntryUsingComparator_63 : decode cJ10_getEntryUsingComparator 63 = .ok (.goto 6, 3) := dk_167 0 6 (dk_at dksJ10_getEntryUsingComparator_2 15 rfl rfl)
theorem dJ10_getEntryUsingComparator_66 : decode cJ10_getEntryUsingComparator 66 = .ok (.aload 4, 2) := dk_25 4 (dk_at dksJ10_getEntryUsingComparator_2 18 rfl rfl)
theorem dJ10_getEntryUsingComparator_68 : decode cJ10_getEntryUsingComparator 68 = .ok (.areturn, 1) := dk_176 (dk_at dksJ10_getEntryUsingComparator_2 20 rfl rfl)
theorem dJ10_getEntryUsingComparator_69 : decode cJ10_getEntryUsingComparator 69 = .ok (.goto (-52), 3) := dk_167 255 204 (dk_at dksJ10_getEntryUsingComparator_2 21 rfl rfl)
theorem dJ10_getEntryUsingComparator_72 : decode cJ10_getEntryUsingComparator 72 = .ok (.aconst_null, 1) := dk_1 (dk_at dksJ10_getEntryUsingComparator_3 0 rfl rfl)
theorem dJ10_getEntryUsingComparator_73 : decode cJ10_getEntryUsingComparator 73 = .ok (.areturn, 1) := dk_176 (dk_at dksJ10_getEntryUsingComparator_3 1 rfl rfl)
abbrev cJ10_init_2 : ByteArray := prog_70_method_2_code
def yJ10_init_2 : MethodName := ⟨RJ10, "<init>", "(Ljava/util/Comparator;)V"⟩
def dkwJ10_init_2_0 : List UInt8 := [42, 183, 0, 1, 42, 3, 181, 0, 7, 42, 3, 181, 0, 13, 42, 43, 181, 0, 16, 177]
abbrev dktJ10_init_2_0 : List UInt8 := dkwJ10_init_2_0 ++ []
theorem dksJ10_init_2_0 : cJ10_init_2.data.toList.drop 0 = dktJ10_init_2_0 := by decide +kernel
theorem dJ10_init_2_0 : decode cJ10_init_2 0 = .ok (.aload_n 0, 1) := dk_42 (dk_at dksJ10_init_2_0 0 rfl rfl)
theorem dJ10_init_2_1 : decode cJ10_init_2 1 = .ok (.invokespecial 1, 3) := dk_183 0 1 (dk_at dksJ10_init_2_0 1 rfl rfl)
theorem dJ10_init_2_4 : decode cJ10_init_2 4 = .ok (.aload_n 0, 1) := dk_42 (dk_at dksJ10_init_2_0 4 rfl rfl)
theorem dJ10_init_2_5 : decode cJ10_init_2 5 = .ok (.iconst 0, 1) := dk_3 (dk_at dksJ10_init_2_0 5 rfl rfl)
theorem dJ10_init_2_6 : decode cJ10_init_2 6 = .ok (.putfield 7, 3) := dk_181 0 7 (dk_at dksJ10_init_2_0 6 rfl rfl)
theorem dJ10_init_2_9 : decode cJ10_init_2 9 = .ok (.aload_n 0, 1) := dk_42 (dk_at dksJ10_init_2_0 9 rfl rfl)
theorem dJ10_init_2_10 : decode cJ10_init_2 10 = .ok (.iconst 0, 1) := dk_3 (dk_at dksJ10_init_2_0 10 rfl rfl)
theorem dJ10_init_2_11 : decode cJ10_init_2 11 = .ok (.putfield 13, 3) := dk_181 0 13 (dk_at dksJ10_init_2_0 11 rfl rfl)
theorem dJ10_init_2_14 : decode cJ10_init_2 14 = .ok (.aload_n 0, 1) := dk_42 (dk_at dksJ10_init_2_0 14 rfl rfl)
theorem dJ10_init_2_15 : decode cJ10_init_2 15 = .ok (.aload_n 1, 1) := dk_43 (dk_at dksJ10_init_2_0 15 rfl rfl)
theorem dJ10_init_2_16 : decode cJ10_init_2 16 = .ok (.putfield 16, 3) := dk_181 0 16 (dk_at dksJ10_init_2_0 16 rfl rfl)
theorem dJ10_init_2_19 : decode cJ10_init_2 19 = .ok (.return_, 1) := dk_177 (dk_at dksJ10_init_2_0 19 rfl rfl)
abbrev cJ10_firstKey : ByteArray := prog_70_method_10_code
def yJ10_firstKey : MethodName := ⟨RJ10, "firstKey", "()Ljava/lang/Object;"⟩
def dkwJ10_firstKey_0 : List UInt8 := [42, 182, 0, 54, 184, 0, 72, 176]
abbrev dktJ10_firstKey_0 : List UInt8 := dkwJ10_firstKey_0 ++ []
theorem dksJ10_firstKey_0 : cJ10_firstKey.data.toList.drop 0 = dktJ10_firstKey_0 := by decide +kernel
theorem dJ10_firstKey_0 : decode cJ10_firstKey 0 = .ok (.aload_n 0, 1) := dk_42 (dk_at dksJ10_firstKey_0 0 rfl rfl)
theorem dJ10_firstKey_1 : decode cJ10_firstKey 1 = .ok (.invokevirtual 54, 3) := dk_182 0 54 (dk_at dksJ10_firstKey_0 1 rfl rfl)
theorem dJ10_firstKey_4 : decode cJ10_firstKey 4 = .ok (.invokestatic 72, 3) := dk_184 0 72 (dk_at dksJ10_firstKey_0 4 rfl rfl)
theorem dJ10_firstKey_7 : decode cJ10_firstKey 7 = .ok (.areturn, 1) := dk_176 (dk_at dksJ10_firstKey_0 7 rfl rfl)
abbrev cJ10_getFirstEntry : ByteArray := prog_70_method_72_code
def yJ10_getFirstEntry : MethodName := ⟨RJ10, "getFirstEntry", "()Ljava/util/TreeMap$Entry;"⟩
def dkwJ10_getFirstEntry_1 : List UInt8 := [43, 176]
abbrev dktJ10_getFirstEntry_1 : List UInt8 := dkwJ10_getFirstEntry_1 ++ []
def dkwJ10_getFirstEntry_0 : List UInt8 := [42, 180, 0, 101, 76, 43, 198, 0, 18, 43, 180, 0, 111, 198, 0, 11, 43, 180, 0, 111, 76, 167, 255, 244]
abbrev dktJ10_getFirstEntry_0 : List UInt8 := dkwJ10_getFirstEntry_0 ++ dktJ10_getFirstEntry_1
theorem dksJ10_getFirstEntry_0 : cJ10_getFirstEntry.data.toList.drop 0 = dktJ10_getFirstEntry_0 := by decide +kernel
theorem dksJ10_getFirstEntry_1 : cJ10_getFirstEntry.data.toList.drop 24 = dktJ10_getFirstEntry_1 := dk_seg dksJ10_getFirstEntry_0 24 rfl rfl
theorem dJ10_getFirstEntry_0 : decode cJ10_getFirstEntry 0 = .ok (.aload_n 0, 1) := dk_42 (dk_at dksJ10_getFirstEntry_0 0 rfl rfl)
theorem dJ10_getFirstEntry_1 : decode cJ10_getFirstEntry 1 = .ok (.getfield 101, 3) := dk_180 0 101 (dk_at dksJ10_getFirstEntry_0 1 rfl rfl)
theorem dJ10_getFirstEntry_4 : decode cJ10_getFirstEntry 4 = .ok (.astore_n 1, 1) := dk_76 (dk_at dksJ10_getFirstEntry_0 4 rfl rfl)
theorem dJ10_getFirstEntry_5 : decode cJ10_getFirstEntry 5 = .ok (.aload_n 1, 1) := dk_43 (dk_at dksJ10_getFirstEntry_0 5 rfl rfl)
theorem dJ10_getFirstEntry_6 : decode cJ10_getFirstEntry 6 = .ok (.ifnull 18, 3) := dk_198 0 18 (dk_at dksJ10_getFirstEntry_0 6 rfl rfl)
theorem dJ10_getFirstEntry_9 : decode cJ10_getFirstEntry 9 = .ok (.aload_n 1, 1) := dk_43 (dk_at dksJ10_getFirstEntry_0 9 rfl rfl)
theorem dJ10_getFirstEntry_10 : decode cJ10_getFirstEntry 10 = .ok (.getfield 111, 3) := dk_180 0 111 (dk_at dksJ10_getFirstEntry_0 10 rfl rfl)
theorem dJ10_getFirstEntry_13 : decode cJ10_getFirstEntry 13 = .ok (.ifnull 11, 3) := dk_198 0 11 (dk_at dksJ10_getFirstEntry_0 13 rfl rfl)
theorem dJ10_getFirstEntry_16 : decode cJ10_getFirstEntry 16 = .ok (.aload_n 1, 1) := dk_43 (dk_at dksJ10_getFirstEntry_0 16 rfl rfl)
theorem dJ10_getFirstEntry_17 : decode cJ10_getFirstEntry 17 = .ok (.getfield 111, 3) := dk_180 0 111 (dk_at dksJ10_getFirstEntry_0 17 rfl rfl)
theorem dJ10_getFirstEntry_20 : decode cJ10_getFirstEntry 20 = .ok (.astore_n 1, 1) := dk_76 (dk_at dksJ10_getFirstEntry_0 20 rfl rfl)
theorem dJ10_getFirstEntry_21 : decode cJ10_getFirstEntry 21 = .ok (.goto (-12), 3) := dk_167 255 244 (dk_at dksJ10_getFirstEntry_0 21 rfl rfl)
theorem dJ10_getFirstEntry_24 : decode cJ10_getFirstEntry 24 = .ok (.aload_n 1, 1) := dk_43 (dk_at dksJ10_getFirstEntry_1 0 rfl rfl)
theorem dJ10_getFirstEntry_25 : decode cJ10_getFirstEntry 25 = .ok (.areturn, 1) := dk_176 (dk_at dksJ10_getFirstEntry_1 1 rfl rfl)
abbrev cJ10_key : ByteArray := prog_70_method_71_code
def yJ10_key : MethodName := ⟨RJ10, "key", "(Ljava/util/TreeMap$Entry;)Ljava/lang/Object;"⟩
def dkwJ10_key_0 : List UInt8 := [42, 199, 0, 11, 187, 1, 31, 89, 183, 1, 33, 191, 42, 180, 0, 105, 176]
abbrev dktJ10_key_0 : List UInt8 := dkwJ10_key_0 ++ []
theorem dksJ10_key_0 : cJ10_key.data.toList.drop 0 = dktJ10_key_0 := by decide +kernel
theorem dJ10_key_0 : decode cJ10_key 0 = .ok (.aload_n 0, 1) := dk_42 (dk_at dksJ10_key_0 0 rfl rfl)
theorem dJ10_key_1 : decode cJ10_key 1 = .ok (.ifnonnull 11, 3) := dk_199 0 11 (dk_at dksJ10_key_0 1 rfl rfl)
theorem dJ10_key_4 : decode cJ10_key 4 = .ok (.new 287, 3) := dk_187 1 31 (dk_at dksJ10_key_0 4 rfl rfl)
theorem dJ10_key_7 : decode cJ10_key 7 = .ok (.dup, 1) := dk_89 (dk_at dksJ10_key_0 7 rfl rfl)
theorem dJ10_key_8 : decode cJ10_key 8 = .ok (.invokespecial 289, 3) := dk_183 1 33 (dk_at dksJ10_key_0 8 rfl rfl)
theorem dJ10_key_11 : decode cJ10_key 11 = .ok (.athrow, 1) := dk_191 (dk_at dksJ10_key_0 11 rfl rfl)
theorem dJ10_key_12 : decode cJ10_key 12 = .ok (.aload_n 0, 1) := dk_42 (dk_at dksJ10_key_0 12 rfl rfl)
theorem dJ10_key_13 : decode cJ10_key 13 = .ok (.getfield 105, 3) := dk_180 0 105 (dk_at dksJ10_key_0 13 rfl rfl)
theorem dJ10_key_16 : decode cJ10_key 16 = .ok (.areturn, 1) := dk_176 (dk_at dksJ10_key_0 16 rfl rfl)
theorem q89 : (Jvm.Cond.initialized "java/util/TreeMap") ∈ lw_all := lw_g (lw_at lw_m1 13 rfl) rfl
theorem q279 : (Jvm.Cond.instantiable "java/util/TreeMap" (9 : Nat)) ∈ lw_all := lw_g (lw_at lw_m1 203 rfl) rfl
theorem q281 : (Jvm.Cond.instanceMethod ({ cls := "java/util/TreeMap", name := "<init>", desc := "()V" } : Jvm.MethodName)) ∈ lw_all := lw_g (lw_at lw_m1 205 rfl) rfl
theorem q282 : (Jvm.Cond.code ({ cls := "java/util/TreeMap", name := "<init>", desc := "()V" } : Jvm.MethodName) prog_70_method_1_code (1 : Nat) (Option.none : Option Jvm.ClassFile.FieldType)) ∈ lw_all := lw_g (lw_at lw_m1 206 rfl) rfl
theorem q283 : (Jvm.Cond.methodLink "java/util/TreeMap" (1 : Nat) ({ cls := "java/util/AbstractMap", name := "<init>", desc := "()V" } : Jvm.MethodName)) ∈ lw_all := lw_g (lw_at lw_m1 207 rfl) rfl
theorem q287 : (Jvm.Cond.fieldLink "java/util/TreeMap" (16 : Nat) "java/util/TreeMap" "comparator" "Ljava/util/Comparator;") ∈ lw_all := lw_g (lw_at lw_m1 211 rfl) rfl
theorem q288 : (Jvm.Cond.fieldLink "java/util/TreeMap" (101 : Nat) "java/util/TreeMap" "root" "Ljava/util/TreeMap$Entry;") ∈ lw_all := lw_g (lw_at lw_m1 212 rfl) rfl
theorem q289 : (Jvm.Cond.fieldLink "java/util/TreeMap" (7 : Nat) "java/util/TreeMap" "size" "I") ∈ lw_all := lw_g (lw_at lw_m1 213 rfl) rfl
theorem q290 : (Jvm.Cond.fieldLink "java/util/TreeMap" (13 : Nat) "java/util/TreeMap" "modCount" "I") ∈ lw_all := lw_g (lw_at lw_m1 214 rfl) rfl
theorem q291 : (Jvm.Cond.fieldLink "java/util/TreeMap" (188 : Nat) "java/util/TreeMap" "entrySet" "Ljava/util/TreeMap$EntrySet;") ∈ lw_all := lw_g (lw_at lw_m1 215 rfl) rfl
theorem q292 : (Jvm.Cond.laysFinal "java/util/TreeMap" "java/util/TreeMap" "comparator" "Ljava/util/Comparator;") ∈ lw_all := lw_g (lw_at lw_m1 216 rfl) rfl
theorem q293 : (Jvm.Cond.soleField "java/util/TreeMap" "comparator") ∈ lw_all := lw_g (lw_at lw_m1 217 rfl) rfl
theorem q294 : (Jvm.Cond.lays "java/util/TreeMap" "java/util/TreeMap" "root" "Ljava/util/TreeMap$Entry;") ∈ lw_all := lw_g (lw_at lw_m1 218 rfl) rfl
theorem q295 : (Jvm.Cond.soleField "java/util/TreeMap" "root") ∈ lw_all := lw_g (lw_at lw_m1 219 rfl) rfl
theorem q296 : (Jvm.Cond.lays "java/util/TreeMap" "java/util/TreeMap" "size" "I") ∈ lw_all := lw_g (lw_at lw_m1 220 rfl) rfl
theorem q297 : (Jvm.Cond.soleField "java/util/TreeMap" "size") ∈ lw_all := lw_g (lw_at lw_m1 221 rfl) rfl
theorem q298 : (Jvm.Cond.lays "java/util/TreeMap" "java/util/TreeMap" "modCount" "I") ∈ lw_all := lw_g (lw_at lw_m1 222 rfl) rfl
theorem q299 : (Jvm.Cond.soleField "java/util/TreeMap" "modCount") ∈ lw_all := lw_g (lw_at lw_m1 223 rfl) rfl
theorem q300 : (Jvm.Cond.lays "java/util/TreeMap" "java/util/TreeMap" "entrySet" "Ljava/util/TreeMap$EntrySet;") ∈ lw_all := lw_g (lw_at lw_m1 224 rfl) rfl
theorem q301 : (Jvm.Cond.soleField "java/util/TreeMap" "entrySet") ∈ lw_all := lw_g (lw_at lw_m1 225 rfl) rfl
theorem q302 : (Jvm.Cond.lays "java/util/TreeMap" "java/util/TreeMap" "navigableKeySet" "Ljava/util/TreeMap$KeySet;") ∈ lw_all := lw_g (lw_at lw_m1 226 rfl) rfl
theorem q303 : (Jvm.Cond.soleField "java/util/TreeMap" "navigableKeySet") ∈ lw_all := lw_g (lw_at lw_m1 227 rfl) rfl
theorem q304 : (Jvm.Cond.lays "java/util/TreeMap" "java/util/TreeMap" "descendingMap" "Ljava/util/NavigableMap;") ∈ lw_all := lw_g (lw_at lw_m1 228 rfl) rfl
theorem q305 : (Jvm.Cond.soleField "java/util/TreeMap" "descendingMap") ∈ lw_all := lw_g (lw_at lw_m1 229 rfl) rfl
theorem q306 : (Jvm.Cond.lays "java/util/TreeMap" "java/util/AbstractMap" "keySet" "Ljava/util/Set;") ∈ lw_all := lw_g (lw_at lw_m1 230 rfl) rfl
theorem q308 : (Jvm.Cond.lays "java/util/TreeMap" "java/util/AbstractMap" "values" "Ljava/util/Collection;") ∈ lw_all := lw_g (lw_at lw_m1 232 rfl) rfl
theorem q310 : (Jvm.Cond.superclass "java/util/TreeMap" "java/util/AbstractMap") ∈ lw_all := lw_g (lw_at lw_m1 234 rfl) rfl
theorem q469 : (Jvm.Cond.selects "java/util/TreeMap" ({ cls := "java/lang/Object", name := "getClass", desc := "()Ljava/lang/Class;" } : Jvm.MethodName) ({ cls := "java/lang/Object", name := "getClass", desc := "()Ljava/lang/Class;" } : Jvm.MethodName)) ∈ lw_all := lw_g (lw_at lw_m2 153 rfl) rfl
theorem q584 : (Jvm.Cond.instanceMethod ({ cls := "java/util/TreeMap", name := "put", desc := "(Ljava/lang/Object;Ljava/lang/Object;)Ljava/lang/Object;" } : Jvm.MethodName)) ∈ lw_all := lw_g (lw_at lw_m3 28 rfl) rfl
theorem q585 : (Jvm.Cond.selects "java/util/TreeMap" ({ cls := "java/util/TreeMap", name := "put", desc := "(Ljava/lang/Object;Ljava/lang/Object;)Ljava/lang/Object;" } : Jvm.MethodName) ({ cls := "java/util/TreeMap", name := "put", desc := "(Ljava/lang/Object;Ljava/lang/Object;)Ljava/lang/Object;" } : Jvm.MethodName)) ∈ lw_all := lw_g (lw_at lw_m3 29 rfl) rfl
theorem q586 : (Jvm.Cond.code ({ cls := "java/util/TreeMap", name := "put", desc := "(Ljava/lang/Object;Ljava/lang/Object;)Ljava/lang/Object;" } : Jvm.MethodName) prog_70_method_21_code (3 : Nat) (Option.some (Jvm.ClassFile.FieldType.object "java/lang/Object"))) ∈ lw_all := lw_g (lw_at lw_m3 30 rfl) rfl
theorem q587 : (Jvm.Cond.methodLink "java/util/TreeMap" (127 : Nat) ({ cls := "java/util/TreeMap", name := "put", desc := "(Ljava/lang/Object;Ljava/lang/Object;Z)Ljava/lang/Object;" } : Jvm.MethodName)) ∈ lw_all := lw_g (lw_at lw_m3 31 rfl) rfl
theorem q588 : (Jvm.Cond.privateMethod ({ cls := "java/util/TreeMap", name := "put", desc := "(Ljava/lang/Object;Ljava/lang/Object;Z)Ljava/lang/Object;" } : Jvm.MethodName)) ∈ lw_tbl := lw_at lw_m3 32 rfl
theorem q589 : (Jvm.Cond.instanceMethod ({ cls := "java/util/TreeMap", name := "put", desc := "(Ljava/lang/Object;Ljava/lang/Object;Z)Ljava/lang/Object;" } : Jvm.MethodName)) ∈ lw_all := lw_g (lw_at lw_m3 33 rfl) rfl
theorem q590 : (Jvm.Cond.code ({ cls := "java/util/TreeMap", name := "put", desc := "(Ljava/lang/Object;Ljava/lang/Object;Z)Ljava/lang/Object;" } : Jvm.MethodName) prog_70_method_31_code (10 : Nat) (Option.some (Jvm.ClassFile.FieldType.object "java/lang/Object"))) ∈ lw_all := lw_g (lw_at lw_m3 34 rfl) rfl
theorem q591 : (Jvm.Cond.methodLink "java/util/TreeMap" (135 : Nat) ({ cls := "java/util/TreeMap", name := "addEntryToEmptyMap", desc := "(Ljava/lang/Object;Ljava/lang/Object;)V" } : Jvm.MethodName)) ∈ lw_all := lw_g (lw_at lw_m3 35 rfl) rfl
theorem q592 : (Jvm.Cond.privateMethod ({ cls := "java/util/TreeMap", name := "addEntryToEmptyMap", desc := "(Ljava/lang/Object;Ljava/lang/Object;)V" } : Jvm.MethodName)) ∈ lw_tbl := lw_at lw_m3 36 rfl
theorem q593 : (Jvm.Cond.instanceMethod ({ cls := "java/util/TreeMap", name := "addEntryToEmptyMap", desc := "(Ljava/lang/Object;Ljava/lang/Object;)V" } : Jvm.MethodName)) ∈ lw_all := lw_g (lw_at lw_m3 37 rfl) rfl
theorem q594 : (Jvm.Cond.code ({ cls := "java/util/TreeMap", name := "addEntryToEmptyMap", desc := "(Ljava/lang/Object;Ljava/lang/Object;)V" } : Jvm.MethodName) prog_70_method_30_code (3 : Nat) (Option.none : Option Jvm.ClassFile.FieldType)) ∈ lw_all := lw_g (lw_at lw_m3 38 rfl) rfl
theorem q595 : (Jvm.Cond.methodLink "java/util/TreeMap" (123 : Nat) ({ cls := "java/util/TreeMap", name := "compare", desc := "(Ljava/lang/Object;Ljava/lang/Object;)I" } : Jvm.MethodName)) ∈ lw_all := lw_g (lw_at lw_m3 39 rfl) rfl
theorem q596 : (Jvm.Cond.instanceMethod ({ cls := "java/util/TreeMap", name := "compare", desc := "(Ljava/lang/Object;Ljava/lang/Object;)I" } : Jvm.MethodName)) ∈ lw_all := lw_g (lw_at lw_m3 40 rfl) rfl
theorem q597 : (Jvm.Cond.selects "java/util/TreeMap" ({ cls := "java/util/TreeMap", name := "compare", desc := "(Ljava/lang/Object;Ljava/lang/Object;)I" } : Jvm.MethodName) ({ cls := "java/util/TreeMap", name := "compare", desc := "(Ljava/lang/Object;Ljava/lang/Object;)I" } : Jvm.MethodName)) ∈ lw_all := lw_g (lw_at lw_m3 41 rfl) rfl
theorem q598 : (Jvm.Cond.code ({ cls := "java/util/TreeMap", name := "compare", desc := "(Ljava/lang/Object;Ljava/lang/Object;)I" } : Jvm.MethodName) prog_70_method_67_code (3 : Nat) (Option.some Jvm.ClassFile.FieldType.int)) ∈ lw_all := lw_g (lw_at lw_m3 42 rfl) rfl
theorem q599 : (Jvm.Cond.classLink "java/util/TreeMap" (99 : Nat) "java/lang/Comparable") ∈ lw_all := lw_g (lw_at lw_m3 43 rfl) rfl
theorem q600 : (Jvm.Cond.interfaceEntry "java/util/TreeMap" (107 : Nat)) ∈ lw_tbl := lw_at lw_m3 44 rfl
theorem q601 : (Jvm.Cond.methodLink "java/util/TreeMap" (107 : Nat) ({ cls := "java/lang/Comparable", name := "compareTo", desc := "(Ljava/lang/Object;)I" } : Jvm.MethodName)) ∈ lw_all := lw_g (lw_at lw_m3 45 rfl) rfl
theorem q868 : (Jvm.Cond.interfaceEntry "java/util/TreeMap" (117 : Nat)) ∈ lw_tbl := lw_at lw_m4 72 rfl
theorem q869 : (Jvm.Cond.methodLink "java/util/TreeMap" (117 : Nat) ({ cls := "java/util/Comparator", name := "compare", desc := "(Ljava/lang/Object;Ljava/lang/Object;)I" } : Jvm.MethodName)) ∈ lw_all := lw_g (lw_at lw_m4 73 rfl) rfl
theorem q884 : (Jvm.Cond.classLink "java/util/TreeMap" (59 : Nat) "java/util/TreeMap$Entry") ∈ lw_all := lw_g (lw_at lw_m4 88 rfl) rfl
theorem q886 : (Jvm.Cond.methodLink "java/util/TreeMap" (167 : Nat) ({ cls := "java/util/TreeMap$Entry", name := "<init>", desc := "(Ljava/lang/Object;Ljava/lang/Object;Ljava/util/TreeMap$Entry;)V" } : Jvm.MethodName)) ∈ lw_all := lw_g (lw_at lw_m4 90 rfl) rfl
theorem q891 : (Jvm.Cond.fieldLink "java/util/TreeMap" (105 : Nat) "java/util/TreeMap$Entry" "key" "Ljava/lang/Object;") ∈ lw_all := lw_g (lw_at lw_m4 95 rfl) rfl
theorem q893 : (Jvm.Cond.fieldLink "java/util/TreeMap" (58 : Nat) "java/util/TreeMap$Entry" "value" "Ljava/lang/Object;") ∈ lw_all := lw_g (lw_at lw_m4 97 rfl) rfl
theorem q894 : (Jvm.Cond.fieldLink "java/util/TreeMap" (111 : Nat) "java/util/TreeMap$Entry" "left" "Ljava/util/TreeMap$Entry;") ∈ lw_all := lw_g (lw_at lw_m4 98 rfl) rfl
theorem q895 : (Jvm.Cond.fieldLink "java/util/TreeMap" (114 : Nat) "java/util/TreeMap$Entry" "right" "Ljava/util/TreeMap$Entry;") ∈ lw_all := lw_g (lw_at lw_m4 99 rfl) rfl
theorem q897 : (Jvm.Cond.fieldLink "java/util/TreeMap" (124 : Nat) "java/util/TreeMap$Entry" "parent" "Ljava/util/TreeMap$Entry;") ∈ lw_all := lw_g (lw_at lw_m4 101 rfl) rfl
theorem q899 : (Jvm.Cond.fieldLink "java/util/TreeMap" (290 : Nat) "java/util/TreeMap$Entry" "color" "Z") ∈ lw_all := lw_g (lw_at lw_m4 103 rfl) rfl
theorem q913 : (Jvm.Cond.methodLink "java/util/TreeMap" (95 : Nat) ({ cls := "java/util/Objects", name := "requireNonNull", desc := "(Ljava/lang/Object;)Ljava/lang/Object;" } : Jvm.MethodName)) ∈ lw_all := lw_g (lw_at lw_m4 117 rfl) rfl
theorem q916 : (Jvm.Cond.methodLink "java/util/TreeMap" (139 : Nat) ({ cls := "java/util/TreeMap", name := "addEntry", desc := "(Ljava/lang/Object;Ljava/lang/Object;Ljava/util/TreeMap$Entry;Z)V" } : Jvm.MethodName)) ∈ lw_all := lw_g (lw_at lw_m4 120 rfl) rfl
theorem q917 : (Jvm.Cond.privateMethod ({ cls := "java/util/TreeMap", name := "addEntry", desc := "(Ljava/lang/Object;Ljava/lang/Object;Ljava/util/TreeMap$Entry;Z)V" } : Jvm.MethodName)) ∈ lw_tbl := lw_at lw_m4 121 rfl
theorem q918 : (Jvm.Cond.instanceMethod ({ cls := "java/util/TreeMap", name := "addEntry", desc := "(Ljava/lang/Object;Ljava/lang/Object;Ljava/util/TreeMap$Entry;Z)V" } : Jvm.MethodName)) ∈ lw_all := lw_g (lw_at lw_m4 122 rfl) rfl
theorem q919 : (Jvm.Cond.code ({ cls := "java/util/TreeMap", name := "addEntry", desc := "(Ljava/lang/Object;Ljava/lang/Object;Ljava/util/TreeMap$Entry;Z)V" } : Jvm.MethodName) prog_70_method_29_code (6 : Nat) (Option.none : Option Jvm.ClassFile.FieldType)) ∈ lw_all := lw_g (lw_at lw_m4 123 rfl) rfl
theorem q920 : (Jvm.Cond.methodLink "java/util/TreeMap" (170 : Nat) ({ cls := "java/util/TreeMap", name := "fixAfterInsertion", desc := "(Ljava/util/TreeMap$Entry;)V" } : Jvm.MethodName)) ∈ lw_all := lw_g (lw_at lw_m4 124 rfl) rfl
theorem q921 : (Jvm.Cond.privateMethod ({ cls := "java/util/TreeMap", name := "fixAfterInsertion", desc := "(Ljava/util/TreeMap$Entry;)V" } : Jvm.MethodName)) ∈ lw_tbl := lw_at lw_m4 125 rfl
theorem q922 : (Jvm.Cond.instanceMethod ({ cls := "java/util/TreeMap", name := "fixAfterInsertion", desc := "(Ljava/util/TreeMap$Entry;)V" } : Jvm.MethodName)) ∈ lw_all := lw_g (lw_at lw_m4 126 rfl) rfl
theorem q923 : (Jvm.Cond.code ({ cls := "java/util/TreeMap", name := "fixAfterInsertion", desc := "(Ljava/util/TreeMap$Entry;)V" } : Jvm.MethodName) prog_70_method_83_code (3 : Nat) (Option.none : Option Jvm.ClassFile.FieldType)) ∈ lw_all := lw_g (lw_at lw_m4 127 rfl) rfl
theorem q924 : (Jvm.Cond.methodLink "java/util/TreeMap" (294 : Nat) ({ cls := "java/util/TreeMap", name := "parentOf", desc := "(Ljava/util/TreeMap$Entry;)Ljava/util/TreeMap$Entry;" } : Jvm.MethodName)) ∈ lw_all := lw_g (lw_at lw_m4 128 rfl) rfl
theorem q925 : (Jvm.Cond.static ({ cls := "java/util/TreeMap", name := "parentOf", desc := "(Ljava/util/TreeMap$Entry;)Ljava/util/TreeMap$Entry;" } : Jvm.MethodName)) ∈ lw_all := lw_g (lw_at lw_m4 129 rfl) rfl
theorem q926 : (Jvm.Cond.code ({ cls := "java/util/TreeMap", name := "parentOf", desc := "(Ljava/util/TreeMap$Entry;)Ljava/util/TreeMap$Entry;" } : Jvm.MethodName) prog_70_method_77_code (1 : Nat) (Option.some (Jvm.ClassFile.FieldType.object "java/util/TreeMap$Entry"))) ∈ lw_all := lw_g (lw_at lw_m4 130 rfl) rfl
theorem q927 : (Jvm.Cond.methodLink "java/util/TreeMap" (297 : Nat) ({ cls := "java/util/TreeMap", name := "leftOf", desc := "(Ljava/util/TreeMap$Entry;)Ljava/util/TreeMap$Entry;" } : Jvm.MethodName)) ∈ lw_all := lw_g (lw_at lw_m4 131 rfl) rfl
theorem q928 : (Jvm.Cond.static ({ cls := "java/util/TreeMap", name := "leftOf", desc := "(Ljava/util/TreeMap$Entry;)Ljava/util/TreeMap$Entry;" } : Jvm.MethodName)) ∈ lw_all := lw_g (lw_at lw_m4 132 rfl) rfl
theorem q929 : (Jvm.Cond.code ({ cls := "java/util/TreeMap", name := "leftOf", desc := "(Ljava/util/TreeMap$Entry;)Ljava/util/TreeMap$Entry;" } : Jvm.MethodName) prog_70_method_79_code (1 : Nat) (Option.some (Jvm.ClassFile.FieldType.object "java/util/TreeMap$Entry"))) ∈ lw_all := lw_g (lw_at lw_m4 133 rfl) rfl
theorem q930 : (Jvm.Cond.methodLink "java/util/TreeMap" (300 : Nat) ({ cls := "java/util/TreeMap", name := "rightOf", desc := "(Ljava/util/TreeMap$Entry;)Ljava/util/TreeMap$Entry;" } : Jvm.MethodName)) ∈ lw_all := lw_g (lw_at lw_m4 134 rfl) rfl
theorem q931 : (Jvm.Cond.static ({ cls := "java/util/TreeMap", name := "rightOf", desc := "(Ljava/util/TreeMap$Entry;)Ljava/util/TreeMap$Entry;" } : Jvm.MethodName)) ∈ lw_all := lw_g (lw_at lw_m4 135 rfl) rfl
theorem q932 : (Jvm.Cond.code ({ cls := "java/util/TreeMap", name := "rightOf", desc := "(Ljava/util/TreeMap$Entry;)Ljava/util/TreeMap$Entry;" } : Jvm.MethodName) prog_70_method_80_code (1 : Nat) (Option.some (Jvm.ClassFile.FieldType.object "java/util/TreeMap$Entry"))) ∈ lw_all := lw_g (lw_at lw_m4 136 rfl) rfl
theorem q933 : (Jvm.Cond.methodLink "java/util/TreeMap" (303 : Nat) ({ cls := "java/util/TreeMap", name := "colorOf", desc := "(Ljava/util/TreeMap$Entry;)Z" } : Jvm.MethodName)) ∈ lw_all := lw_g (lw_at lw_m4 137 rfl) rfl
theorem q934 : (Jvm.Cond.static ({ cls := "java/util/TreeMap", name := "colorOf", desc := "(Ljava/util/TreeMap$Entry;)Z" } : Jvm.MethodName)) ∈ lw_all := lw_g (lw_at lw_m4 138 rfl) rfl
theorem q935 : (Jvm.Cond.code ({ cls := "java/util/TreeMap", name := "colorOf", desc := "(Ljava/util/TreeMap$Entry;)Z" } : Jvm.MethodName) prog_70_method_76_code (1 : Nat) (Option.some Jvm.ClassFile.FieldType.boolean)) ∈ lw_all := lw_g (lw_at lw_m4 139 rfl) rfl
theorem q936 : (Jvm.Cond.methodLink "java/util/TreeMap" (307 : Nat) ({ cls := "java/util/TreeMap", name := "setColor", desc := "(Ljava/util/TreeMap$Entry;Z)V" } : Jvm.MethodName)) ∈ lw_all := lw_g (lw_at lw_m4 140 rfl) rfl
theorem q937 : (Jvm.Cond.static ({ cls := "java/util/TreeMap", name := "setColor", desc := "(Ljava/util/TreeMap$Entry;Z)V" } : Jvm.MethodName)) ∈ lw_all := lw_g (lw_at lw_m4 141 rfl) rfl
theorem q938 : (Jvm.Cond.code ({ cls := "java/util/TreeMap", name := "setColor", desc := "(Ljava/util/TreeMap$Entry;Z)V" } : Jvm.MethodName) prog_70_method_78_code (2 : Nat) (Option.none : Option Jvm.ClassFile.FieldType)) ∈ lw_all := lw_g (lw_at lw_m4 142 rfl) rfl
theorem q939 : (Jvm.Cond.methodLink "java/util/TreeMap" (311 : Nat) ({ cls := "java/util/TreeMap", name := "rotateLeft", desc := "(Ljava/util/TreeMap$Entry;)V" } : Jvm.MethodName)) ∈ lw_all := lw_g (lw_at lw_m4 143 rfl) rfl
theorem q940 : (Jvm.Cond.privateMethod ({ cls := "java/util/TreeMap", name := "rotateLeft", desc := "(Ljava/util/TreeMap$Entry;)V" } : Jvm.MethodName)) ∈ lw_tbl := lw_at lw_m4 144 rfl
theorem q941 : (Jvm.Cond.instanceMethod ({ cls := "java/util/TreeMap", name := "rotateLeft", desc := "(Ljava/util/TreeMap$Entry;)V" } : Jvm.MethodName)) ∈ lw_all := lw_g (lw_at lw_m4 145 rfl) rfl
theorem q942 : (Jvm.Cond.code ({ cls := "java/util/TreeMap", name := "rotateLeft", desc := "(Ljava/util/TreeMap$Entry;)V" } : Jvm.MethodName) prog_70_method_81_code (3 : Nat) (Option.none : Option Jvm.ClassFile.FieldType)) ∈ lw_all := lw_g (lw_at lw_m4 146 rfl) rfl
theorem q943 : (Jvm.Cond.methodLink "java/util/TreeMap" (314 : Nat) ({ cls := "java/util/TreeMap", name := "rotateRight", desc := "(Ljava/util/TreeMap$Entry;)V" } : Jvm.MethodName)) ∈ lw_all := lw_g (lw_at lw_m4 147 rfl) rfl
theorem q944 : (Jvm.Cond.privateMethod ({ cls := "java/util/TreeMap", name := "rotateRight", desc := "(Ljava/util/TreeMap$Entry;)V" } : Jvm.MethodName)) ∈ lw_tbl := lw_at lw_m4 148 rfl
theorem q945 : (Jvm.Cond.instanceMethod ({ cls := "java/util/TreeMap", name := "rotateRight", desc := "(Ljava/util/TreeMap$Entry;)V" } : Jvm.MethodName)) ∈ lw_all := lw_g (lw_at lw_m4 149 rfl) rfl
theorem q946 : (Jvm.Cond.code ({ cls := "java/util/TreeMap", name := "rotateRight", desc := "(Ljava/util/TreeMap$Entry;)V" } : Jvm.MethodName) prog_70_method_82_code (3 : Nat) (Option.none : Option Jvm.ClassFile.FieldType)) ∈ lw_all := lw_g (lw_at lw_m4 150 rfl) rfl
theorem q1073 : (Jvm.Cond.instanceMethod ({ cls := "java/util/TreeMap", name := "size", desc := "()I" } : Jvm.MethodName)) ∈ lw_all := lw_g (lw_at lw_m5 37 rfl) rfl
theorem q1074 : (Jvm.Cond.selects "java/util/TreeMap" ({ cls := "java/util/TreeMap", name := "size", desc := "()I" } : Jvm.MethodName) ({ cls := "java/util/TreeMap", name := "size", desc := "()I" } : Jvm.MethodName)) ∈ lw_all := lw_g (lw_at lw_m5 38 rfl) rfl
theorem q1075 : (Jvm.Cond.code ({ cls := "java/util/TreeMap", name := "size", desc := "()I" } : Jvm.MethodName) prog_70_method_5_code (1 : Nat) (Option.some Jvm.ClassFile.FieldType.int)) ∈ lw_all := lw_g (lw_at lw_m5 39 rfl) rfl
theorem q1082 : (Jvm.Cond.castable "java/util/TreeMap" "java/util/NavigableMap") ∈ lw_tbl := lw_at lw_m5 46 rfl
theorem q1083 : (Jvm.Cond.selects "java/util/TreeMap" ({ cls := "java/util/Map", name := "size", desc := "()I" } : Jvm.MethodName) ({ cls := "java/util/TreeMap", name := "size", desc := "()I" } : Jvm.MethodName)) ∈ lw_all := lw_g (lw_at lw_m5 47 rfl) rfl
theorem q1084 : (Jvm.Cond.unhidden "java/util/TreeMap" "size" "()I") ∈ lw_tbl := lw_at lw_m5 48 rfl
theorem q1085 : (Jvm.Cond.publicMethod ({ cls := "java/util/TreeMap", name := "size", desc := "()I" } : Jvm.MethodName)) ∈ lw_tbl := lw_at lw_m5 49 rfl
theorem q1139 : (Jvm.Cond.instanceMethod ({ cls := "java/util/TreeMap", name := "get", desc := "(Ljava/lang/Object;)Ljava/lang/Object;" } : Jvm.MethodName)) ∈ lw_all := lw_g (lw_at lw_m5 103 rfl) rfl
theorem q1140 : (Jvm.Cond.selects "java/util/TreeMap" ({ cls := "java/util/TreeMap", name := "get", desc := "(Ljava/lang/Object;)Ljava/lang/Object;" } : Jvm.MethodName) ({ cls := "java/util/TreeMap", name := "get", desc := "(Ljava/lang/Object;)Ljava/lang/Object;" } : Jvm.MethodName)) ∈ lw_all := lw_g (lw_at lw_m5 104 rfl) rfl
theorem q1141 : (Jvm.Cond.code ({ cls := "java/util/TreeMap", name := "get", desc := "(Ljava/lang/Object;)Ljava/lang/Object;" } : Jvm.MethodName) prog_70_method_8_code (3 : Nat) (Option.some (Jvm.ClassFile.FieldType.object "java/lang/Object"))) ∈ lw_all := lw_g (lw_at lw_m5 105 rfl) rfl
theorem q1142 : (Jvm.Cond.methodLink "java/util/TreeMap" (50 : Nat) ({ cls := "java/util/TreeMap", name := "getEntry", desc := "(Ljava/lang/Object;)Ljava/util/TreeMap$Entry;" } : Jvm.MethodName)) ∈ lw_all := lw_g (lw_at lw_m5 106 rfl) rfl
theorem q1143 : (Jvm.Cond.instanceMethod ({ cls := "java/util/TreeMap", name := "getEntry", desc := "(Ljava/lang/Object;)Ljava/util/TreeMap$Entry;" } : Jvm.MethodName)) ∈ lw_all := lw_g (lw_at lw_m5 107 rfl) rfl
theorem q1144 : (Jvm.Cond.selects "java/util/TreeMap" ({ cls := "java/util/TreeMap", name := "getEntry", desc := "(Ljava/lang/Object;)Ljava/util/TreeMap$Entry;" } : Jvm.MethodName) ({ cls := "java/util/TreeMap", name := "getEntry", desc := "(Ljava/lang/Object;)Ljava/util/TreeMap$Entry;" } : Jvm.MethodName)) ∈ lw_all := lw_g (lw_at lw_m5 108 rfl) rfl
theorem q1145 : (Jvm.Cond.code ({ cls := "java/util/TreeMap", name := "getEntry", desc := "(Ljava/lang/Object;)Ljava/util/TreeMap$Entry;" } : Jvm.MethodName) prog_70_method_15_code (5 : Nat) (Option.some (Jvm.ClassFile.FieldType.object "java/util/TreeMap$Entry"))) ∈ lw_all := lw_g (lw_at lw_m5 109 rfl) rfl
theorem q1146 : (Jvm.Cond.methodLink "java/util/TreeMap" (92 : Nat) ({ cls := "java/util/TreeMap", name := "getEntryUsingComparator", desc := "(Ljava/lang/Object;)Ljava/util/TreeMap$Entry;" } : Jvm.MethodName)) ∈ lw_all := lw_g (lw_at lw_m5 110 rfl) rfl
theorem q1147 : (Jvm.Cond.instanceMethod ({ cls := "java/util/TreeMap", name := "getEntryUsingComparator", desc := "(Ljava/lang/Object;)Ljava/util/TreeMap$Entry;" } : Jvm.MethodName)) ∈ lw_all := lw_g (lw_at lw_m5 111 rfl) rfl
theorem q1148 : (Jvm.Cond.selects "java/util/TreeMap" ({ cls := "java/util/TreeMap", name := "getEntryUsingComparator", desc := "(Ljava/lang/Object;)Ljava/util/TreeMap$Entry;" } : Jvm.MethodName) ({ cls := "java/util/TreeMap", name := "getEntryUsingComparator", desc := "(Ljava/lang/Object;)Ljava/util/TreeMap$Entry;" } : Jvm.MethodName)) ∈ lw_all := lw_g (lw_at lw_m5 112 rfl) rfl
theorem q1149 : (Jvm.Cond.code ({ cls := "java/util/TreeMap", name := "getEntryUsingComparator", desc := "(Ljava/lang/Object;)Ljava/util/TreeMap$Entry;" } : Jvm.MethodName) prog_70_method_16_code (6 : Nat) (Option.some (Jvm.ClassFile.FieldType.object "java/util/TreeMap$Entry"))) ∈ lw_all := lw_g (lw_at lw_m5 113 rfl) rfl
theorem q1971 : (Jvm.Cond.instanceMethod ({ cls := "java/util/TreeMap", name := "<init>", desc := "(Ljava/util/Comparator;)V" } : Jvm.MethodName)) ∈ lw_all := lw_g (lw_at lw_m8 215 rfl) rfl
theorem q1972 : (Jvm.Cond.code ({ cls := "java/util/TreeMap", name := "<init>", desc := "(Ljava/util/Comparator;)V" } : Jvm.MethodName) prog_70_method_2_code (2 : Nat) (Option.none : Option Jvm.ClassFile.FieldType)) ∈ lw_all := lw_g (lw_at lw_m8 216 rfl) rfl
theorem q1993 : (Jvm.Cond.selects "java/util/TreeMap" ({ cls := "java/util/Map", name := "put", desc := "(Ljava/lang/Object;Ljava/lang/Object;)Ljava/lang/Object;" } : Jvm.MethodName) ({ cls := "java/util/TreeMap", name := "put", desc := "(Ljava/lang/Object;Ljava/lang/Object;)Ljava/lang/Object;" } : Jvm.MethodName)) ∈ lw_all := lw_g (lw_at lw_m8 237 rfl) rfl
theorem q1994 : (Jvm.Cond.unhidden "java/util/TreeMap" "put" "(Ljava/lang/Object;Ljava/lang/Object;)Ljava/lang/Object;") ∈ lw_tbl := lw_at lw_m8 238 rfl
theorem q1995 : (Jvm.Cond.publicMethod ({ cls := "java/util/TreeMap", name := "put", desc := "(Ljava/lang/Object;Ljava/lang/Object;)Ljava/lang/Object;" } : Jvm.MethodName)) ∈ lw_tbl := lw_at lw_m8 239 rfl
theorem q2003 : (Jvm.Cond.selects "java/util/TreeMap" ({ cls := "java/util/Map", name := "isEmpty", desc := "()Z" } : Jvm.MethodName) ({ cls := "java/util/AbstractMap", name := "isEmpty", desc := "()Z" } : Jvm.MethodName)) ∈ lw_all := lw_g (lw_at lw_m9 7 rfl) rfl
theorem q2004 : (Jvm.Cond.unhidden "java/util/TreeMap" "isEmpty" "()Z") ∈ lw_tbl := lw_at lw_m9 8 rfl
theorem q2011 : (Jvm.Cond.selects "java/util/TreeMap" ({ cls := "java/util/AbstractMap", name := "size", desc := "()I" } : Jvm.MethodName) ({ cls := "java/util/TreeMap", name := "size", desc := "()I" } : Jvm.MethodName)) ∈ lw_all := lw_g (lw_at lw_m9 15 rfl) rfl
theorem q2020 : (Jvm.Cond.selects "java/util/TreeMap" ({ cls := "java/util/SortedMap", name := "firstKey", desc := "()Ljava/lang/Object;" } : Jvm.MethodName) ({ cls := "java/util/TreeMap", name := "firstKey", desc := "()Ljava/lang/Object;" } : Jvm.MethodName)) ∈ lw_all := lw_g (lw_at lw_m9 24 rfl) rfl
theorem q2021 : (Jvm.Cond.unhidden "java/util/TreeMap" "firstKey" "()Ljava/lang/Object;") ∈ lw_tbl := lw_at lw_m9 25 rfl
theorem q2022 : (Jvm.Cond.instanceMethod ({ cls := "java/util/TreeMap", name := "firstKey", desc := "()Ljava/lang/Object;" } : Jvm.MethodName)) ∈ lw_all := lw_g (lw_at lw_m9 26 rfl) rfl
theorem q2023 : (Jvm.Cond.publicMethod ({ cls := "java/util/TreeMap", name := "firstKey", desc := "()Ljava/lang/Object;" } : Jvm.MethodName)) ∈ lw_tbl := lw_at lw_m9 27 rfl
theorem q2024 : (Jvm.Cond.code ({ cls := "java/util/TreeMap", name := "firstKey", desc := "()Ljava/lang/Object;" } : Jvm.MethodName) prog_70_method_10_code (1 : Nat) (Option.some (Jvm.ClassFile.FieldType.object "java/lang/Object"))) ∈ lw_all := lw_g (lw_at lw_m9 28 rfl) rfl
theorem q2025 : (Jvm.Cond.methodLink "java/util/TreeMap" (54 : Nat) ({ cls := "java/util/TreeMap", name := "getFirstEntry", desc := "()Ljava/util/TreeMap$Entry;" } : Jvm.MethodName)) ∈ lw_all := lw_g (lw_at lw_m9 29 rfl) rfl
theorem q2026 : (Jvm.Cond.instanceMethod ({ cls := "java/util/TreeMap", name := "getFirstEntry", desc := "()Ljava/util/TreeMap$Entry;" } : Jvm.MethodName)) ∈ lw_all := lw_g (lw_at lw_m9 30 rfl) rfl
theorem q2027 : (Jvm.Cond.selects "java/util/TreeMap" ({ cls := "java/util/TreeMap", name := "getFirstEntry", desc := "()Ljava/util/TreeMap$Entry;" } : Jvm.MethodName) ({ cls := "java/util/TreeMap", name := "getFirstEntry", desc := "()Ljava/util/TreeMap$Entry;" } : Jvm.MethodName)) ∈ lw_all := lw_g (lw_at lw_m9 31 rfl) rfl
theorem q2028 : (Jvm.Cond.code ({ cls := "java/util/TreeMap", name := "getFirstEntry", desc := "()Ljava/util/TreeMap$Entry;" } : Jvm.MethodName) prog_70_method_72_code (2 : Nat) (Option.some (Jvm.ClassFile.FieldType.object "java/util/TreeMap$Entry"))) ∈ lw_all := lw_g (lw_at lw_m9 32 rfl) rfl
theorem q2029 : (Jvm.Cond.methodLink "java/util/TreeMap" (72 : Nat) ({ cls := "java/util/TreeMap", name := "key", desc := "(Ljava/util/TreeMap$Entry;)Ljava/lang/Object;" } : Jvm.MethodName)) ∈ lw_all := lw_g (lw_at lw_m9 33 rfl) rfl
theorem q2030 : (Jvm.Cond.static ({ cls := "java/util/TreeMap", name := "key", desc := "(Ljava/util/TreeMap$Entry;)Ljava/lang/Object;" } : Jvm.MethodName)) ∈ lw_all := lw_g (lw_at lw_m9 34 rfl) rfl
theorem q2031 : (Jvm.Cond.code ({ cls := "java/util/TreeMap", name := "key", desc := "(Ljava/util/TreeMap$Entry;)Ljava/lang/Object;" } : Jvm.MethodName) prog_70_method_71_code (1 : Nat) (Option.some (Jvm.ClassFile.FieldType.object "java/lang/Object"))) ∈ lw_all := lw_g (lw_at lw_m9 35 rfl) rfl
theorem q2032 : (Jvm.Cond.classLink "java/util/TreeMap" (287 : Nat) "java/util/NoSuchElementException") ∈ lw_all := lw_g (lw_at lw_m9 36 rfl) rfl
theorem q2033 : (Jvm.Cond.methodLink "java/util/TreeMap" (289 : Nat) ({ cls := "java/util/NoSuchElementException", name := "<init>", desc := "()V" } : Jvm.MethodName)) ∈ lw_all := lw_g (lw_at lw_m9 37 rfl) rfl
theorem q2999 : (Jvm.Cond.castable "java/util/TreeMap" "java/lang/Object") ∈ lw_tbl := lw_at lw_m13 43 rfl
theorem in_J10 : ∀ w ∈ wsJ100, w ∈ lw_all := lw_in wsJ100 [306, 308, 292, 294, 296, 298, 300, 302, 304] (by decide +kernel) (by decide +kernel)

/-! jdk/internal/util/ArraysSupport -/
set_option maxRecDepth 100000
def RJ11 : String := "jdk/internal/util/ArraysSupport"
abbrev cJ11_newLength : ByteArray := prog_77_method_27_code
def yJ11_newLength : MethodName := ⟨RJ11, "newLength", "(III)I"⟩
def dkwJ11_newLength_1 : List UInt8 := [184, 0, 201, 172]
abbrev dktJ11_newLength_1 : List UInt8 := dkwJ11_newLength_1 ++ []
def dkwJ11_newLength_0 : List UInt8 := [26, 27, 28, 184, 0, 194, 96, 62, 3, 29, 162, 0, 11, 29, 18, 200, 163, 0, 5, 29, 172, 26, 27]
abbrev dktJ11_newLength_0 : List UInt8 := dkwJ11_newLength_0 ++ dktJ11_newLength_1
theorem dksJ11_newLength_0 : cJ11_newLength.data.toList.drop 0 = dktJ11_newLength_0 := by decide +kernel
theorem dksJ11_newLength_1 : cJ11_newLength.data.toList.drop 23 = dktJ11_newLength_1 := dk_seg dksJ11_newLength_0 23 rfl rfl
theorem dJ11_newLength_0 : decode cJ11_newLength 0 = .ok (.iload_n 0, 1) := dk_26 (dk_at dksJ11_newLength_0 0 rfl rfl)
theorem dJ11_newLength_1 : decode cJ11_newLength 1 = .ok (.iload_n 1, 1) := dk_27 (dk_at dksJ11_newLength_0 1 rfl rfl)
theorem dJ11_newLength_2 : decode cJ11_newLength 2 = .ok (.iload_n 2, 1) := dk_28 (dk_at dksJ11_newLength_0 2 rfl rfl)
theorem dJ11_newLength_3 : decode cJ11_newLength 3 = .ok (.invokestatic 194, 3) := dk_184 0 194 (dk_at dksJ11_newLength_0 3 rfl rfl)
theorem dJ11_newLength_6 : decode cJ11_newLength 6 = .ok (.iadd, 1) := dk_96 (dk_at dksJ11_newLength_0 6 rfl rfl)
theorem dJ11_newLength_7 : decode cJ11_newLength 7 = .ok (.istore_n 3, 1) := dk_62 (dk_at dksJ11_newLength_0 7 rfl rfl)
theorem dJ11_newLength_8 : decode cJ11_newLength 8 = .ok (.iconst 0, 1) := dk_3 (dk_at dksJ11_newLength_0 8 rfl rfl)
theorem dJ11_newLength_9 : decode cJ11_newLength 9 = .ok (.iload_n 3, 1) := dk_29 (dk_at dksJ11_newLength_0 9 rfl rfl)
theorem dJ11_newLength_10 : decode cJ11_newLength 10 = .ok (.if_icmp .ge 11, 3) := dk_162 0 11 (dk_at dksJ11_newLength_0 10 rfl rfl)
theorem dJ11_newLength_13 : decode cJ11_newLength 13 = .ok (.iload_n 3, 1) := dk_29 (dk_at dksJ11_newLength_0 13 rfl rfl)
theorem dJ11_newLength_14 : decode cJ11_newLength 14 = .ok (.ldc 200, 2) := dk_18 200 (dk_at dksJ11_newLength_0 14 rfl rfl)
theorem dJ11_newLength_16 : decode cJ11_newLength 16 = .ok (.if_icmp .gt 5, 3) := dk_163 0 5 (dk_at dksJ11_newLength_0 16 rfl rfl)
theorem dJ11_newLength_19 : decode cJ11_newLength 19 = .ok (.iload_n 3, 1) := dk_29 (dk_at dksJ11_newLength_0 19 rfl rfl)
theorem dJ11_newLength_20 : decode cJ11_newLength 20 = .ok (.ireturn, 1) := dk_172 (dk_at dksJ11_newLength_0 20 rfl rfl)
theorem dJ11_newLength_21 : decode cJ11_newLength 21 = .ok (.iload_n 0, 1) := dk_26 (dk_at dksJ11_newLength_0 21 rfl rfl)
theorem dJ11_newLength_22 : decode cJ11_newLength 22 = .ok (.iload_n 1, 1) := dk_27 (dk_at dksJ11_newLength_0 22 rfl rfl)
theorem dJ11_newLength_23 : decode cJ11_newLength 23 = .ok (.invokestatic 201, 3) := dk_184 0 201 (dk_at dksJ11_newLength_1 0 rfl rfl)
theorem dJ11_newLength_26 : decode cJ11_newLength 26 = .ok (.ireturn, 1) := dk_172 (dk_at dksJ11_newLength_1 3 rfl rfl)
abbrev cJ11_hugeLength : ByteArray := prog_77_method_28_code
def yJ11_hugeLength : MethodName := ⟨RJ11, "hugeLength", "(II)I"⟩
def dkwJ11_hugeLength_2 : List UInt8 := [191, 28, 18, 200, 163, 0, 6, 18, 200, 172, 28, 172]
abbrev dktJ11_hugeLength_2 : List UInt8 := dkwJ11_hugeLength_2 ++ []
def dkwJ11_hugeLength_1 : List UInt8 := [26, 182, 0, 98, 18, 208, 182, 0, 94, 27, 182, 0, 98, 18, 210, 182, 0, 94, 182, 0, 101, 183, 0, 212]
abbrev dktJ11_hugeLength_1 : List UInt8 := dkwJ11_hugeLength_1 ++ dktJ11_hugeLength_2
def dkwJ11_hugeLength_0 : List UInt8 := [26, 27, 96, 61, 28, 156, 0, 44, 187, 0, 204, 89, 187, 0, 89, 89, 183, 0, 91, 18, 206, 182, 0, 94]
abbrev dktJ11_hugeLength_0 : List UInt8 := dkwJ11_hugeLength_0 ++ dktJ11_hugeLength_1
theorem dksJ11_hugeLength_0 : cJ11_hugeLength.data.toList.drop 0 = dktJ11_hugeLength_0 := by decide +kernel
theorem dksJ11_hugeLength_1 : cJ11_hugeLength.data.toList.drop 24 = dktJ11_hugeLength_1 := dk_seg dksJ11_hugeLength_0 24 rfl rfl
theorem dksJ11_hugeLength_2 : cJ11_hugeLength.data.toList.drop 48 = dktJ11_hugeLength_2 := dk_seg dksJ11_hugeLength_1 24 rfl rfl
theorem dJ11_hugeLength_0 : decode cJ11_hugeLength 0 = .ok (.iload_n 0, 1) := dk_26 (dk_at dksJ11_hugeLength_0 0 rfl rfl)
theorem dJ11_hugeLength_1 : decode cJ11_hugeLength 1 = .ok (.iload_n 1, 1) := dk_27 (dk_at dksJ11_hugeLength_0 1 rfl rfl)
theorem dJ11_hugeLength_2 : decode cJ11_hugeLength 2 = .ok (.iadd, 1) := dk_96 (dk_at dksJ11_hugeLength_0 2 rfl rfl)
theorem dJ11_hugeLength_3 : decode cJ11_hugeLength 3 = .ok (.istore_n 2, 1) := dk_61 (dk_at dksJ11_hugeLength_0 3 rfl rfl)
theorem dJ11_hugeLength_4 : decode cJ11_hugeLength 4 = .ok (.iload_n 2, 1) := dk_28 (dk_at dksJ11_hugeLength_0 4 rfl rfl)
theorem dJ11_hugeLength_5 : decode cJ11_hugeLength 5 = .ok (.ifCond .ge 44, 3) := dk_156 0 44 (dk_at dksJ11_hugeLength_0 5 rfl rfl)
theorem dJ11_hugeLength_8 : decode cJ11_hugeLength 8 = .ok (.new 204, 3) := dk_187 0 204 (dk_at dksJ11_hugeLength_0 8 rfl rfl)
theorem dJ11_hugeLength_11 : decode cJ11_hugeLength 11 = .ok (.dup, 1) := dk_89 (dk_at dksJ11_hugeLength_0 11 rfl rfl)
theorem dJ11_hugeLength_12 : decode cJ11_hugeLength 12 = .ok (.new 89, 3) := dk_187 0 89 (dk_at dksJ11_hugeLength_0 12 rfl rfl)
theorem dJ11_hugeLength_15 : decode cJ11_hugeLength 15 = .ok (.dup, 1) := dk_89 (dk_at dksJ11_hugeLength_0 15 rfl rfl)
theorem dJ11_hugeLength_16 : decode cJ11_hugeLength 16 = .ok (.invokespecial 91, 3) := dk_183 0 91 (dk_at dksJ11_hugeLength_0 16 rfl rfl)
theorem dJ11_hugeLength_19 : decode cJ11_hugeLength 19 = .ok (.ldc 206, 2) := dk_18 206 (dk_at dksJ11_hugeLength_0 19 rfl rfl)
theorem dJ11_hugeLength_21 : decode cJ11_hugeLength 21 = .ok (.invokevirtual 94, 3) := dk_182 0 94 (dk_at dksJ11_hugeLength_0 21 rfl rfl)
theorem dJ11_hugeLength_24 : decode cJ11_hugeLength 24 = .ok (.iload_n 0, 1) := dk_26 (dk_at dksJ11_hugeLength_1 0 rfl rfl)
theorem dJ11_hugeLength_25 : decode cJ11_hugeLength 25 = .ok (.invokevirtual 98, 3) := dk_182 0 98 (dk_at dksJ11_hugeLength_1 1 rfl rfl)
theorem dJ11_hugeLength_28 : decode cJ11_hugeLength 28 = .ok (.ldc 208, 2) := dk_18 208 (dk_at dksJ11_hugeLength_1 4 rfl rfl)
theorem dJ11_hugeLength_30 : decode cJ11_hugeLength 30 = .ok (.invokevirtual 94, 3) := dk_182 0 94 (dk_at dksJ11_hugeLength_1 6 rfl rfl)
theorem dJ11_hugeLength_33 : decode cJ11_hugeLength 33 = .ok (.iload_n 1, 1) := dk_27 (dk_at dksJ11_hugeLength_1 9 rfl rfl)
theorem dJ11_hugeLength_34 : decode cJ11_hugeLength 34 = .ok (.invokevirtual 98, 3) := dk_182 0 98 (dk_at dksJ11_hugeLength_1 10 rfl rfl)
theorem dJ11_hugeLength_37 : decode cJ11_hugeLength 37 = .ok (.ldc 210, 2) := dk_18 210 (dk_at dksJ11_hugeLength_1 13 rfl rfl)
theorem dJ11_hugeLength_39 : decode cJ11_hugeLength 39 = .ok (.invokevirtual 94, 3) := dk_182 0 94 (dk_at dksJ11_hugeLength_1 15 rfl rfl)
theorem dJ11_hugeLength_42 : decode cJ11_hugeLength 42 = .ok (.invokevirtual 101, 3) := dk_182 0 101 (dk_at dksJ11_hugeLength_1 18 rfl rfl)
theorem dJ11_hugeLength_45 : decode cJ11_hugeLength 45 = .ok (.invokespecial 212, 3) := dk_183 0 212 (dk_at dksJ11_hugeLength_1 21 rfl rfl)
theorem dJ11_hugeLength_48 : decode cJ11_hugeLength 48 = .ok (.athrow, 1) := dk_191 (dk_at dksJ11_hugeLength_2 0 rfl rfl)
theorem dJ11_hugeLength_49 : decode cJ11_hugeLength 49 = .ok (.iload_n 2, 1) := dk_28 (dk_at dksJ11_hugeLength_2 1 rfl rfl)
theorem dJ11_hugeLength_50 : decode cJ11_hugeLength 50 = .ok (.ldc 200, 2) := dk_18 200 (dk_at dksJ11_hugeLength_2 2 rfl rfl)
theorem dJ11_hugeLength_52 : decode cJ11_hugeLength 52 = .ok (.if_icmp .gt 6, 3) := dk_163 0 6 (dk_at dksJ11_hugeLength_2 4 rfl rfl)
theorem dJ11_hugeLength_55 : decode cJ11_hugeLength 55 = .ok (.ldc 200, 2) := dk_18 200 (dk_at dksJ11_hugeLength_2 7 rfl rfl)
theorem dJ11_hugeLength_57 : decode cJ11_hugeLength 57 = .ok (.ireturn, 1) := dk_172 (dk_at dksJ11_hugeLength_2 9 rfl rfl)
theorem dJ11_hugeLength_58 : decode cJ11_hugeLength 58 = .ok (.iload_n 2, 1) := dk_28 (dk_at dksJ11_hugeLength_2 10 rfl rfl)
theorem dJ11_hugeLength_59 : decode cJ11_hugeLength 59 = .ok (.ireturn, 1) := dk_172 (dk_at dksJ11_hugeLength_2 11 rfl rfl)
abbrev cJ11_mismatch : ByteArray := prog_77_method_13_code
def yJ11_mismatch : MethodName := ⟨RJ11, "mismatch", "([B[BI)I"⟩
def dkwJ11_mismatch_3 : List UInt8 := [172]
abbrev dktJ11_mismatch_3 : List UInt8 := dkwJ11_mismatch_3 ++ []
def dkwJ11_mismatch_2 : List UInt8 := [62, 29, 28, 162, 0, 20, 42, 29, 51, 43, 29, 51, 159, 0, 5, 29, 172, 132, 3, 1, 167, 255, 237, 2]
abbrev dktJ11_mismatch_2 : List UInt8 := dkwJ11_mismatch_2 ++ dktJ11_mismatch_3
def dkwJ11_mismatch_1 : List UInt8 := [43, 178, 0, 126, 133, 28, 178, 0, 129, 184, 0, 122, 62, 29, 155, 0, 5, 29, 172, 28, 29, 2, 130, 100]
abbrev dktJ11_mismatch_1 : List UInt8 := dkwJ11_mismatch_1 ++ dktJ11_mismatch_2
def dkwJ11_mismatch_0 : List UInt8 := [3, 62, 28, 16, 7, 164, 0, 44, 42, 3, 51, 43, 3, 51, 159, 0, 5, 3, 172, 42, 178, 0, 126, 133]
abbrev dktJ11_mismatch_0 : List UInt8 := dkwJ11_mismatch_0 ++ dktJ11_mismatch_1
theorem dksJ11_mismatch_0 : cJ11_mismatch.data.toList.drop 0 = dktJ11_mismatch_0 := by decide +kernel
theorem dksJ11_mismatch_1 : cJ11_mismatch.data.toList.drop 24 = dktJ11_mismatch_1 := dk_seg dksJ11_mismatch_0 24 rfl rfl
theorem dksJ11_mismatch_2 : cJ11_mismatch.data.toList.drop 48 = dktJ11_mismatch_2 := dk_seg dksJ11_mismatch_1 24 rfl rfl
theorem dksJ11_mismatch_3 : cJ11_mismatch.data.toList.drop 72 = dktJ11_mismatch_3 := dk_seg dksJ11_mismatch_2 24 rfl rfl
theorem dJ11_mismatch_0 : decode cJ11_mismatch 0 = .ok (.iconst 0, 1) := dk_3 (dk_at dksJ11_mismatch_0 0 rfl rfl)
theorem dJ11_mismatch_1 : decode cJ11_mismatch 1 = .ok (.istore_n 3, 1) := dk_62 (dk_at dksJ11_mismatch_0 1 rfl rfl)
theorem dJ11_mismatch_2 : decode cJ11_mismatch 2 = .ok (.iload_n 2, 1) := dk_28 (dk_at dksJ11_mismatch_0 2 rfl rfl)
theorem dJ11_mismatch_3 : decode cJ11_mismatch 3 = .ok (.bipush 7, 2) := dk_16 7 (dk_at dksJ11_mismatch_0 3 rfl rfl)
theorem dJ11_mismatch_5 : decode cJ11_mismatch 5 = .ok (.if_icmp .le 44, 3) := dk_164 0 44 (dk_at dksJ11_mismatch_0 5 rfl rfl)
theorem dJ11_mismatch_8 : decode cJ11_mismatch 8 = .ok (.aload_n 0, 1) := dk_42 (dk_at dksJ11_mismatch_0 8 rfl rfl)
theorem dJ11_mismatch_9 : decode cJ11_mismatch 9 = .ok (.iconst 0, 1) := dk_3 (dk_at dksJ11_mismatch_0 9 rfl rfl)
theorem dJ11_mismatch_10 : decode cJ11_mismatch 10 = .ok (.baload, 1) := dk_51 (dk_at dksJ11_mismatch_0 10 rfl rfl)
theorem dJ11_mismatch_11 : decode cJ11_mismatch 11 = .ok (.aload_n 1, 1) := dk_43 (dk_at dksJ11_mismatch_0 11 rfl rfl)
theorem dJ11_mismatch_12 : decode cJ11_mismatch 12 = .ok (.iconst 0, 1) := dk_3 (dk_at dksJ11_mismatch_0 12 rfl rfl)
theorem dJ11_mismatch_13 : decode cJ11_mismatch 13 = .ok (.baload, 1) := dk_51 (dk_at dksJ11_mismatch_0 13 rfl rfl)
theorem dJ11_mismatch_14 : decode cJ11_mismatch 14 = .ok (.if_icmp .eq 5, 3) := dk_159 0 5 (dk_at dksJ11_mismatch_0 14 rfl rfl)
theorem dJ11_mismatch_17 : decode cJ11_mismatch 17 = .ok (.iconst 0, 1) := dk_3 (dk_at dksJ11_mismatch_0 17 rfl rfl)
theorem dJ11_mismatch_18 : decode cJ11_mismatch 18 = .ok (.ireturn, 1) := dk_172 (dk_at dksJ11_mismatch_0 18 rfl rfl)
theorem dJ11_mismatch_19 : decode cJ11_mismatch 19 = .ok (.aload_n 0, 1) := dk_42 (dk_at dksJ11_mismatch_0 19 rfl rfl)
theorem dJ11_mismatch_20 : decode cJ11_mismatch 20 = .ok (.getstatic 126, 3) := dk_178 0 126 (dk_at dksJ11_mismatch_0 20 rfl rfl)
theorem dJ11_mismatch_23 : decode cJ11_mismatch 23 = .ok (.i2l, 1) := dk_133 (dk_at dksJ11_mismatch_0 23 rfl rfl)
theorem dJ11_mismatch_24 : decode cJ11_mismatch 24 = .ok (.aload_n 1, 1) := dk_43 (dk_at dksJ11_mismatch_1 0 rfl rfl)
theorem dJ11_mismatch_25 : decode cJ11_mismatch 25 = .ok (.getstatic 126, 3) := dk_178 0 126 (dk_at dksJ11_mismatch_1 1 rfl rfl)
theorem dJ11_mismatch_28 : decode cJ11_mismatch 28 = .ok (.i2l, 1) := dk_133 (dk_at dksJ11_mismatch_1 4 rfl rfl)
theorem dJ11_mismatch_29 : decode cJ11_mismatch 29 = .ok (.iload_n 2, 1) := dk_28 (dk_at dksJ11_mismatch_1 5 rfl rfl)
theorem dJ11_mismatch_30 : decode cJ11_mismatch 30 = .ok (.getstatic 129, 3) := dk_178 0 129 (dk_at dksJ11_mismatch_1 6 rfl rfl)
theorem dJ11_mismatch_33 : decode cJ11_mismatch 33 = .ok (.invokestatic 122, 3) := dk_184 0 122 (dk_at dksJ11_mismatch_1 9 rfl rfl)
theorem dJ11_mismatch_36 : decode cJ11_mismatch 36 = .ok (.istore_n 3, 1) := dk_62 (dk_at dksJ11_mismatch_1 12 rfl rfl)
theorem dJ11_mismatch_37 : decode cJ11_mismatch 37 = .ok (.iload_n 3, 1) := dk_29 (dk_at dksJ11_mismatch_1 13 rfl rfl)
theorem dJ11_mismatch_38 : decode cJ11_mismatch 38 = .ok (.ifCond .lt 5, 3) := dk_155 0 5 (dk_at dksJ11_mismatch_1 14 rfl rfl)
theorem dJ11_mismatch_41 : decode cJ11_mismatch 41 = .ok (.iload_n 3, 1) := dk_29 (dk_at dksJ11_mismatch_1 17 rfl rfl)
theorem dJ11_mismatch_42 : decode cJ11_mismatch 42 = .ok (.ireturn, 1) := dk_172 (dk_at dksJ11_mismatch_1 18 rfl rfl)
theorem dJ11_mismatch_43 : decode cJ11_mismatch 43 = .ok (.iload_n 2, 1) := dk_28 (dk_at dksJ11_mismatch_1 19 rfl rfl)
theorem dJ11_mismatch_44 : decode cJ11_mismatch 44 = .ok (.iload_n 3, 1) := dk_29 (dk_at dksJ11_mismatch_1 20 rfl rfl)
theorem dJ11_mismatch_45 : decode cJ11_mismatch 45 = .ok (.iconst (-1), 1) := dk_2 (dk_at dksJ11_mismatch_1 21 rfl rfl)
theorem dJ11_mismatch_46 : decode cJ11_mismatch 46 = .ok (.ixor, 1) := dk_130 (dk_at dksJ11_mismatch_1 22 rfl rfl)
theorem dJ11_mismatch_47 : decode cJ11_mismatch 47 = .ok (.isub, 1) := dk_100 (dk_at dksJ11_mismatch_1 23 rfl rfl)
theorem dJ11_mismatch_48 : decode cJ11_mismatch 48 = .ok (.istore_n 3, 1) := dk_62 (dk_at dksJ11_mismatch_2 0 rfl rfl)
theorem dJ11_mismatch_49 : decode cJ11_mismatch 49 = .ok (.iload_n 3, 1) := dk_29 (dk_at dksJ11_mismatch_2 1 rfl rfl)
theorem dJ11_mismatch_50 : decode cJ11_mismatch 50 = .ok (.iload_n 2, 1) := dk_28 (dk_at dksJ11_mismatch_2 2 rfl rfl)
theorem dJ11_mismatch_51 : decode cJ11_mismatch 51 = .ok (.if_icmp .ge 20, 3) := dk_162 0 20 (dk_at dksJ11_mismatch_2 3 rfl rfl)
theorem dJ11_mismatch_54 : decode cJ11_mismatch 54 = .ok (.aload_n 0, 1) := dk_42 (dk_at dksJ11_mismatch_2 6 rfl rfl)
theorem dJ11_mismatch_55 : decode cJ11_mismatch 55 = .ok (.iload_n 3, 1) := dk_29 (dk_at dksJ11_mismatch_2 7 rfl rfl)
theorem dJ11_mismatch_56 : decode cJ11_mismatch 56 = .ok (.baload, 1) := dk_51 (dk_at dksJ11_mismatch_2 8 rfl rfl)
theorem dJ11_mismatch_57 : decode cJ11_mismatch 57 = .ok (.aload_n 1, 1) := dk_43 (dk_at dksJ11_mismatch_2 9 rfl rfl)
theorem dJ11_mismatch_58 : decode cJ11_mismatch 58 = .ok (.iload_n 3, 1) := dk_29 (dk_at dksJ11_mismatch_2 10 rfl rfl)
theorem dJ11_mismatch_59 : decode cJ11_mismatch 59 = .ok (.baload, 1) := dk_51 (dk_at dksJ11_mismatch_2 11 rfl rfl)
theorem dJ11_mismatch_60 : decode cJ11_mismatch 60 = .ok (.if_icmp .eq 5, 3) := dk_159 0 5 (dk_at dksJ11_mismatch_2 12 rfl rfl)
theorem dJ11_mismatch_63 : decode cJ11_mismatch 63 = .ok (.iload_n 3, 1) := dk_29 (dk_at dksJ11_mismatch_2 15 rfl rfl)
theorem dJ11_mismatch_64 : decode cJ11_mismatch 64 = .ok (.ireturn, 1) := dk_172 (dk_at dksJ11_mismatch_2 16 rfl rfl)
theorem dJ11_mismatch_65 : decode cJ11_mismatch 65 = .ok (.iinc 3 1, 3) := dk_132 3 1 (dk_at dksJ11_mismatch_2 17 rfl rfl)
theorem dJ11_mismatch_68 : decode cJ11_mismatch 68 = .ok (.goto (-19), 3) := dk_167 255 237 (dk_at dksJ11_mismatch_2 20 rfl rfl)
theorem dJ11_mismatch_71 : decode cJ11_mismatch 71 = .ok (.iconst (-1), 1) := dk_2 (dk_at dksJ11_mismatch_2 23 rfl rfl)
theorem dJ11_mismatch_72 : decode cJ11_mismatch 72 = .ok (.ireturn, 1) := dk_172 (dk_at dksJ11_mismatch_3 0 rfl rfl)
abbrev cJ11_vectorizedMismatch : ByteArray := prog_77_method_3_code
def yJ11_vectorizedMismatch : MethodName := ⟨RJ11, "vectorizedMismatch", "(Ljava/lang/Object;JLjava/lang/Object;JII)I"⟩
def dkwJ11_vectorizedMismatch_11 : List UInt8 := [54, 10, 21, 10, 2, 130, 172, 21, 10, 2, 130, 172]
abbrev dktJ11_vectorizedMismatch_11 : List UInt8 := dkwJ11_vectorizedMismatch_11 ++ []
def dkwJ11_vectorizedMismatch_10 : List UInt8 := [178, 0, 46, 21, 7, 96, 122, 54, 17, 21, 9, 21, 8, 120, 21, 17, 96, 172, 21, 10, 21, 11, 100]
abbrev dktJ11_vectorizedMismatch_10 : List UInt8 := dkwJ11_vectorizedMismatch_10 ++ dktJ11_vectorizedMismatch_11
def dkwJ11_vectorizedMismatch_9 : List UInt8 := [153, 0, 18, 21, 16, 184, 0, 58, 178, 0, 46, 21, 7, 96, 122, 167, 0, 15, 21, 16, 184, 0, 11]
abbrev dktJ11_vectorizedMismatch_9 : List UInt8 := dkwJ11_vectorizedMismatch_9 ++ dktJ11_vectorizedMismatch_10
def dkwJ11_vectorizedMismatch_8 : List UInt8 := [182, 0, 54, 54, 15, 21, 14, 21, 15, 159, 0, 54, 21, 14, 21, 15, 130, 54, 16, 178, 0, 36]
abbrev dktJ11_vectorizedMismatch_8 : List UInt8 := dkwJ11_vectorizedMismatch_8 ++ dktJ11_vectorizedMismatch_9
def dkwJ11_vectorizedMismatch_7 : List UInt8 := [55, 12, 178, 0, 26, 42, 31, 22, 12, 97, 182, 0, 54, 54, 14, 178, 0, 26, 45, 22, 4, 22, 12, 97]
abbrev dktJ11_vectorizedMismatch_7 : List UInt8 := dkwJ11_vectorizedMismatch_7 ++ dktJ11_vectorizedMismatch_8
def dkwJ11_vectorizedMismatch_6 : List UInt8 := [4, 178, 0, 51, 21, 7, 100, 120, 54, 11, 21, 10, 21, 11, 161, 0, 104, 21, 9, 133, 178, 0, 20, 121]
abbrev dktJ11_vectorizedMismatch_6 : List UInt8 := dkwJ11_vectorizedMismatch_6 ++ dktJ11_vectorizedMismatch_7
def dkwJ11_vectorizedMismatch_5 : List UInt8 := [132, 9, 1, 167, 255, 148, 21, 6, 21, 9, 21, 8, 120, 100, 54, 10, 21, 7, 178, 0, 51, 162, 0, 126]
abbrev dktJ11_vectorizedMismatch_5 : List UInt8 := dkwJ11_vectorizedMismatch_5 ++ dktJ11_vectorizedMismatch_6
def dkwJ11_vectorizedMismatch_4 : List UInt8 := [22, 16, 184, 0, 49, 178, 0, 46, 21, 7, 96, 122, 54, 18, 21, 9, 21, 8, 120, 21, 18, 96, 172]
abbrev dktJ11_vectorizedMismatch_4 : List UInt8 := dkwJ11_vectorizedMismatch_4 ++ dktJ11_vectorizedMismatch_5
def dkwJ11_vectorizedMismatch_3 : List UInt8 := [55, 16, 178, 0, 36, 153, 0, 18, 22, 16, 184, 0, 40, 178, 0, 46, 21, 7, 96, 122, 167, 0, 15]
abbrev dktJ11_vectorizedMismatch_3 : List UInt8 := dkwJ11_vectorizedMismatch_3 ++ dktJ11_vectorizedMismatch_4
def dkwJ11_vectorizedMismatch_2 : List UInt8 := [22, 4, 22, 10, 97, 182, 0, 30, 55, 14, 22, 12, 22, 14, 148, 153, 0, 54, 22, 12, 22, 14, 131]
abbrev dktJ11_vectorizedMismatch_2 : List UInt8 := dkwJ11_vectorizedMismatch_2 ++ dktJ11_vectorizedMismatch_3
def dkwJ11_vectorizedMismatch_1 : List UInt8 := [178, 0, 20, 121, 55, 10, 178, 0, 26, 42, 31, 22, 10, 97, 182, 0, 30, 55, 12, 178, 0, 26, 45]
abbrev dktJ11_vectorizedMismatch_1 : List UInt8 := dkwJ11_vectorizedMismatch_1 ++ dktJ11_vectorizedMismatch_2
def dkwJ11_vectorizedMismatch_0 : List UInt8 := [178, 0, 20, 21, 7, 100, 54, 8, 3, 54, 9, 21, 9, 21, 6, 21, 8, 122, 162, 0, 104, 21, 9, 133]
abbrev dktJ11_vectorizedMismatch_0 : List UInt8 := dkwJ11_vectorizedMismatch_0 ++ dktJ11_vectorizedMismatch_1
theorem dksJ11_vectorizedMismatch_0 : cJ11_vectorizedMismatch.data.toList.drop 0 = dktJ11_vectorizedMismatch_0 := by decide +kernel
theorem dksJ11_vectorizedMismatch_1 : cJ11_vectorizedMismatch.data.toList.drop 24 = dktJ11_vectorizedMismatch_1 := dk_seg dksJ11_vectorizedMismatch_0 24 rfl rfl
theorem dksJ11_vectorizedMismatch_2 : cJ11_vectorizedMismatch.data.toList.drop 47 = dktJ11_vectorizedMismatch_2 := dk_seg dksJ11_vectorizedMismatch_1 23 rfl rfl
theorem dksJ11_vectorizedMismatch_3 : cJ11_vectorizedMismatch.data.toList.drop 70 = dktJ11_vectorizedMismatch_3 := dk_seg dksJ11_vectorizedMismatch_2 23 rfl rfl
theorem dksJ11_vectorizedMismatch_4 : cJ11_vectorizedMismatch.data.toList.drop 93 = dktJ11_vectorizedMismatch_4 := dk_seg dksJ11_vectorizedMismatch_3 23 rfl rfl
theorem dksJ11_vectorizedMismatch_5 : cJ11_vectorizedMismatch.data.toList.drop 116 = dktJ11_vectorizedMismatch_5 := dk_seg dksJ11_vectorizedMismatch_4 23 rfl rfl
theorem dksJ11_vectorizedMismatch_6 : cJ11_vectorizedMismatch.data.toList.drop 140 = dktJ11_vectorizedMismatch_6 := dk_seg dksJ11_vectorizedMismatch_5 24 rfl rfl
theorem dksJ11_vectorizedMismatch_7 : cJ11_vectorizedMismatch.data.toList.drop 164 = dktJ11_vectorizedMismatch_7 := dk_seg dksJ11_vectorizedMismatch_6 24 rfl rfl
theorem dksJ11_vectorizedMismatch_8 : cJ11_vectorizedMismatch.data.toList.drop 188 = dktJ11_vectorizedMismatch_8 := dk_seg dksJ11_vectorizedMismatch_7 24 rfl rfl
theorem dksJ11_vectorizedMismatch_9 : cJ11_vectorizedMismatch.data.toList.drop 210 = dktJ11_vectorizedMismatch_9 := dk_seg dksJ11_vectorizedMismatch_8 22 rfl rfl
theorem dksJ11_vectorizedMismatch_10 : cJ11_vectorizedMismatch.data.toList.drop 233 = dktJ11_vectorizedMismatch_10 := dk_seg dksJ11_vectorizedMismatch_9 23 rfl rfl
theorem dksJ11_vectorizedMismatch_11 : cJ11_vectorizedMismatch.data.toList.drop 256 = dktJ11_vectorizedMismatch_11 := dk_seg dksJ11_vectorizedMismatch_10 23 rfl rfl
theorem dJ11_vectorizedMismatch_0 : decode cJ11_vectorizedMismatch 0 = .ok (.getstatic 20, 3) := dk_178 0 20 (dk_at dksJ11_vectorizedMismatch_0 0 rfl rfl)
theorem dJ11_vectorizedMismatch_3 : decode cJ11_vectorizedMismatch 3 = .ok (.iload 7, 2) := dk_21 7 (dk_at dksJ11_vectorizedMismatch_0 3 rfl rfl)
theorem dJ11_vectorizedMismatch_5 : decode cJ11_vectorizedMismatch 5 = .ok (.isub, 1) := dk_100 (dk_at dksJ11_vectorizedMismatch_0 5 rfl rfl)
theorem dJ11_vectorizedMismatch_6 : decode cJ11_vectorizedMismatch 6 = .ok (.istore 8, 2) := dk_54 8 (dk_at dksJ11_vectorizedMismatch_0 6 rfl rfl)
theorem dJ11_vectorizedMismatch_8 : decode cJ11_vectorizedMismatch 8 = .ok (.iconst 0, 1) := dk_3 (dk_at dksJ11_vectorizedMismatch_0 8 rfl rfl)
theorem dJ11_vectorizedMismatch_9 : decode cJ11_vectorizedMismatch 9 = .ok (.istore 9, 2) := dk_54 9 (dk_at dksJ11_vectorizedMismatch_0 9 rfl rfl)
theorem dJ11_vectorizedMismatch_11 : decode cJ11_vectorizedMismatch 11 = .ok (.iload 9, 2) := dk_21 9 (dk_at dksJ11_vectorizedMismatch_0 11 rfl rfl)
theorem dJ11_vectorizedMismatch_13 : decode cJ11_vectorizedMismatch 13 = .ok (.iload 6, 2) := dk_21 6 (dk_at dksJ11_vectorizedMismatch_0 13 rfl rfl)
theorem dJ11_vectorizedMismatch_15 : decode cJ11_vectorizedMismatch 15 = .ok (.iload 8, 2) := dk_21 8 (dk_at dksJ11_vectorizedMismatch_0 15 rfl rfl)
theorem dJ11_vectorizedMismatch_17 : decode cJ11_vectorizedMismatch 17 = .ok (.ishr, 1) := dk_122 (dk_at dksJ11_vectorizedMismatch_0 17 rfl rfl)
theorem dJ11_vectorizedMismatch_18 : decode cJ11_vectorizedMismatch 18 = .ok (.if_icmp .ge 104, 3) := dk_162 0 104 (dk_at dksJ11_vectorizedMismatch_0 18 rfl rfl)
theorem dJ11_vectorizedMismatch_21 : decode cJ11_vectorizedMismatch 21 = .ok (.iload 9, 2) := dk_21 9 (dk_at dksJ11_vectorizedMismatch_0 21 rfl rfl)
theorem dJ11_vectorizedMismatch_23 : decode cJ11_vectorizedMismatch 23 = .ok (.i2l, 1) := dk_133 (dk_at dksJ11_vectorizedMismatch_0 23 rfl rfl)
theorem dJ11_vectorizedMismatch_24 : decode cJ11_vectorizedMismatch 24 = .ok (.getstatic 20, 3) := dk_178 0 20 (dk_at dksJ11_vectorizedMismatch_1 0 rfl rfl)
theorem dJ11_vectorizedMismatch_27 : decode cJ11_vectorizedMismatch 27 = .ok (.lshl, 1) := dk_121 (dk_at dksJ11_vectorizedMismatch_1 3 rfl rfl)
theorem dJ11_vectorizedMismatch_28 : decode cJ11_vectorizedMismatch 28 = .ok (.lstore 10, 2) := dk_55 10 (dk_at dksJ11_vectorizedMismatch_1 4 rfl rfl)
theorem dJ11_vectorizedMismatch_30 : decode cJ11_vectorizedMismatch 30 = .ok (.getstatic 26, 3) := dk_178 0 26 (dk_at dksJ11_vectorizedMismatch_1 6 rfl rfl)
theorem dJ11_vectorizedMismatch_33 : decode cJ11_vectorizedMismatch 33 = .ok (.aload_n 0, 1) := dk_42 (dk_at dksJ11_vectorizedMismatch_1 9 rfl rfl)
theorem dJ11_vectorizedMismatch_34 : decode cJ11_vectorizedMismatch 34 = .ok (.lload_n 1, 1) := dk_31 (dk_at dksJ11_vectorizedMismatch_1 10 rfl rfl)
theorem dJ11_vectorizedMismatch_35 : decode cJ11_vectorizedMismatch 35 = .ok (.lload 10, 2) := dk_22 10 (dk_at dksJ11_vectorizedMismatch_1 11 rfl rfl)
theorem dJ11_vectorizedMismatch_37 : decode cJ11_vectorizedMismatch 37 = .ok (.ladd, 1) := dk_97 (dk_at dksJ11_vectorizedMismatch_1 13 rfl rfl)
theorem dJ11_vectorizedMismatch_38 : decode cJ11_vectorizedMismatch 38 = .ok (.invokevirtual 30, 3) := dk_182 0 30 (dk_at dksJ11_vectorizedMismatch_1 14 rfl rfl)
theorem dJ11_vectorizedMismatch_41 : decode cJ11_vectorizedMismatch 41 = .ok (.lstore 12, 2) := dk_55 12 (dk_at dksJ11_vectorizedMismatch_1 17 rfl rfl)
theorem dJ11_vectorizedMismatch_43 : decode cJ11_vectorizedMismatch 43 = .ok (.getstatic 26, 3) := dk_178 0 26 (dk_at dksJ11_vectorizedMismatch_1 19 rfl rfl)
theorem dJ11_vectorizedMismatch_46 : decode cJ11_vectorizedMismatch 46 = .ok (.aload_n 3, 1) := dk_45 (dk_at dksJ11_vectorizedMismatch_1 22 rfl rfl)
theorem dJ11_vectorizedMismatch_47 : decode cJ11_vectorizedMismatch 47 = .ok (.lload 4, 2) := dk_22 4 (dk_at dksJ11_vectorizedMismatch_2 0 rfl rfl)
theorem dJ11_vectorizedMismatch_49 : decode cJ11_vectorizedMismatch 49 = .ok (.lload 10, 2) := dk_22 10 (dk_at dksJ11_vectorizedMismatch_2 2 rfl rfl)
theorem dJ11_vectorizedMismatch_51 : decode cJ11_vectorizedMismatch 51 = .ok (.ladd, 1) := dk_97 (dk_at dksJ11_vectorizedMismatch_2 4 rfl rfl)
theorem dJ11_vectorizedMismatch_52 : decode cJ11_vectorizedMismatch 52 = .ok (.invokevirtual 30, 3) := dk_182 0 30 (dk_at dksJ11_vectorizedMismatch_2 5 rfl rfl)
theorem dJ11_vectorizedMismatch_55 : decode cJ11_vectorizedMismatch 55 = .ok (.lstore 14, 2) := dk_55 14 (dk_at dksJ11_vectorizedMismatch_2 8 rfl rfl)
theorem dJ11_vectorizedMismatch_57 : decode cJ11_vectorizedMismatch 57 = .ok (.lload 12, 2) := dk_22 12 (dk_at dksJ11_vectorizedMismatch_2 10 rfl rfl)
theorem dJ11_vectorizedMismatch_59 : decode cJ11_vectorizedMismatch 59 = .ok (.lload 14, 2) := dk_22 14 (dk_at dksJ11_vectorizedMismatch_2 12 rfl rfl)
theorem dJ11_vectorizedMismatch_61 : decode cJ11_vectorizedMismatch 61 = .ok (.lcmp, 1) := dk_148 (dk_at dksJ11_vectorizedMismatch_2 14 rfl rfl)
theorem dJ11_vectorizedMismatch_62 : decode cJ11_vectorizedMismatch 62 = .ok (.ifCond .eq 54, 3) := dk_153 0 54 (dk_at dksJ11_vectorizedMismatch_2 15 rfl rfl)
theorem dJ11_vectorizedMismatch_65 : decode cJ11_vectorizedMismatch 65 = .ok (.lload 12, 2) := dk_22 12 (dk_at dksJ11_vectorizedMismatch_2 18 rfl rfl)
theorem dJ11_vectorizedMismatch_67 : decode cJ11_vectorizedMismatch 67 = .ok (.lload 14, 2) := dk_22 14 (dk_at dksJ11_vectorizedMismatch_2 20 rfl rfl)
theorem dJ11_vectorizedMismatch_69 : decode cJ11_vectorizedMismatch 69 = .ok (.lxor, 1) := dk_131 (dk_at dksJ11_vectorizedMismatch_2 22 rfl rfl)
theorem dJ11_vectorizedMismatch_70 : decode cJ11_vectorizedMismatch 70 = .ok (.lstore 16, 2) := dk_55 16 (dk_at dksJ11_vectorizedMismatch_3 0 rfl rfl)
theorem dJ11_vectorizedMismatch_72 : decode cJ11_vectorizedMismatch 72 = .ok (.getstatic 36, 3) := dk_178 0 36 (dk_at dksJ11_vectorizedMismatch_3 2 rfl rfl)
theorem dJ11_vectorizedMismatch_75 : decode cJ11_vectorizedMismatch 75 = .ok (.ifCond .eq 18, 3) := dk_153 0 18 (dk_at dksJ11_vectorizedMismatch_3 5 rfl rfl)
theorem dJ11_vectorizedMismatch_78 : decode cJ11_vectorizedMismatch 78 = .ok (.lload 16, 2) := dk_22 16 (dk_at dksJ11_vectorizedMismatch_3 8 rfl rfl)
theorem dJ11_vectorizedMismatch_80 : decode cJ11_vectorizedMismatch 80 = .ok (.invokestatic 40, 3) := dk_184 0 40 (dk_at dksJ11_vectorizedMismatch_3 10 rfl rfl)
theorem dJ11_vectorizedMismatch_83 : decode cJ11_vectorizedMismatch 83 = .ok (.getstatic 46, 3) := dk_178 0 46 (dk_at dksJ11_vectorizedMismatch_3 13 rfl rfl)
theorem dJ11_vectorizedMismatch_86 : decode cJ11_vectorizedMismatch 86 = .ok (.iload 7, 2) := dk_21 7 (dk_at dksJ11_vectorizedMismatch_3 16 rfl rfl)
theorem dJ11_vectorizedMismatch_88 : decode cJ11_vectorizedMismatch 88 = .ok (.iadd, 1) := dk_96 (dk_at dksJ11_vectorizedMismatch_3 18 rfl rfl)
theorem dJ11_vectorizedMismatch_89 : decode cJ11_vectorizedMismatch 89 = .ok (.ishr, 1) := dk_122 (dk_at dksJ11_vectorizedMismatch_3 19 rfl rfl)
theorem dJ11_vectorizedMismatch_90 : decode cJ11_vectorizedMismatch 90 = .ok (.goto 15, 3) := dk_167 0 15 (dk_at dksJ11_vectorizedMismatch_3 20 rfl rfl)
theorem dJ11_vectorizedMismatch_93 : decode cJ11_vectorizedMismatch 93 = .ok (.lload 16, 2) := dk_22 16 (dk_at dksJ11_vectorizedMismatch_4 0 rfl rfl)
theorem dJ11_vectorizedMismatch_95 : decode cJ11_vectorizedMismatch 95 = .ok (.invokestatic 49, 3) := dk_184 0 49 (dk_at dksJ11_vectorizedMismatch_4 2 rfl rfl)
theorem dJ11_vectorizedMismatch_98 : decode cJ11_vectorizedMismatch 98 = .ok (.getstatic 46, 3) := dk_178 0 46 (dk_at dksJ11_vectorizedMismatch_4 5 rfl rfl)
theorem dJ11_vectorizedMismatch_101 : decode cJ11_vectorizedMismatch 101 = .ok (.iload 7, 2) := dk_21 7 (dk_at dksJ11_vectorizedMismatch_4 8 rfl rfl)
theorem dJ11_vectorizedMismatch_103 : decode cJ11_vectorizedMismatch 103 = .ok (.iadd, 1) := dk_96 (dk_at dksJ11_vectorizedMismatch_4 10 rfl rfl)
theorem dJ11_vectorizedMismatch_104 : decode cJ11_vectorizedMismatch 104 = .ok (.ishr, 1) := dk_122 (dk_at dksJ11_vectorizedMismatch_4 11 rfl rfl)
theorem dJ11_vectorizedMismatch_105 : decode cJ11_vectorizedMismatch 105 = .ok (.istore 18, 2) := dk_54 18 (dk_at dksJ11_vectorizedMismatch_4 12 rfl rfl)
theorem dJ11_vectorizedMismatch_107 : decode cJ11_vectorizedMismatch 107 = .ok (.iload 9, 2) := dk_21 9 (dk_at dksJ11_vectorizedMismatch_4 14 rfl rfl)
theorem dJ11_vectorizedMismatch_109 : decode cJ11_vectorizedMismatch 109 = .ok (.iload 8, 2) := dk_21 8 (dk_at dksJ11_vectorizedMismatch_4 16 rfl rfl)
theorem dJ11_vectorizedMismatch_111 : decode cJ11_vectorizedMismatch 111 = .ok (.ishl, 1) := dk_120 (dk_at dksJ11_vectorizedMismatch_4 18 rfl rfl)
theorem dJ11_vectorizedMismatch_112 : decode cJ11_vectorizedMismatch 112 = .ok (.iload 18, 2) := dk_21 18 (dk_at dksJ11_vectorizedMismatch_4 19 rfl rfl)
theorem dJ11_vectorizedMismatch_114 : decode cJ11_vectorizedMismatch 114 = .ok (.iadd, 1) := dk_96 (dk_at dksJ11_vectorizedMismatch_4 21 rfl rfl)
theorem dJ11_vectorizedMismatch_115 : decode cJ11_vectorizedMismatch 115 = .ok (.ireturn, 1) := dk_172 (dk_at dksJ11_vectorizedMismatch_4 22 rfl rfl)
theorem dJ11_vectorizedMismatch_116 : decode cJ11_vectorizedMismatch 116 = .ok (.iinc 9 1, 3) := dk_132 9 1 (dk_at dksJ11_vectorizedMismatch_5 0 rfl rfl)
theorem dJ11_vectorizedMismatch_119 : decode cJ11_vectorizedMismatch 119 = .ok (.goto (-108), 3) := dk_167 255 148 (dk_at dksJ11_vectorizedMismatch_5 3 rfl rfl)
theorem dJ11_vectorizedMismatch_122 : decode cJ11_vectorizedMismatch 122 = .ok (.iload 6, 2) := dk_21 6 (dk_at dksJ11_vectorizedMismatch_5 6 rfl rfl)
theorem dJ11_vectorizedMismatch_124 : decode cJ11_vectorizedMismatch 124 = .ok (.iload 9, 2) := dk_21 9 (dk_at dksJ11_vectorizedMismatch_5 8 rfl rfl)
theorem dJ11_vectorizedMismatch_126 : decode cJ11_vectorizedMismatch 126 = .ok (.iload 8, 2) := dk_21 8 (dk_at dksJ11_vectorizedMismatch_5 10 rfl rfl)
theorem dJ11_vectorizedMismatch_128 : decode cJ11_vectorizedMismatch 128 = .ok (.ishl, 1) := dk_120 (dk_at dksJ11_vectorizedMismatch_5 12 rfl rfl)
theorem dJ11_vectorizedMismatch_129 : decode cJ11_vectorizedMismatch 129 = .ok (.isub, 1) := dk_100 (dk_at dksJ11_vectorizedMismatch_5 13 rfl rfl)
theorem dJ11_vectorizedMismatch_130 : decode cJ11_vectorizedMismatch 130 = .ok (.istore 10, 2) := dk_54 10 (dk_at dksJ11_vectorizedMismatch_5 14 rfl rfl)
theorem dJ11_vectorizedMismatch_132 : decode cJ11_vectorizedMismatch 132 = .ok (.iload 7, 2) := dk_21 7 (dk_at dksJ11_vectorizedMismatch_5 16 rfl rfl)
theorem dJ11_vectorizedMismatch_134 : decode cJ11_vectorizedMismatch 134 = .ok (.getstatic 51, 3) := dk_178 0 51 (dk_at dksJ11_vectorizedMismatch_5 18 rfl rfl)
theorem dJ11_vectorizedMismatch_137 : decode cJ11_vectorizedMismatch 137 = .ok (.if_icmp .ge 126, 3) := dk_162 0 126 (dk_at dksJ11_vectorizedMismatch_5 21 rfl rfl)
theorem dJ11_vectorizedMismatch_140 : decode cJ11_vectorizedMismatch 140 = .ok (.iconst 1, 1) := dk_4 (dk_at dksJ11_vectorizedMismatch_6 0 rfl rfl)
theorem dJ11_vectorizedMismatch_141 : decode cJ11_vectorizedMismatch 141 = .ok (.getstatic 51, 3) := dk_178 0 51 (dk_at dksJ11_vectorizedMismatch_6 1 rfl rfl)
theorem dJ11_vectorizedMismatch_144 : decode cJ11_vectorizedMismatch 144 = .ok (.iload 7, 2) := dk_21 7 (dk_at dksJ11_vectorizedMismatch_6 4 rfl rfl)
theorem dJ11_vectorizedMismatch_146 : decode cJ11_vectorizedMismatch 146 = .ok (.isub, 1) := dk_100 (dk_at dksJ11_vectorizedMismatch_6 6 rfl rfl)
theorem dJ11_vectorizedMismatch_147 : decode cJ11_vectorizedMismatch 147 = .ok (.ishl, 1) := dk_120 (dk_at dksJ11_vectorizedMismatch_6 7 rfl rfl)
theorem dJ11_vectorizedMismatch_148 : decode cJ11_vectorizedMismatch 148 = .ok (.istore 11, 2) := dk_54 11 (dk_at dksJ11_vectorizedMismatch_6 8 rfl rfl)
theorem dJ11_vectorizedMismatch_150 : decode cJ11_vectorizedMismatch 150 = .ok (.iload 10, 2) := dk_21 10 (dk_at dksJ11_vectorizedMismatch_6 10 rfl rfl)
theorem dJ11_vectorizedMismatch_152 : decode cJ11_vectorizedMismatch 152 = .ok (.iload 11, 2) := dk_21 11 (dk_at dksJ11_vectorizedMismatch_6 12 rfl rfl)
theorem dJ11_vectorizedMismatch_154 : decode cJ11_vectorizedMismatch 154 = .ok (.if_icmp .lt 104, 3) := dk_161 0 104 (dk_at dksJ11_vectorizedMismatch_6 14 rfl rfl)
theorem dJ11_vectorizedMismatch_157 : decode cJ11_vectorizedMismatch 157 = .ok (.iload 9, 2) := dk_21 9 (dk_at dksJ11_vectorizedMismatch_6 17 rfl rfl)
theorem dJ11_vectorizedMismatch_159 : decode cJ11_vectorizedMismatch 159 = .ok (.i2l, 1) := dk_133 (dk_at dksJ11_vectorizedMismatch_6 19 rfl rfl)
theorem dJ11_vectorizedMismatch_160 : decode cJ11_vectorizedMismatch 160 = .ok (.getstatic 20, 3) := dk_178 0 20 (dk_at dksJ11_vectorizedMismatch_6 20 rfl rfl)
theorem dJ11_vectorizedMismatch_163 : decode cJ11_vectorizedMismatch 163 = .ok (.lshl, 1) := dk_121 (dk_at dksJ11_vectorizedMismatch_6 23 rfl rfl)
theorem dJ11_vectorizedMismatch_164 : decode cJ11_vectorizedMismatch 164 = .ok (.lstore 12, 2) := dk_55 12 (dk_at dksJ11_vectorizedMismatch_7 0 rfl rfl)
theorem dJ11_vectorizedMismatch_166 : decode cJ11_vectorizedMismatch 166 = .ok (.getstatic 26, 3) := dk_178 0 26 (dk_at dksJ11_vectorizedMismatch_7 2 rfl rfl)
theorem dJ11_vectorizedMismatch_169 : decode cJ11_vectorizedMismatch 169 = .ok (.aload_n 0, 1) := dk_42 (dk_at dksJ11_vectorizedMismatch_7 5 rfl rfl)
theorem dJ11_vectorizedMismatch_170 : decode cJ11_vectorizedMismatch 170 = .ok (.lload_n 1, 1) := dk_31 (dk_at dksJ11_vectorizedMismatch_7 6 rfl rfl)
theorem dJ11_vectorizedMismatch_171 : decode cJ11_vectorizedMismatch 171 = .ok (.lload 12, 2) := dk_22 12 (dk_at dksJ11_vectorizedMismatch_7 7 rfl rfl)
theorem dJ11_vectorizedMismatch_173 : decode cJ11_vectorizedMismatch 173 = .ok (.ladd, 1) := dk_97 (dk_at dksJ11_vectorizedMismatch_7 9 rfl rfl)
theorem dJ11_vectorizedMismatch_174 : decode cJ11_vectorizedMismatch 174 = .ok (.invokevirtual 54, 3) := dk_182 0 54 (dk_at dksJ11_vectorizedMismatch_7 10 rfl rfl)
theorem dJ11_vectorizedMismatch_177 : decode cJ11_vectorizedMismatch 177 = .ok (.istore 14, 2) := dk_54 14 (dk_at dksJ11_vectorizedMismatch_7 13 rfl rfl)
theorem dJ11_vectorizedMismatch_179 : decode cJ11_vectorizedMismatch 179 = .ok (.getstatic 26, 3) := dk_178 0 26 (dk_at dksJ11_vectorizedMismatch_7 15 rfl rfl)
theorem dJ11_vectorizedMismatch_182 : decode cJ11_vectorizedMismatch 182 = .ok (.aload_n 3, 1) := dk_45 (dk_at dksJ11_vectorizedMismatch_7 18 rfl rfl)
theorem dJ11_vectorizedMismatch_183 : decode cJ11_vectorizedMismatch 183 = .ok (.lload 4, 2) := dk_22 4 (dk_at dksJ11_vectorizedMismatch_7 19 rfl rfl)
theorem dJ11_vectorizedMismatch_185 : decode cJ11_vectorizedMismatch 185 = .ok (.lload 12, 2) := dk_22 12 (dk_at dksJ11_vectorizedMismatch_7 21 rfl rfl)
theorem dJ11_vectorizedMismatch_187 : decode cJ11_vectorizedMismatch 187 = .ok (.ladd, 1) := dk_97 (dk_at dksJ11_vectorizedMismatch_7 23 rfl rfl)
theorem dJ11_vectorizedMismatch_188 : decode cJ11_vectorizedMismatch 188 = .ok (.invokevirtual 54, 3) := dk_182 0 54 (dk_at dksJ11_vectorizedMismatch_8 0 rfl rfl)
theorem dJ11_vectorizedMismatch_191 : decode cJ11_vectorizedMismatch 191 = .ok (.istore 15, 2) := dk_54 15 (dk_at dksJ11_vectorizedMismatch_8 3 rfl rfl)
theorem dJ11_vectorizedMismatch_193 : decode cJ11_vectorizedMismatch 193 = .ok (.iload 14, 2) := dk_21 14 (dk_at dksJ11_vectorizedMismatch_8 5 rfl rfl)
theorem dJ11_vectorizedMismatch_195 : decode cJ11_vectorizedMismatch 195 = .ok (.iload 15, 2) := dk_21 15 (dk_at dksJ11_vectorizedMismatch_8 7 rfl rfl)
theorem dJ11_vectorizedMismatch_197 : decode cJ11_vectorizedMismatch 197 = .ok (.if_icmp .eq 54, 3) := dk_159 0 54 (dk_at dksJ11_vectorizedMismatch_8 9 rfl rfl)
theorem dJ11_vectorizedMismatch_200 : decode cJ11_vectorizedMismatch 200 = .ok (.iload 14, 2) := dk_21 14 (dk_at dksJ11_vectorizedMismatch_8 12 rfl rfl)
theorem dJ11_vectorizedMismatch_202 : decode cJ11_vectorizedMismatch 202 = .ok (.iload 15, 2) := dk_21 15 (dk_at dksJ11_vectorizedMismatch_8 14 rfl rfl)
theorem dJ11_vectorizedMismatch_204 : decode cJ11_vectorizedMismatch 204 = .ok (.ixor, 1) := dk_130 (dk_at dksJ11_vectorizedMismatch_8 16 rfl rfl)
theorem dJ11_vectorizedMismatch_205 : decode cJ11_vectorizedMismatch 205 = .ok (.istore 16, 2) := dk_54 16 (dk_at dksJ11_vectorizedMismatch_8 17 rfl rfl)
theorem dJ11_vectorizedMismatch_207 : decode cJ11_vectorizedMismatch 207 = .ok (.getstatic 36, 3) := dk_178 0 36 (dk_at dksJ11_vectorizedMismatch_8 19 rfl rfl)
theorem dJ11_vectorizedMismatch_210 : decode cJ11_vectorizedMismatch 210 = .ok (.ifCond .eq 18, 3) := dk_153 0 18 (dk_at dksJ11_vectorizedMismatch_9 0 rfl rfl)
theorem dJ11_vectorizedMismatch_213 : decode cJ11_vectorizedMismatch 213 = .ok (.iload 16, 2) := dk_21 16 (dk_at dksJ11_vectorizedMismatch_9 3 rfl rfl)
theorem dJ11_vectorizedMismatch_215 : decode cJ11_vectorizedMismatch 215 = .ok (.invokestatic 58, 3) := dk_184 0 58 (dk_at dksJ11_vectorizedMismatch_9 5 rfl rfl)
theorem dJ11_vectorizedMismatch_218 : decode cJ11_vectorizedMismatch 218 = .ok (.getstatic 46, 3) := dk_178 0 46 (dk_at dksJ11_vectorizedMismatch_9 8 rfl rfl)
theorem dJ11_vectorizedMismatch_221 : decode cJ11_vectorizedMismatch 221 = .ok (.iload 7, 2) := dk_21 7 (dk_at dksJ11_vectorizedMismatch_9 11 rfl rfl)
theorem dJ11_vectorizedMismatch_223 : decode cJ11_vectorizedMismatch 223 = .ok (.iadd, 1) := dk_96 (dk_at dksJ11_vectorizedMismatch_9 13 rfl rfl)
theorem dJ11_vectorizedMismatch_224 : decode cJ11_vectorizedMismatch 224 = .ok (.ishr, 1) := dk_122 (dk_at dksJ11_vectorizedMismatch_9 14 rfl rfl)
theorem dJ11_vectorizedMismatch_225 : decode cJ11_vectorizedMismatch 225 = .ok (.goto 15, 3) := dk_167 0 15 (dk_at dksJ11_vectorizedMismatch_9 15 rfl rfl)
theorem dJ11_vectorizedMismatch_228 : decode cJ11_vectorizedMismatch 228 = .ok (.iload 16, 2) := dk_21 16 (dk_at dksJ11_vectorizedMismatch_9 18 rfl rfl)
theorem dJ11_vectorizedMismatch_230 : decode cJ11_vectorizedMismatch 230 = .ok (.invokestatic 11, 3) := dk_184 0 11 (dk_at dksJ11_vectorizedMismatch_9 20 rfl rfl)
theorem dJ11_vectorizedMismatch_233 : decode cJ11_vectorizedMismatch 233 = .ok (.getstatic 46, 3) := dk_178 0 46 (dk_at dksJ11_vectorizedMismatch_10 0 rfl rfl)
theorem dJ11_vectorizedMismatch_236 : decode cJ11_vectorizedMismatch 236 = .ok (.iload 7, 2) := dk_21 7 (dk_at dksJ11_vectorizedMismatch_10 3 rfl rfl)
theorem dJ11_vectorizedMismatch_238 : decode cJ11_vectorizedMismatch 238 = .ok (.iadd, 1) := dk_96 (dk_at dksJ11_vectorizedMismatch_10 5 rfl rfl)
theorem dJ11_vectorizedMismatch_239 : decode cJ11_vectorizedMismatch 239 = .ok (.ishr, 1) := dk_122 (dk_at dksJ11_vectorizedMismatch_10 6 rfl rfl)
theorem dJ11_vectorizedMismatch_240 : decode cJ11_vectorizedMismatch 240 = .ok (.istore 17, 2) := dk_54 17 (dk_at dksJ11_vectorizedMismatch_10 7 rfl rfl)
theorem dJ11_vectorizedMismatch_242 : decode cJ11_vectorizedMismatch 242 = .ok (.iload 9, 2) := dk_21 9 (dk_at dksJ11_vectorizedMismatch_10 9 rfl rfl)
theorem dJ11_vectorizedMismatch_244 : decode cJ11_vectorizedMismatch 244 = .ok (.iload 8, 2) := dk_21 8 (dk_at dksJ11_vectorizedMismatch_10 11 rfl rfl)
theorem dJ11_vectorizedMismatch_246 : decode cJ11_vectorizedMismatch 246 = .ok (.ishl, 1) := dk_120 (dk_at dksJ11_vectorizedMismatch_10 13 rfl rfl)
theorem dJ11_vectorizedMismatch_247 : decode cJ11_vectorizedMismatch 247 = .ok (.iload 17, 2) := dk_21 17 (dk_at dksJ11_vectorizedMismatch_10 14 rfl rfl)
theorem dJ11_vectorizedMismatch_249 : decode cJ11_vectorizedMismatch 249 = .ok (.iadd, 1) := dk_96 (dk_at dksJ11_vectorizedMismatch_10 16 rfl rfl)
theorem dJ11_vectorizedMismatch_250 : decode cJ11_vectorizedMismatch 250 = .ok (.ireturn, 1) := dk_172 (dk_at dksJ11_vectorizedMismatch_10 17 rfl rfl)
theorem dJ11_vectorizedMismatch_251 : decode cJ11_vectorizedMismatch 251 = .ok (.iload 10, 2) := dk_21 10 (dk_at dksJ11_vectorizedMismatch_10 18 rfl rfl)
theorem dJ11_vectorizedMismatch_253 : decode cJ11_vectorizedMismatch 253 = .ok (.iload 11, 2) := dk_21 11 (dk_at dksJ11_vectorizedMismatch_10 20 rfl rfl)
theorem dJ11_vectorizedMismatch_255 : decode cJ11_vectorizedMismatch 255 = .ok (.isub, 1) := dk_100 (dk_at dksJ11_vectorizedMismatch_10 22 rfl rfl)
theorem dJ11_vectorizedMismatch_256 : decode cJ11_vectorizedMismatch 256 = .ok (.istore 10, 2) := dk_54 10 (dk_at dksJ11_vectorizedMismatch_11 0 rfl rfl)
theorem dJ11_vectorizedMismatch_258 : decode cJ11_vectorizedMismatch 258 = .ok (.iload 10, 2) := dk_21 10 (dk_at dksJ11_vectorizedMismatch_11 2 rfl rfl)
theorem dJ11_vectorizedMismatch_260 : decode cJ11_vectorizedMismatch 260 = .ok (.iconst (-1), 1) := dk_2 (dk_at dksJ11_vectorizedMismatch_11 4 rfl rfl)
theorem dJ11_vectorizedMismatch_261 : decode cJ11_vectorizedMismatch 261 = .ok (.ixor, 1) := dk_130 (dk_at dksJ11_vectorizedMismatch_11 5 rfl rfl)
theorem dJ11_vectorizedMismatch_262 : decode cJ11_vectorizedMismatch 262 = .ok (.ireturn, 1) := dk_172 (dk_at dksJ11_vectorizedMismatch_11 6 rfl rfl)
theorem dJ11_vectorizedMismatch_263 : decode cJ11_vectorizedMismatch 263 = .ok (.iload 10, 2) := dk_21 10 (dk_at dksJ11_vectorizedMismatch_11 7 rfl rfl)
theorem dJ11_vectorizedMismatch_265 : decode cJ11_vectorizedMismatch 265 = .ok (.iconst (-1), 1) := dk_2 (dk_at dksJ11_vectorizedMismatch_11 9 rfl rfl)
theorem dJ11_vectorizedMismatch_266 : decode cJ11_vectorizedMismatch 266 = .ok (.ixor, 1) := dk_130 (dk_at dksJ11_vectorizedMismatch_11 10 rfl rfl)
theorem dJ11_vectorizedMismatch_267 : decode cJ11_vectorizedMismatch 267 = .ok (.ireturn, 1) := dk_172 (dk_at dksJ11_vectorizedMismatch_11 11 rfl rfl)
abbrev cJ11_mismatch_2 : ByteArray := prog_77_method_14_code
def yJ11_mismatch_2 : MethodName := ⟨RJ11, "mismatch", "([BI[BII)I"⟩
def dkwJ11_mismatch_2_4 : List UInt8 := [132, 5, 1, 167, 255, 228, 2, 172]
abbrev dktJ11_mismatch_2_4 : List UInt8 := dkwJ11_mismatch_2_4 ++ []
def dkwJ11_mismatch_2_3 : List UInt8 := [21, 4, 162, 0, 27, 42, 27, 21, 5, 96, 51, 44, 29, 21, 5, 96, 51, 159, 0, 6, 21, 5, 172]
abbrev dktJ11_mismatch_2_3 : List UInt8 := dkwJ11_mismatch_2_3 ++ dktJ11_mismatch_2_4
def dkwJ11_mismatch_2_2 : List UInt8 := [184, 0, 122, 54, 5, 21, 5, 155, 0, 6, 21, 5, 172, 21, 4, 21, 5, 2, 130, 100, 54, 5, 21, 5]
abbrev dktJ11_mismatch_2_2 : List UInt8 := dkwJ11_mismatch_2_2 ++ dktJ11_mismatch_2_3
def dkwJ11_mismatch_2_1 : List UInt8 := [27, 96, 54, 6, 178, 0, 126, 29, 96, 54, 7, 42, 21, 6, 133, 44, 21, 7, 133, 21, 4, 178, 0, 129]
abbrev dktJ11_mismatch_2_1 : List UInt8 := dkwJ11_mismatch_2_1 ++ dktJ11_mismatch_2_2
def dkwJ11_mismatch_2_0 : List UInt8 := [3, 54, 5, 21, 4, 16, 7, 164, 0, 63, 42, 27, 51, 44, 29, 51, 159, 0, 5, 3, 172, 178, 0, 126]
abbrev dktJ11_mismatch_2_0 : List UInt8 := dkwJ11_mismatch_2_0 ++ dktJ11_mismatch_2_1
theorem dksJ11_mismatch_2_0 : cJ11_mismatch_2.data.toList.drop 0 = dktJ11_mismatch_2_0 := by decide +kernel
theorem dksJ11_mismatch_2_1 : cJ11_mismatch_2.data.toList.drop 24 = dktJ11_mismatch_2_1 := dk_seg dksJ11_mismatch_2_0 24 rfl rfl
theorem dksJ11_mismatch_2_2 : cJ11_mismatch_2.data.toList.drop 48 = dktJ11_mismatch_2_2 := dk_seg dksJ11_mismatch_2_1 24 rfl rfl
theorem dksJ11_mismatch_2_3 : cJ11_mismatch_2.data.toList.drop 72 = dktJ11_mismatch_2_3 := dk_seg dksJ11_mismatch_2_2 24 rfl rfl
theorem dksJ11_mismatch_2_4 : cJ11_mismatch_2.data.toList.drop 95 = dktJ11_mismatch_2_4 := dk_seg dksJ11_mismatch_2_3 23 rfl rfl
theorem dJ11_mismatch_2_0 : decode cJ11_mismatch_2 0 = .ok (.iconst 0, 1) := dk_3 (dk_at dksJ11_mismatch_2_0 0 rfl rfl)
theorem dJ11_mismatch_2_1 : decode cJ11_mismatch_2 1 = .ok (.istore 5, 2) := dk_54 5 (dk_at dksJ11_mismatch_2_0 1 rfl rfl)
theorem dJ11_mismatch_2_3 : decode cJ11_mismatch_2 3 = .ok (.iload 4, 2) := dk_21 4 (dk_at dksJ11_mismatch_2_0 3 rfl rfl)
theorem dJ11_mismatch_2_5 : decode cJ11_mismatch_2 5 = .ok (.bipush 7, 2) := dk_16 7 (dk_at dksJ11_mismatch_2_0 5 rfl rfl)
theorem dJ11_mismatch_2_7 : decode cJ11_mismatch_2 7 = .ok (.if_icmp .le 63, 3) := dk_164 0 63 (dk_at dksJ11_mismatch_2_0 7 rfl rfl)
theorem dJ11_mismatch_2_10 : decode cJ11_mismatch_2 10 = .ok (.aload_n 0, 1) := dk_42 (dk_at dksJ11_mismatch_2_0 10 rfl rfl)
theorem dJ11_mismatch_2_11 : decode cJ11_mismatch_2 11 = .ok (.iload_n 1, 1) := dk_27 (dk_at dksJ11_mismatch_2_0 11 rfl rfl)
theorem dJ11_mismatch_2_12 : decode cJ11_mismatch_2 12 = .ok (.baload, 1) := dk_51 (dk_at dksJ11_mismatch_2_0 12 rfl rfl)
theorem dJ11_mismatch_2_13 : decode cJ11_mismatch_2 13 = .ok (.aload_n 2, 1) := dk_44 (dk_at dksJ11_mismatch_2_0 13 rfl rfl)
theorem dJ11_mismatch_2_14 : decode cJ11_mismatch_2 14 = .ok (.iload_n 3, 1) := dk_29 (dk_at dksJ11_mismatch_2_0 14 rfl rfl)
theorem dJ11_mismatch_2_15 : decode cJ11_mismatch_2 15 = .ok (.baload, 1) := dk_51 (dk_at dksJ11_mismatch_2_0 15 rfl rfl)
theorem dJ11_mismatch_2_16 : decode cJ11_mismatch_2 16 = .ok (.if_icmp .eq 5, 3) := dk_159 0 5 (dk_at dksJ11_mismatch_2_0 16 rfl rfl)
theorem dJ11_mismatch_2_19 : decode cJ11_mismatch_2 19 = .ok (.iconst 0, 1) := dk_3 (dk_at dksJ11_mismatch_2_0 19 rfl rfl)
theorem dJ11_mismatch_2_20 : decode cJ11_mismatch_2 20 = .ok (.ireturn, 1) := dk_172 (dk_at dksJ11_mismatch_2_0 20 rfl rfl)
theorem dJ11_mismatch_2_21 : decode cJ11_mismatch_2 21 = .ok (.getstatic 126, 3) := dk_178 0 126 (dk_at dksJ11_mismatch_2_0 21 rfl rfl)
theorem dJ11_mismatch_2_24 : decode cJ11_mismatch_2 24 = .ok (.iload_n 1, 1) := dk_27 (dk_at dksJ11_mismatch_2_1 0 rfl rfl)
theorem dJ11_mismatch_2_25 : decode cJ11_mismatch_2 25 = .ok (.iadd, 1) := dk_96 (dk_at dksJ11_mismatch_2_1 1 rfl rfl)
theorem dJ11_mismatch_2_26 : decode cJ11_mismatch_2 26 = .ok (.istore 6, 2) := dk_54 6 (dk_at dksJ11_mismatch_2_1 2 rfl rfl)
theorem dJ11_mismatch_2_28 : decode cJ11_mismatch_2 28 = .ok (.getstatic 126, 3) := dk_178 0 126 (dk_at dksJ11_mismatch_2_1 4 rfl rfl)
theorem dJ11_mismatch_2_31 : decode cJ11_mismatch_2 31 = .ok (.iload_n 3, 1) := dk_29 (dk_at dksJ11_mismatch_2_1 7 rfl rfl)
theorem dJ11_mismatch_2_32 : decode cJ11_mismatch_2 32 = .ok (.iadd, 1) := dk_96 (dk_at dksJ11_mismatch_2_1 8 rfl rfl)
theorem dJ11_mismatch_2_33 : decode cJ11_mismatch_2 33 = .ok (.istore 7, 2) := dk_54 7 (dk_at dksJ11_mismatch_2_1 9 rfl rfl)
theorem dJ11_mismatch_2_35 : decode cJ11_mismatch_2 35 = .ok (.aload_n 0, 1) := dk_42 (dk_at dksJ11_mismatch_2_1 11 rfl rfl)
theorem dJ11_mismatch_2_36 : decode cJ11_mismatch_2 36 = .ok (.iload 6, 2) := dk_21 6 (dk_at dksJ11_mismatch_2_1 12 rfl rfl)
theorem dJ11_mismatch_2_38 : decode cJ11_mismatch_2 38 = .ok (.i2l, 1) := dk_133 (dk_at dksJ11_mismatch_2_1 14 rfl rfl)
theorem dJ11_mismatch_2_39 : decode cJ11_mismatch_2 39 = .ok (.aload_n 2, 1) := dk_44 (dk_at dksJ11_mismatch_2_1 15 rfl rfl)
theorem dJ11_mismatch_2_40 : decode cJ11_mismatch_2 40 = .ok (.iload 7, 2) := dk_21 7 (dk_at dksJ11_mismatch_2_1 16 rfl rfl)
theorem dJ11_mismatch_2_42 : decode cJ11_mismatch_2 42 = .ok (.i2l, 1) := dk_133 (dk_at dksJ11_mismatch_2_1 18 rfl rfl)
theorem dJ11_mismatch_2_43 : decode cJ11_mismatch_2 43 = .ok (.iload 4, 2) := dk_21 4 (dk_at dksJ11_mismatch_2_1 19 rfl rfl)
theorem dJ11_mismatch_2_45 : decode cJ11_mismatch_2 45 = .ok (.getstatic 129, 3) := dk_178 0 129 (dk_at dksJ11_mismatch_2_1 21 rfl rfl)
theorem dJ11_mismatch_2_48 : decode cJ11_mismatch_2 48 = .ok (.invokestatic 122, 3) := dk_184 0 122 (dk_at dksJ11_mismatch_2_2 0 rfl rfl)
theorem dJ11_mismatch_2_51 : decode cJ11_mismatch_2 51 = .ok (.istore 5, 2) := dk_54 5 (dk_at dksJ11_mismatch_2_2 3 rfl rfl)
theorem dJ11_mismatch_2_53 : decode cJ11_mismatch_2 53 = .ok (.iload 5, 2) := dk_21 5 (dk_at dksJ11_mismatch_2_2 5 rfl rfl)
theorem dJ11_mismatch_2_55 : decode cJ11_mismatch_2 55 = .ok (.ifCond .lt 6, 3) := dk_155 0 6 (dk_at dksJ11_mismatch_2_2 7 rfl rfl)
theorem dJ11_mismatch_2_58 : decode cJ11_mismatch_2 58 = .ok (.iload 5, 2) := dk_21 5 (dk_at dksJ11_mismatch_2_2 10 rfl rfl)
theorem dJ11_mismatch_2_60 : decode cJ11_mismatch_2 60 = .ok (.ireturn, 1) := dk_172 (dk_at dksJ11_mismatch_2_2 12 rfl rfl)
theorem dJ11_mismatch_2_61 : decode cJ11_mismatch_2 61 = .ok (.iload 4, 2) := dk_21 4 (dk_at dksJ11_mismatch_2_2 13 rfl rfl)
theorem dJ11_mismatch_2_63 : decode cJ11_mismatch_2 63 = .ok (.iload 5, 2) := dk_21 5 (dk_at dksJ11_mismatch_2_2 15 rfl rfl)
theorem dJ11_mismatch_2_65 : decode cJ11_mismatch_2 65 = .ok (.iconst (-1), 1) := dk_2 (dk_at dksJ11_mismatch_2_2 17 rfl rfl)
theorem dJ11_mismatch_2_66 : decode cJ11_mismatch_2 66 = .ok (.ixor, 1) := dk_130 (dk_at dksJ11_mismatch_2_2 18 rfl rfl)
theorem dJ11_mismatch_2_67 : decode cJ11_mismatch_2 67 = .ok (.isub, 1) := dk_100 (dk_at dksJ11_mismatch_2_2 19 rfl rfl)
theorem dJ11_mismatch_2_68 : decode cJ11_mismatch_2 68 = .ok (.istore 5, 2) := dk_54 5 (dk_at dksJ11_mismatch_2_2 20 rfl rfl)
theorem dJ11_mismatch_2_70 : decode cJ11_mismatch_2 70 = .ok (.iload 5, 2) := dk_21 5 (dk_at dksJ11_mismatch_2_2 22 rfl rfl)
theorem dJ11_mismatch_2_72 : decode cJ11_mismatch_2 72 = .ok (.iload 4, 2) := dk_21 4 (dk_at dksJ11_mismatch_2_3 0 rfl rfl)
theorem dJ11_mismatch_2_74 : decode cJ11_mismatch_2 74 = .ok (.if_icmp .ge 27, 3) := dk_162 0 27 (dk_at dksJ11_mismatch_2_3 2 rfl rfl)
theorem dJ11_mismatch_2_77 : decode cJ11_mismatch_2 77 = .ok (.aload_n 0, 1) := dk_42 (dk_at dksJ11_mismatch_2_3 5 rfl rfl)
theorem dJ11_mismatch_2_78 : decode cJ11_mismatch_2 78 = .ok (.iload_n 1, 1) := dk_27 (dk_at dksJ11_mismatch_2_3 6 rfl rfl)
theorem dJ11_mismatch_2_79 : decode cJ11_mismatch_2 79 = .ok (.iload 5, 2) := dk_21 5 (dk_at dksJ11_mismatch_2_3 7 rfl rfl)
theorem dJ11_mismatch_2_81 : decode cJ11_mismatch_2 81 = .ok (.iadd, 1) := dk_96 (dk_at dksJ11_mismatch_2_3 9 rfl rfl)
theorem dJ11_mismatch_2_82 : decode cJ11_mismatch_2 82 = .ok (.baload, 1) := dk_51 (dk_at dksJ11_mismatch_2_3 10 rfl rfl)
theorem dJ11_mismatch_2_83 : decode cJ11_mismatch_2 83 = .ok (.aload_n 2, 1) := dk_44 (dk_at dksJ11_mismatch_2_3 11 rfl rfl)
theorem dJ11_mismatch_2_84 : decode cJ11_mismatch_2 84 = .ok (.iload_n 3, 1) := dk_29 (dk_at dksJ11_mismatch_2_3 12 rfl rfl)
theorem dJ11_mismatch_2_85 : decode cJ11_mismatch_2 85 = .ok (.iload 5, 2) := dk_21 5 (dk_at dksJ11_mismatch_2_3 13 rfl rfl)
theorem dJ11_mismatch_2_87 : decode cJ11_mismatch_2 87 = .ok (.iadd, 1) := dk_96 (dk_at dksJ11_mismatch_2_3 15 rfl rfl)
theorem dJ11_mismatch_2_88 : decode cJ11_mismatch_2 88 = .ok (.baload, 1) := dk_51 (dk_at dksJ11_mismatch_2_3 16 rfl rfl)
theorem dJ11_mismatch_2_89 : decode cJ11_mismatch_2 89 = .ok (.if_icmp .eq 6, 3) := dk_159 0 6 (dk_at dksJ11_mismatch_2_3 17 rfl rfl)
theorem dJ11_mismatch_2_92 : decode cJ11_mismatch_2 92 = .ok (.iload 5, 2) := dk_21 5 (dk_at dksJ11_mismatch_2_3 20 rfl rfl)
theorem dJ11_mismatch_2_94 : decode cJ11_mismatch_2 94 = .ok (.ireturn, 1) := dk_172 (dk_at dksJ11_mismatch_2_3 22 rfl rfl)
theorem dJ11_mismatch_2_95 : decode cJ11_mismatch_2 95 = .ok (.iinc 5 1, 3) := dk_132 5 1 (dk_at dksJ11_mismatch_2_4 0 rfl rfl)
theorem dJ11_mismatch_2_98 : decode cJ11_mismatch_2 98 = .ok (.goto (-28), 3) := dk_167 255 228 (dk_at dksJ11_mismatch_2_4 3 rfl rfl)
theorem dJ11_mismatch_2_101 : decode cJ11_mismatch_2 101 = .ok (.iconst (-1), 1) := dk_2 (dk_at dksJ11_mismatch_2_4 6 rfl rfl)
theorem dJ11_mismatch_2_102 : decode cJ11_mismatch_2 102 = .ok (.ireturn, 1) := dk_172 (dk_at dksJ11_mismatch_2_4 7 rfl rfl)
abbrev cJ11_vectorizedHashCode : ByteArray := prog_77_method_4_code
def yJ11_vectorizedHashCode : MethodName := ⟨RJ11, "vectorizedHashCode", "(Ljava/lang/Object;IIII)I"⟩
def dkwJ11_vectorizedHashCode_6 : List UInt8 := [183, 0, 91, 18, 92, 182, 0, 94, 21, 4, 182, 0, 98, 182, 0, 101, 183, 0, 105, 191, 172]
abbrev dktJ11_vectorizedHashCode_6 : List UInt8 := dkwJ11_vectorizedHashCode_6 ++ []
def dkwJ11_vectorizedHashCode_5 : List UInt8 := [167, 0, 44, 29, 42, 192, 0, 82, 27, 28, 184, 0, 84, 167, 0, 31, 187, 0, 87, 89, 187, 0, 89, 89]
abbrev dktJ11_vectorizedHashCode_5 : List UInt8 := dkwJ11_vectorizedHashCode_5 ++ dktJ11_vectorizedHashCode_6
def dkwJ11_vectorizedHashCode_4 : List UInt8 := [29, 42, 192, 0, 60, 27, 28, 184, 0, 75, 167, 0, 57, 29, 42, 192, 0, 77, 27, 28, 184, 0, 79]
abbrev dktJ11_vectorizedHashCode_4 : List UInt8 := dkwJ11_vectorizedHashCode_4 ++ dktJ11_vectorizedHashCode_5
def dkwJ11_vectorizedHashCode_3 : List UInt8 := [192, 0, 60, 27, 28, 184, 0, 66, 167, 0, 83, 29, 42, 192, 0, 69, 27, 28, 184, 0, 71, 167, 0, 70]
abbrev dktJ11_vectorizedHashCode_3 : List UInt8 := dkwJ11_vectorizedHashCode_3 ++ dktJ11_vectorizedHashCode_4
def dkwJ11_vectorizedHashCode_2 : List UInt8 := [29, 42, 192, 0, 60, 27, 28, 184, 0, 62, 167, 0, 103, 42, 193, 0, 60, 153, 0, 16, 29, 42]
abbrev dktJ11_vectorizedHashCode_2 : List UInt8 := dkwJ11_vectorizedHashCode_2 ++ dktJ11_vectorizedHashCode_3
def dkwJ11_vectorizedHashCode_1 : List UInt8 := [170, 0, 0, 0, 0, 127, 0, 0, 0, 4, 0, 0, 0, 10, 0, 0, 0, 42, 0, 0, 0, 55, 0, 0, 0, 127, 0, 0, 0, 127, 0, 0, 0, 88, 0, 0, 0, 101, 0, 0, 0, 114]
abbrev dktJ11_vectorizedHashCode_1 : List UInt8 := dkwJ11_vectorizedHashCode_1 ++ dktJ11_vectorizedHashCode_2
def dkwJ11_vectorizedHashCode_0 : List UInt8 := [21, 4]
abbrev dktJ11_vectorizedHashCode_0 : List UInt8 := dkwJ11_vectorizedHashCode_0 ++ dktJ11_vectorizedHashCode_1
theorem dksJ11_vectorizedHashCode_0 : cJ11_vectorizedHashCode.data.toList.drop 0 = dktJ11_vectorizedHashCode_0 := by decide +kernel
theorem dksJ11_vectorizedHashCode_1 : cJ11_vectorizedHashCode.data.toList.drop 2 = dktJ11_vectorizedHashCode_1 := dk_seg dksJ11_vectorizedHashCode_0 2 rfl rfl
theorem dksJ11_vectorizedHashCode_2 : cJ11_vectorizedHashCode.data.toList.drop 44 = dktJ11_vectorizedHashCode_2 := dk_seg dksJ11_vectorizedHashCode_1 42 rfl rfl
theorem dksJ11_vectorizedHashCode_3 : cJ11_vectorizedHashCode.data.toList.drop 66 = dktJ11_vectorizedHashCode_3 := dk_seg dksJ11_vectorizedHashCode_2 22 rfl rfl
theorem dksJ11_vectorizedHashCode_4 : cJ11_vectorizedHashCode.data.toList.drop 90 = dktJ11_vectorizedHashCode_4 := dk_seg dksJ11_vectorizedHashCode_3 24 rfl rfl
theorem dksJ11_vectorizedHashCode_5 : cJ11_vectorizedHashCode.data.toList.drop 113 = dktJ11_vectorizedHashCode_5 := dk_seg dksJ11_vectorizedHashCode_4 23 rfl rfl
theorem dksJ11_vectorizedHashCode_6 : cJ11_vectorizedHashCode.data.toList.drop 137 = dktJ11_vectorizedHashCode_6 := dk_seg dksJ11_vectorizedHashCode_5 24 rfl rfl
theorem dJ11_vectorizedHashCode_0 : decode cJ11_vectorizedHashCode 0 = .ok (.iload 4, 2) := dk_21 4 (dk_at dksJ11_vectorizedHashCode_0 0 rfl rfl)
theorem dJ11_vectorizedHashCode_2 : decode cJ11_vectorizedHashCode 2 = .ok (.tableswitch 127 4 10 #[42, 55, 127, 127, 88, 101, 114], 42) := by decide +kernel
theorem dJ11_vectorizedHashCode_44 : decode cJ11_vectorizedHashCode 44 = .ok (.iload_n 3, 1) := dk_29 (dk_at dksJ11_vectorizedHashCode_2 0 rfl rfl)
theorem dJ11_vectorizedHashCode_45 : decode cJ11_vectorizedHashCode 45 = .ok (.aload_n 0, 1) := dk_42 (dk_at dksJ11_vectorizedHashCode_2 1 rfl rfl)
theorem dJ11_vectorizedHashCode_46 : decode cJ11_vectorizedHashCode 46 = .ok (.checkcast 60, 3) := dk_192 0 60 (dk_at dksJ11_vectorizedHashCode_2 2 rfl rfl)
theorem dJ11_vectorizedHashCode_49 : decode cJ11_vectorizedHashCode 49 = .ok (.iload_n 1, 1) := dk_27 (dk_at dksJ11_vectorizedHashCode_2 5 rfl rfl)
theorem dJ11_vectorizedHashCode_50 : decode cJ11_vectorizedHashCode 50 = .ok (.iload_n 2, 1) := dk_28 (dk_at dksJ11_vectorizedHashCode_2 6 rfl rfl)
theorem dJ11_vectorizedHashCode_51 : decode cJ11_vectorizedHashCode 51 = .ok (.invokestatic 62, 3) := dk_184 0 62 (dk_at dksJ11_vectorizedHashCode_2 7 rfl rfl)
theorem dJ11_vectorizedHashCode_54 : decode cJ11_vectorizedHashCode 54 = .ok (.goto 103, 3) := dk_167 0 103 (dk_at dksJ11_vectorizedHashCode_2 10 rfl rfl)
theorem dJ11_vectorizedHashCode_57 : decode cJ11_vectorizedHashCode 57 = .ok (.aload_n 0, 1) := dk_42 (dk_at dksJ11_vectorizedHashCode_2 13 rfl rfl)
theorem dJ11_vectorizedHashCode_58 : decode cJ11_vectorizedHashCode 58 = .ok (.instanceof 60, 3) := dk_193 0 60 (dk_at dksJ11_vectorizedHashCode_2 14 rfl rfl)
theorem dJ11_vectorizedHashCode_61 : decode cJ11_vectorizedHashCode 61 = .ok (.ifCond .eq 16, 3) := dk_153 0 16 (dk_at dksJ11_vectorizedHashCode_2 17 rfl rfl)
theorem dJ11_vectorizedHashCode_64 : decode cJ11_vectorizedHashCode 64 = .ok (.iload_n 3, 1) := dk_29 (dk_at dksJ11_vectorizedHashCode_2 20 rfl rfl)
theorem dJ11_vectorizedHashCode_65 : decode cJ11_vectorizedHashCode 65 = .ok (.aload_n 0, 1) := dk_42 (dk_at dksJ11_vectorizedHashCode_2 21 rfl rfl)
theorem dJ11_vectorizedHashCode_66 : decode cJ11_vectorizedHashCode 66 = .ok (.checkcast 60, 3) := dk_192 0 60 (dk_at dksJ11_vectorizedHashCode_3 0 rfl rfl)
theorem dJ11_vectorizedHashCode_69 : decode cJ11_vectorizedHashCode 69 = .ok (.iload_n 1, 1) := dk_27 (dk_at dksJ11_vectorizedHashCode_3 3 rfl rfl)
theorem dJ11_vectorizedHashCode_70 : decode cJ11_vectorizedHashCode 70 = .ok (.iload_n 2, 1) := dk_28 (dk_at dksJ11_vectorizedHashCode_3 4 rfl rfl)
theorem dJ11_vectorizedHashCode_71 : decode cJ11_vectorizedHashCode 71 = .ok (.invokestatic 66, 3) := dk_184 0 66 (dk_at dksJ11_vectorizedHashCode_3 5 rfl rfl)
theorem dJ11_vectorizedHashCode_74 : decode cJ11_vectorizedHashCode 74 = .ok (.goto 83, 3) := dk_167 0 83 (dk_at dksJ11_vectorizedHashCode_3 8 rfl rfl)
theorem dJ11_vectorizedHashCode_77 : decode cJ11_vectorizedHashCode 77 = .ok (.iload_n 3, 1) := dk_29 (dk_at dksJ11_vectorizedHashCode_3 11 rfl rfl)
theorem dJ11_vectorizedHashCode_78 : decode cJ11_vectorizedHashCode 78 = .ok (.aload_n 0, 1) := dk_42 (dk_at dksJ11_vectorizedHashCode_3 12 rfl rfl)
theorem dJ11_vectorizedHashCode_79 : decode cJ11_vectorizedHashCode 79 = .ok (.checkcast 69, 3) := dk_192 0 69 (dk_at dksJ11_vectorizedHashCode_3 13 rfl rfl)
theorem dJ11_vectorizedHashCode_82 : decode cJ11_vectorizedHashCode 82 = .ok (.iload_n 1, 1) := dk_27 (dk_at dksJ11_vectorizedHashCode_3 16 rfl rfl)
theorem dJ11_vectorizedHashCode_83 : decode cJ11_vectorizedHashCode 83 = .ok (.iload_n 2, 1) := dk_28 (dk_at dksJ11_vectorizedHashCode_3 17 rfl rfl)
theorem dJ11_vectorizedHashCode_84 : decode cJ11_vectorizedHashCode 84 = .ok (.invokestatic 71, 3) := dk_184 0 71 (dk_at dksJ11_vectorizedHashCode_3 18 rfl rfl)
theorem dJ11_vectorizedHashCode_87 : decode cJ11_vectorizedHashCode 87 = .ok (.goto 70, 3) := dk_167 0 70 (dk_at dksJ11_vectorizedHashCode_3 21 rfl rfl)
theorem dJ11_vectorizedHashCode_90 : decode cJ11_vectorizedHashCode 90 = .ok (.iload_n 3, 1) := dk_29 (dk_at dksJ11_vectorizedHashCode_4 0 rfl rfl)
theorem dJ11_vectorizedHashCode_91 : decode cJ11_vectorizedHashCode 91 = .ok (.aload_n 0, 1) := dk_42 (dk_at dksJ11_vectorizedHashCode_4 1 rfl rfl)
theorem dJ11_vectorizedHashCode_92 : decode cJ11_vectorizedHashCode 92 = .ok (.checkcast 60, 3) := dk_192 0 60 (dk_at dksJ11_vectorizedHashCode_4 2 rfl rfl)
theorem dJ11_vectorizedHashCode_95 : decode cJ11_vectorizedHashCode 95 = .ok (.iload_n 1, 1) := dk_27 (dk_at dksJ11_vectorizedHashCode_4 5 rfl rfl)
theorem dJ11_vectorizedHashCode_96 : decode cJ11_vectorizedHashCode 96 = .ok (.iload_n 2, 1) := dk_28 (dk_at dksJ11_vectorizedHashCode_4 6 rfl rfl)
theorem dJ11_vectorizedHashCode_97 : decode cJ11_vectorizedHashCode 97 = .ok (.invokestatic 75, 3) := dk_184 0 75 (dk_at dksJ11_vectorizedHashCode_4 7 rfl rfl)
theorem dJ11_vectorizedHashCode_100 : decode cJ11_vectorizedHashCode 100 = .ok (.goto 57, 3) := dk_167 0 57 (dk_at dksJ11_vectorizedHashCode_4 10 rfl rfl)
theorem dJ11_vectorizedHashCode_103 : decode cJ11_vectorizedHashCode 103 = .ok (.iload_n 3, 1) := dk_29 (dk_at dksJ11_vectorizedHashCode_4 13 rfl rfl)
theorem dJ11_vectorizedHashCode_104 : decode cJ11_vectorizedHashCode 104 = .ok (.aload_n 0, 1) := dk_42 (dk_at dksJ11_vectorizedHashCode_4 14 rfl rfl)
theorem dJ11_vectorizedHashCode_105 : decode cJ11_vectorizedHashCode 105 = .ok (.checkcast 77, 3) := dk_192 0 77 (dk_at dksJ11_vectorizedHashCode_4 15 rfl rfl)
theorem dJ11_vectorizedHashCode_108 : decode cJ11_vectorizedHashCode 108 = .ok (.iload_n 1, 1) := dk_27 (dk_at dksJ11_vectorizedHashCode_4 18 rfl rfl)
theorem dJ11_vectorizedHashCode_109 : decode cJ11_vectorizedHashCode 109 = .ok (.iload_n 2, 1) := dk_28 (dk_at dksJ11_vectorizedHashCode_4 19 rfl rfl)
theorem dJ11_vectorizedHashCode_110 : decode cJ11_vectorizedHashCode 110 = .ok (.invokestatic 79, 3) := dk_184 0 79 (dk_at dksJ11_vectorizedHashCode_4 20 rfl rfl)
theorem dJ11_vectorizedHashCode_113 : decode cJ11_vectorizedHashCode 113 = .ok (.goto 44, 3) := dk_167 0 44 (dk_at dksJ11_vectorizedHashCode_5 0 rfl rfl)
theorem dJ11_vectorizedHashCode_116 : decode cJ11_vectorizedHashCode 116 = .ok (.iload_n 3, 1) := dk_29 (dk_at dksJ11_vectorizedHashCode_5 3 rfl rfl)
theorem dJ11_vectorizedHashCode_117 : decode cJ11_vectorizedHashCode 117 = .ok (.aload_n 0, 1) := dk_42 (dk_at dksJ11_vectorizedHashCode_5 4 rfl rfl)
theorem dJ11_vectorizedHashCode_118 : decode cJ11_vectorizedHashCode 118 = .ok (.checkcast 82, 3) := dk_192 0 82 (dk_at dksJ11_vectorizedHashCode_5 5 rfl rfl)
theorem dJ11_vectorizedHashCode_121 : decode cJ11_vectorizedHashCode 121 = .ok (.iload_n 1, 1) := dk_27 (dk_at dksJ11_vectorizedHashCode_5 8 rfl rfl)
theorem dJ11_vectorizedHashCode_122 : decode cJ11_vectorizedHashCode 122 = .ok (.iload_n 2, 1) := dk_28 (dk_at dksJ11_vectorizedHashCode_5 9 rfl rfl)
theorem dJ11_vectorizedHashCode_123 : decode cJ11_vectorizedHashCode 123 = .ok (.invokestatic 84, 3) := dk_184 0 84 (dk_at dksJ11_vectorizedHashCode_5 10 rfl rfl)
theorem dJ11_vectorizedHashCode_126 : decode cJ11_vectorizedHashCode 126 = .ok (.goto 31, 3) := dk_167 0 31 (dk_at dksJ11_vectorizedHashCode_5 13 rfl rfl)
theorem dJ11_vectorizedHashCode_129 : decode cJ11_vectorizedHashCode 129 = .ok (.new 87, 3) := dk_187 0 87 (dk_at dksJ11_vectorizedHashCode_5 16 rfl rfl)
theorem dJ11_vectorizedHashCode_132 : decode cJ11_vectorizedHashCode 132 = .ok (.dup, 1) := dk_89 (dk_at dksJ11_vectorizedHashCode_5 19 rfl rfl)
theorem dJ11_vectorizedHashCode_133 : decode cJ11_vectorizedHashCode 133 = .ok (.new 89, 3) := dk_187 0 89 (dk_at dksJ11_vectorizedHashCode_5 20 rfl rfl)
theorem dJ11_vectorizedHashCode_136 : decode cJ11_vectorizedHashCode 136 = .ok (.dup, 1) := dk_89 (dk_at dksJ11_vectorizedHashCode_5 23 rfl rfl)
theorem dJ11_vectorizedHashCode_137 : decode cJ11_vectorizedHashCode 137 = .ok (.invokespecial 91, 3) := dk_183 0 91 (dk_at dksJ11_vectorizedHashCode_6 0 rfl rfl)
theorem dJ11_vectorizedHashCode_140 : decode cJ11_vectorizedHashCode 140 = .ok (.ldc 92, 2) := dk_18 92 (dk_at dksJ11_vectorizedHashCode_6 3 rfl rfl)
theorem dJ11_vectorizedHashCode_142 : decode cJ11_vectorizedHashCode 142 = .ok (.invokevirtual 94, 3) := dk_182 0 94 (dk_at dksJ11_vectorizedHashCode_6 5 rfl rfl)
theorem dJ11_vectorizedHashCode_145 : decode cJ11_vectorizedHashCode 145 = .ok (.iload 4, 2) := dk_21 4 (dk_at dksJ11_vectorizedHashCode_6 8 rfl rfl)
theorem dJ11_vectorizedHashCode_147 : decode cJ11_vectorizedHashCode 147 = .ok (.invokevirtual 98, 3) := dk_182 0 98 (dk_at dksJ11_vectorizedHashCode_6 10 rfl rfl)
theorem dJ11_vectorizedHashCode_150 : decode cJ11_vectorizedHashCode 150 = .ok (.invokevirtual 101, 3) := dk_182 0 101 (dk_at dksJ11_vectorizedHashCode_6 13 rfl rfl)
theorem dJ11_vectorizedHashCode_153 : decode cJ11_vectorizedHashCode 153 = .ok (.invokespecial 105, 3) := dk_183 0 105 (dk_at dksJ11_vectorizedHashCode_6 16 rfl rfl)
theorem dJ11_vectorizedHashCode_156 : decode cJ11_vectorizedHashCode 156 = .ok (.athrow, 1) := dk_191 (dk_at dksJ11_vectorizedHashCode_6 19 rfl rfl)
theorem dJ11_vectorizedHashCode_157 : decode cJ11_vectorizedHashCode 157 = .ok (.ireturn, 1) := dk_172 (dk_at dksJ11_vectorizedHashCode_6 20 rfl rfl)
abbrev cJ11_signedHashCode : ByteArray := prog_77_method_5_code
def yJ11_signedHashCode : MethodName := ⟨RJ11, "signedHashCode", "(I[BII)I"⟩
def dkwJ11_signedHashCode_1 : List UInt8 := [17, 0, 255, 126, 96, 59, 132, 5, 1, 167, 255, 232, 26, 172]
abbrev dktJ11_signedHashCode_1 : List UInt8 := dkwJ11_signedHashCode_1 ++ []
def dkwJ11_signedHashCode_0 : List UInt8 := [28, 29, 96, 54, 4, 28, 54, 5, 21, 5, 21, 4, 162, 0, 23, 16, 31, 26, 104, 43, 21, 5, 51]
abbrev dktJ11_signedHashCode_0 : List UInt8 := dkwJ11_signedHashCode_0 ++ dktJ11_signedHashCode_1
theorem dksJ11_signedHashCode_0 : cJ11_signedHashCode.data.toList.drop 0 = dktJ11_signedHashCode_0 := by decide +kernel
theorem dksJ11_signedHashCode_1 : cJ11_signedHashCode.data.toList.drop 23 = dktJ11_signedHashCode_1 := dk_seg dksJ11_signedHashCode_0 23 rfl rfl
theorem dJ11_signedHashCode_0 : decode cJ11_signedHashCode 0 = .ok (.iload_n 2, 1) := dk_28 (dk_at dksJ11_signedHashCode_0 0 rfl rfl)
theorem dJ11_signedHashCode_1 : decode cJ11_signedHashCode 1 = .ok (.iload_n 3, 1) := dk_29 (dk_at dksJ11_signedHashCode_0 1 rfl rfl)
theorem dJ11_signedHashCode_2 : decode cJ11_signedHashCode 2 = .ok (.iadd, 1) := dk_96 (dk_at dksJ11_signedHashCode_0 2 rfl rfl)
theorem dJ11_signedHashCode_3 : decode cJ11_signedHashCode 3 = .ok (.istore 4, 2) := dk_54 4 (dk_at dksJ11_signedHashCode_0 3 rfl rfl)
theorem dJ11_signedHashCode_5 : decode cJ11_signedHashCode 5 = .ok (.iload_n 2, 1) := dk_28 (dk_at dksJ11_signedHashCode_0 5 rfl rfl)
theorem dJ11_signedHashCode_6 : decode cJ11_signedHashCode 6 = .ok (.istore 5, 2) := dk_54 5 (dk_at dksJ11_signedHashCode_0 6 rfl rfl)
theorem dJ11_signedHashCode_8 : decode cJ11_signedHashCode 8 = .ok (.iload 5, 2) := dk_21 5 (dk_at dksJ11_signedHashCode_0 8 rfl rfl)
theorem dJ11_signedHashCode_10 : decode cJ11_signedHashCode 10 = .ok (.iload 4, 2) := dk_21 4 (dk_at dksJ11_signedHashCode_0 10 rfl rfl)
theorem dJ11_signedHashCode_12 : decode cJ11_signedHashCode 12 = .ok (.if_icmp .ge 23, 3) := dk_162 0 23 (dk_at dksJ11_signedHashCode_0 12 rfl rfl)
theorem dJ11_signedHashCode_15 : decode cJ11_signedHashCode 15 = .ok (.bipush 31, 2) := dk_16 31 (dk_at dksJ11_signedHashCode_0 15 rfl rfl)
theorem dJ11_signedHashCode_17 : decode cJ11_signedHashCode 17 = .ok (.iload_n 0, 1) := dk_26 (dk_at dksJ11_signedHashCode_0 17 rfl rfl)
theorem dJ11_signedHashCode_18 : decode cJ11_signedHashCode 18 = .ok (.imul, 1) := dk_104 (dk_at dksJ11_signedHashCode_0 18 rfl rfl)
theorem dJ11_signedHashCode_19 : decode cJ11_signedHashCode 19 = .ok (.aload_n 1, 1) := dk_43 (dk_at dksJ11_signedHashCode_0 19 rfl rfl)
theorem dJ11_signedHashCode_20 : decode cJ11_signedHashCode 20 = .ok (.iload 5, 2) := dk_21 5 (dk_at dksJ11_signedHashCode_0 20 rfl rfl)
theorem dJ11_signedHashCode_22 : decode cJ11_signedHashCode 22 = .ok (.baload, 1) := dk_51 (dk_at dksJ11_signedHashCode_0 22 rfl rfl)
theorem dJ11_signedHashCode_23 : decode cJ11_signedHashCode 23 = .ok (.sipush 255, 3) := dk_17 0 255 (dk_at dksJ11_signedHashCode_1 0 rfl rfl)
theorem dJ11_signedHashCode_26 : decode cJ11_signedHashCode 26 = .ok (.iand, 1) := dk_126 (dk_at dksJ11_signedHashCode_1 3 rfl rfl)
theorem dJ11_signedHashCode_27 : decode cJ11_signedHashCode 27 = .ok (.iadd, 1) := dk_96 (dk_at dksJ11_signedHashCode_1 4 rfl rfl)
theorem dJ11_signedHashCode_28 : decode cJ11_signedHashCode 28 = .ok (.istore_n 0, 1) := dk_59 (dk_at dksJ11_signedHashCode_1 5 rfl rfl)
theorem dJ11_signedHashCode_29 : decode cJ11_signedHashCode 29 = .ok (.iinc 5 1, 3) := dk_132 5 1 (dk_at dksJ11_signedHashCode_1 6 rfl rfl)
theorem dJ11_signedHashCode_32 : decode cJ11_signedHashCode 32 = .ok (.goto (-24), 3) := dk_167 255 232 (dk_at dksJ11_signedHashCode_1 9 rfl rfl)
theorem dJ11_signedHashCode_35 : decode cJ11_signedHashCode 35 = .ok (.iload_n 0, 1) := dk_26 (dk_at dksJ11_signedHashCode_1 12 rfl rfl)
theorem dJ11_signedHashCode_36 : decode cJ11_signedHashCode 36 = .ok (.ireturn, 1) := dk_172 (dk_at dksJ11_signedHashCode_1 13 rfl rfl)
abbrev cJ11_utf16hashCode : ByteArray := prog_77_method_10_code
def yJ11_utf16hashCode : MethodName := ⟨RJ11, "utf16hashCode", "(I[BII)I"⟩
def dkwJ11_utf16hashCode_1 : List UInt8 := [21, 5, 185, 0, 110, 3, 0, 96, 59, 132, 5, 1, 167, 255, 229, 26, 172]
abbrev dktJ11_utf16hashCode_1 : List UInt8 := dkwJ11_utf16hashCode_1 ++ []
def dkwJ11_utf16hashCode_0 : List UInt8 := [28, 29, 96, 54, 4, 28, 54, 5, 21, 5, 21, 4, 162, 0, 26, 16, 31, 26, 104, 178, 0, 106, 43]
abbrev dktJ11_utf16hashCode_0 : List UInt8 := dkwJ11_utf16hashCode_0 ++ dktJ11_utf16hashCode_1
theorem dksJ11_utf16hashCode_0 : cJ11_utf16hashCode.data.toList.drop 0 = dktJ11_utf16hashCode_0 := by decide +kernel
theorem dksJ11_utf16hashCode_1 : cJ11_utf16hashCode.data.toList.drop 23 = dktJ11_utf16hashCode_1 := dk_seg dksJ11_utf16hashCode_0 23 rfl rfl
theorem dJ11_utf16hashCode_0 : decode cJ11_utf16hashCode 0 = .ok (.iload_n 2, 1) := dk_28 (dk_at dksJ11_utf16hashCode_0 0 rfl rfl)
theorem dJ11_utf16hashCode_1 : decode cJ11_utf16hashCode 1 = .ok (.iload_n 3, 1) := dk_29 (dk_at dksJ11_utf16hashCode_0 1 rfl rfl)
theorem dJ11_utf16hashCode_2 : decode cJ11_utf16hashCode 2 = .ok (.iadd, 1) := dk_96 (dk_at dksJ11_utf16hashCode_0 2 rfl rfl)
theorem dJ11_utf16hashCode_3 : decode cJ11_utf16hashCode 3 = .ok (.istore 4, 2) := dk_54 4 (dk_at dksJ11_utf16hashCode_0 3 rfl rfl)
theorem dJ11_utf16hashCode_5 : decode cJ11_utf16hashCode 5 = .ok (.iload_n 2, 1) := dk_28 (dk_at dksJ11_utf16hashCode_0 5 rfl rfl)
theorem dJ11_utf16hashCode_6 : decode cJ11_utf16hashCode 6 = .ok (.istore 5, 2) := dk_54 5 (dk_at dksJ11_utf16hashCode_0 6 rfl rfl)
theorem dJ11_utf16hashCode_8 : decode cJ11_utf16hashCode 8 = .ok (.iload 5, 2) := dk_21 5 (dk_at dksJ11_utf16hashCode_0 8 rfl rfl)
theorem dJ11_utf16hashCode_10 : decode cJ11_utf16hashCode 10 = .ok (.iload 4, 2) := dk_21 4 (dk_at dksJ11_utf16hashCode_0 10 rfl rfl)
theorem dJ11_utf16hashCode_12 : decode cJ11_utf16hashCode 12 = .ok (.if_icmp .ge 26, 3) := dk_162 0 26 (dk_at dksJ11_utf16hashCode_0 12 rfl rfl)
theorem dJ11_utf16hashCode_15 : decode cJ11_utf16hashCode 15 = .ok (.bipush 31, 2) := dk_16 31 (dk_at dksJ11_utf16hashCode_0 15 rfl rfl)
theorem dJ11_utf16hashCode_17 : decode cJ11_utf16hashCode 17 = .ok (.iload_n 0, 1) := dk_26 (dk_at dksJ11_utf16hashCode_0 17 rfl rfl)
theorem dJ11_utf16hashCode_18 : decode cJ11_utf16hashCode 18 = .ok (.imul, 1) := dk_104 (dk_at dksJ11_utf16hashCode_0 18 rfl rfl)
theorem dJ11_utf16hashCode_19 : decode cJ11_utf16hashCode 19 = .ok (.getstatic 106, 3) := dk_178 0 106 (dk_at dksJ11_utf16hashCode_0 19 rfl rfl)
theorem dJ11_utf16hashCode_22 : decode cJ11_utf16hashCode 22 = .ok (.aload_n 1, 1) := dk_43 (dk_at dksJ11_utf16hashCode_0 22 rfl rfl)
theorem dJ11_utf16hashCode_23 : decode cJ11_utf16hashCode 23 = .ok (.iload 5, 2) := dk_21 5 (dk_at dksJ11_utf16hashCode_1 0 rfl rfl)
theorem dJ11_utf16hashCode_25 : decode cJ11_utf16hashCode 25 = .ok (.invokeinterface 110 3, 5) := by decide +kernel
theorem dJ11_utf16hashCode_30 : decode cJ11_utf16hashCode 30 = .ok (.iadd, 1) := dk_96 (dk_at dksJ11_utf16hashCode_1 7 rfl rfl)
theorem dJ11_utf16hashCode_31 : decode cJ11_utf16hashCode 31 = .ok (.istore_n 0, 1) := dk_59 (dk_at dksJ11_utf16hashCode_1 8 rfl rfl)
theorem dJ11_utf16hashCode_32 : decode cJ11_utf16hashCode 32 = .ok (.iinc 5 1, 3) := dk_132 5 1 (dk_at dksJ11_utf16hashCode_1 9 rfl rfl)
theorem dJ11_utf16hashCode_35 : decode cJ11_utf16hashCode 35 = .ok (.goto (-27), 3) := dk_167 255 229 (dk_at dksJ11_utf16hashCode_1 12 rfl rfl)
theorem dJ11_utf16hashCode_38 : decode cJ11_utf16hashCode 38 = .ok (.iload_n 0, 1) := dk_26 (dk_at dksJ11_utf16hashCode_1 15 rfl rfl)
theorem dJ11_utf16hashCode_39 : decode cJ11_utf16hashCode 39 = .ok (.ireturn, 1) := dk_172 (dk_at dksJ11_utf16hashCode_1 16 rfl rfl)
abbrev cJ11_hashCode : ByteArray := prog_77_method_7_code
def yJ11_hashCode : MethodName := ⟨RJ11, "hashCode", "(I[CII)I"⟩
def dkwJ11_hashCode_1 : List UInt8 := [59, 132, 5, 1, 167, 255, 236, 26, 172]
abbrev dktJ11_hashCode_1 : List UInt8 := dkwJ11_hashCode_1 ++ []
def dkwJ11_hashCode_0 : List UInt8 := [28, 29, 96, 54, 4, 28, 54, 5, 21, 5, 21, 4, 162, 0, 19, 16, 31, 26, 104, 43, 21, 5, 52, 96]
abbrev dktJ11_hashCode_0 : List UInt8 := dkwJ11_hashCode_0 ++ dktJ11_hashCode_1
theorem dksJ11_hashCode_0 : cJ11_hashCode.data.toList.drop 0 = dktJ11_hashCode_0 := by decide +kernel
theorem dksJ11_hashCode_1 : cJ11_hashCode.data.toList.drop 24 = dktJ11_hashCode_1 := dk_seg dksJ11_hashCode_0 24 rfl rfl
theorem dJ11_hashCode_0 : decode cJ11_hashCode 0 = .ok (.iload_n 2, 1) := dk_28 (dk_at dksJ11_hashCode_0 0 rfl rfl)
theorem dJ11_hashCode_1 : decode cJ11_hashCode 1 = .ok (.iload_n 3, 1) := dk_29 (dk_at dksJ11_hashCode_0 1 rfl rfl)
theorem dJ11_hashCode_2 : decode cJ11_hashCode 2 = .ok (.iadd, 1) := dk_96 (dk_at dksJ11_hashCode_0 2 rfl rfl)
theorem dJ11_hashCode_3 : decode cJ11_hashCode 3 = .ok (.istore 4, 2) := dk_54 4 (dk_at dksJ11_hashCode_0 3 rfl rfl)
theorem dJ11_hashCode_5 : decode cJ11_hashCode 5 = .ok (.iload_n 2, 1) := dk_28 (dk_at dksJ11_hashCode_0 5 rfl rfl)
theorem dJ11_hashCode_6 : decode cJ11_hashCode 6 = .ok (.istore 5, 2) := dk_54 5 (dk_at dksJ11_hashCode_0 6 rfl rfl)
theorem dJ11_hashCode_8 : decode cJ11_hashCode 8 = .ok (.iload 5, 2) := dk_21 5 (dk_at dksJ11_hashCode_0 8 rfl rfl)
theorem dJ11_hashCode_10 : decode cJ11_hashCode 10 = .ok (.iload 4, 2) := dk_21 4 (dk_at dksJ11_hashCode_0 10 rfl rfl)
theorem dJ11_hashCode_12 : decode cJ11_hashCode 12 = .ok (.if_icmp .ge 19, 3) := dk_162 0 19 (dk_at dksJ11_hashCode_0 12 rfl rfl)
theorem dJ11_hashCode_15 : decode cJ11_hashCode 15 = .ok (.bipush 31, 2) := dk_16 31 (dk_at dksJ11_hashCode_0 15 rfl rfl)
theorem dJ11_hashCode_17 : decode cJ11_hashCode 17 = .ok (.iload_n 0, 1) := dk_26 (dk_at dksJ11_hashCode_0 17 rfl rfl)
theorem dJ11_hashCode_18 : decode cJ11_hashCode 18 = .ok (.imul, 1) := dk_104 (dk_at dksJ11_hashCode_0 18 rfl rfl)
theorem dJ11_hashCode_19 : decode cJ11_hashCode 19 = .ok (.aload_n 1, 1) := dk_43 (dk_at dksJ11_hashCode_0 19 rfl rfl)
theorem dJ11_hashCode_20 : decode cJ11_hashCode 20 = .ok (.iload 5, 2) := dk_21 5 (dk_at dksJ11_hashCode_0 20 rfl rfl)
theorem dJ11_hashCode_22 : decode cJ11_hashCode 22 = .ok (.caload, 1) := dk_52 (dk_at dksJ11_hashCode_0 22 rfl rfl)
theorem dJ11_hashCode_23 : decode cJ11_hashCode 23 = .ok (.iadd, 1) := dk_96 (dk_at dksJ11_hashCode_0 23 rfl rfl)
theorem dJ11_hashCode_24 : decode cJ11_hashCode 24 = .ok (.istore_n 0, 1) := dk_59 (dk_at dksJ11_hashCode_1 0 rfl rfl)
theorem dJ11_hashCode_25 : decode cJ11_hashCode 25 = .ok (.iinc 5 1, 3) := dk_132 5 1 (dk_at dksJ11_hashCode_1 1 rfl rfl)
theorem dJ11_hashCode_28 : decode cJ11_hashCode 28 = .ok (.goto (-20), 3) := dk_167 255 236 (dk_at dksJ11_hashCode_1 4 rfl rfl)
theorem dJ11_hashCode_31 : decode cJ11_hashCode 31 = .ok (.iload_n 0, 1) := dk_26 (dk_at dksJ11_hashCode_1 7 rfl rfl)
theorem dJ11_hashCode_32 : decode cJ11_hashCode 32 = .ok (.ireturn, 1) := dk_172 (dk_at dksJ11_hashCode_1 8 rfl rfl)
abbrev cJ11_hashCode_2 : ByteArray := prog_77_method_6_code
def yJ11_hashCode_2 : MethodName := ⟨RJ11, "hashCode", "(I[BII)I"⟩
def dkwJ11_hashCode_2_1 : List UInt8 := [59, 132, 5, 1, 167, 255, 236, 26, 172]
abbrev dktJ11_hashCode_2_1 : List UInt8 := dkwJ11_hashCode_2_1 ++ []
def dkwJ11_hashCode_2_0 : List UInt8 := [28, 29, 96, 54, 4, 28, 54, 5, 21, 5, 21, 4, 162, 0, 19, 16, 31, 26, 104, 43, 21, 5, 51, 96]
abbrev dktJ11_hashCode_2_0 : List UInt8 := dkwJ11_hashCode_2_0 ++ dktJ11_hashCode_2_1
theorem dksJ11_hashCode_2_0 : cJ11_hashCode_2.data.toList.drop 0 = dktJ11_hashCode_2_0 := by decide +kernel
theorem dksJ11_hashCode_2_1 : cJ11_hashCode_2.data.toList.drop 24 = dktJ11_hashCode_2_1 := dk_seg dksJ11_hashCode_2_0 24 rfl rfl
theorem dJ11_hashCode_2_0 : decode cJ11_hashCode_2 0 = .ok (.iload_n 2, 1) := dk_28 (dk_at dksJ11_hashCode_2_0 0 rfl rfl)
theorem dJ11_hashCode_2_1 : decode cJ11_hashCode_2 1 = .ok (.iload_n 3, 1) := dk_29 (dk_at dksJ11_hashCode_2_0 1 rfl rfl)
theorem dJ11_hashCode_2_2 : decode cJ11_hashCode_2 2 = .ok (.iadd, 1) := dk_96 (dk_at dksJ11_hashCode_2_0 2 rfl rfl)
theorem dJ11_hashCode_2_3 : decode cJ11_hashCode_2 3 = .ok (.istore 4, 2) := dk_54 4 (dk_at dksJ11_hashCode_2_0 3 rfl rfl)
theorem dJ11_hashCode_2_5 : decode cJ11_hashCode_2 5 = .ok (.iload_n 2, 1) := dk_28 (dk_at dksJ11_hashCode_2_0 5 rfl rfl)
theorem dJ11_hashCode_2_6 : decode cJ11_hashCode_2 6 = .ok (.istore 5, 2) := dk_54 5 (dk_at dksJ11_hashCode_2_0 6 rfl rfl)
theorem dJ11_hashCode_2_8 : decode cJ11_hashCode_2 8 = .ok (.iload 5, 2) := dk_21 5 (dk_at dksJ11_hashCode_2_0 8 rfl rfl)
theorem dJ11_hashCode_2_10 : decode cJ11_hashCode_2 10 = .ok (.iload 4, 2) := dk_21 4 (dk_at dksJ11_hashCode_2_0 10 rfl rfl)
theorem dJ11_hashCode_2_12 : decode cJ11_hashCode_2 12 = .ok (.if_icmp .ge 19, 3) := dk_162 0 19 (dk_at dksJ11_hashCode_2_0 12 rfl rfl)
theorem dJ11_hashCode_2_15 : decode cJ11_hashCode_2 15 = .ok (.bipush 31, 2) := dk_16 31 (dk_at dksJ11_hashCode_2_0 15 rfl rfl)
theorem dJ11_hashCode_2_17 : decode cJ11_hashCode_2 17 = .ok (.iload_n 0, 1) := dk_26 (dk_at dksJ11_hashCode_2_0 17 rfl rfl)
theorem dJ11_hashCode_2_18 : decode cJ11_hashCode_2 18 = .ok (.imul, 1) := dk_104 (dk_at dksJ11_hashCode_2_0 18 rfl rfl)
theorem dJ11_hashCode_2_19 : decode cJ11_hashCode_2 19 = .ok (.aload_n 1, 1) := dk_43 (dk_at dksJ11_hashCode_2_0 19 rfl rfl)
theorem dJ11_hashCode_2_20 : decode cJ11_hashCode_2 20 = .ok (.iload 5, 2) := dk_21 5 (dk_at dksJ11_hashCode_2_0 20 rfl rfl)
theorem dJ11_hashCode_2_22 : decode cJ11_hashCode_2 22 = .ok (.baload, 1) := dk_51 (dk_at dksJ11_hashCode_2_0 22 rfl rfl)
theorem dJ11_hashCode_2_23 : decode cJ11_hashCode_2 23 = .ok (.iadd, 1) := dk_96 (dk_at dksJ11_hashCode_2_0 23 rfl rfl)
theorem dJ11_hashCode_2_24 : decode cJ11_hashCode_2 24 = .ok (.istore_n 0, 1) := dk_59 (dk_at dksJ11_hashCode_2_1 0 rfl rfl)
theorem dJ11_hashCode_2_25 : decode cJ11_hashCode_2 25 = .ok (.iinc 5 1, 3) := dk_132 5 1 (dk_at dksJ11_hashCode_2_1 1 rfl rfl)
theorem dJ11_hashCode_2_28 : decode cJ11_hashCode_2 28 = .ok (.goto (-20), 3) := dk_167 255 236 (dk_at dksJ11_hashCode_2_1 4 rfl rfl)
theorem dJ11_hashCode_2_31 : decode cJ11_hashCode_2 31 = .ok (.iload_n 0, 1) := dk_26 (dk_at dksJ11_hashCode_2_1 7 rfl rfl)
theorem dJ11_hashCode_2_32 : decode cJ11_hashCode_2 32 = .ok (.ireturn, 1) := dk_172 (dk_at dksJ11_hashCode_2_1 8 rfl rfl)
abbrev cJ11_hashCode_3 : ByteArray := prog_77_method_8_code
def yJ11_hashCode_3 : MethodName := ⟨RJ11, "hashCode", "(I[SII)I"⟩
def dkwJ11_hashCode_3_1 : List UInt8 := [59, 132, 5, 1, 167, 255, 236, 26, 172]
abbrev dktJ11_hashCode_3_1 : List UInt8 := dkwJ11_hashCode_3_1 ++ []
def dkwJ11_hashCode_3_0 : List UInt8 := [28, 29, 96, 54, 4, 28, 54, 5, 21, 5, 21, 4, 162, 0, 19, 16, 31, 26, 104, 43, 21, 5, 53, 96]
abbrev dktJ11_hashCode_3_0 : List UInt8 := dkwJ11_hashCode_3_0 ++ dktJ11_hashCode_3_1
theorem dksJ11_hashCode_3_0 : cJ11_hashCode_3.data.toList.drop 0 = dktJ11_hashCode_3_0 := by decide +kernel
theorem dksJ11_hashCode_3_1 : cJ11_hashCode_3.data.toList.drop 24 = dktJ11_hashCode_3_1 := dk_seg dksJ11_hashCode_3_0 24 rfl rfl
theorem dJ11_hashCode_3_0 : decode cJ11_hashCode_3 0 = .ok (.iload_n 2, 1) := dk_28 (dk_at dksJ11_hashCode_3_0 0 rfl rfl)
theorem dJ11_hashCode_3_1 : decode cJ11_hashCode_3 1 = .ok (.iload_n 3, 1) := dk_29 (dk_at dksJ11_hashCode_3_0 1 rfl rfl)
theorem dJ11_hashCode_3_2 : decode cJ11_hashCode_3 2 = .ok (.iadd, 1) := dk_96 (dk_at dksJ11_hashCode_3_0 2 rfl rfl)
theorem dJ11_hashCode_3_3 : decode cJ11_hashCode_3 3 = .ok (.istore 4, 2) := dk_54 4 (dk_at dksJ11_hashCode_3_0 3 rfl rfl)
theorem dJ11_hashCode_3_5 : decode cJ11_hashCode_3 5 = .ok (.iload_n 2, 1) := dk_28 (dk_at dksJ11_hashCode_3_0 5 rfl rfl)
theorem dJ11_hashCode_3_6 : decode cJ11_hashCode_3 6 = .ok (.istore 5, 2) := dk_54 5 (dk_at dksJ11_hashCode_3_0 6 rfl rfl)
theorem dJ11_hashCode_3_8 : decode cJ11_hashCode_3 8 = .ok (.iload 5, 2) := dk_21 5 (dk_at dksJ11_hashCode_3_0 8 rfl rfl)
theorem dJ11_hashCode_3_10 : decode cJ11_hashCode_3 10 = .ok (.iload 4, 2) := dk_21 4 (dk_at dksJ11_hashCode_3_0 10 rfl rfl)
theorem dJ11_hashCode_3_12 : decode cJ11_hashCode_3 12 = .ok (.if_icmp .ge 19, 3) := dk_162 0 19 (dk_at dksJ11_hashCode_3_0 12 rfl rfl)
theorem dJ11_hashCode_3_15 : decode cJ11_hashCode_3 15 = .ok (.bipush 31, 2) := dk_16 31 (dk_at dksJ11_hashCode_3_0 15 rfl rfl)
theorem dJ11_hashCode_3_17 : decode cJ11_hashCode_3 17 = .ok (.iload_n 0, 1) := dk_26 (dk_at dksJ11_hashCode_3_0 17 rfl rfl)
theorem dJ11_hashCode_3_18 : decode cJ11_hashCode_3 18 = .ok (.imul, 1) := dk_104 (dk_at dksJ11_hashCode_3_0 18 rfl rfl)
theorem dJ11_hashCode_3_19 : decode cJ11_hashCode_3 19 = .ok (.aload_n 1, 1) := dk_43 (dk_at dksJ11_hashCode_3_0 19 rfl rfl)
theorem dJ11_hashCode_3_20 : decode cJ11_hashCode_3 20 = .ok (.iload 5, 2) := dk_21 5 (dk_at dksJ11_hashCode_3_0 20 rfl rfl)
theorem dJ11_hashCode_3_22 : decode cJ11_hashCode_3 22 = .ok (.saload, 1) := dk_53 (dk_at dksJ11_hashCode_3_0 22 rfl rfl)
theorem dJ11_hashCode_3_23 : decode cJ11_hashCode_3 23 = .ok (.iadd, 1) := dk_96 (dk_at dksJ11_hashCode_3_0 23 rfl rfl)
theorem dJ11_hashCode_3_24 : decode cJ11_hashCode_3 24 = .ok (.istore_n 0, 1) := dk_59 (dk_at dksJ11_hashCode_3_1 0 rfl rfl)
theorem dJ11_hashCode_3_25 : decode cJ11_hashCode_3 25 = .ok (.iinc 5 1, 3) := dk_132 5 1 (dk_at dksJ11_hashCode_3_1 1 rfl rfl)
theorem dJ11_hashCode_3_28 : decode cJ11_hashCode_3 28 = .ok (.goto (-20), 3) := dk_167 255 236 (dk_at dksJ11_hashCode_3_1 4 rfl rfl)
theorem dJ11_hashCode_3_31 : decode cJ11_hashCode_3 31 = .ok (.iload_n 0, 1) := dk_26 (dk_at dksJ11_hashCode_3_1 7 rfl rfl)
theorem dJ11_hashCode_3_32 : decode cJ11_hashCode_3 32 = .ok (.ireturn, 1) := dk_172 (dk_at dksJ11_hashCode_3_1 8 rfl rfl)
abbrev cJ11_hashCode_4 : ByteArray := prog_77_method_9_code
def yJ11_hashCode_4 : MethodName := ⟨RJ11, "hashCode", "(I[III)I"⟩
def dkwJ11_hashCode_4_1 : List UInt8 := [59, 132, 5, 1, 167, 255, 236, 26, 172]
abbrev dktJ11_hashCode_4_1 : List UInt8 := dkwJ11_hashCode_4_1 ++ []
def dkwJ11_hashCode_4_0 : List UInt8 := [28, 29, 96, 54, 4, 28, 54, 5, 21, 5, 21, 4, 162, 0, 19, 16, 31, 26, 104, 43, 21, 5, 46, 96]
abbrev dktJ11_hashCode_4_0 : List UInt8 := dkwJ11_hashCode_4_0 ++ dktJ11_hashCode_4_1
theorem dksJ11_hashCode_4_0 : cJ11_hashCode_4.data.toList.drop 0 = dktJ11_hashCode_4_0 := by decide +kernel
theorem dksJ11_hashCode_4_1 : cJ11_hashCode_4.data.toList.drop 24 = dktJ11_hashCode_4_1 := dk_seg dksJ11_hashCode_4_0 24 rfl rfl
theorem dJ11_hashCode_4_0 : decode cJ11_hashCode_4 0 = .ok (.iload_n 2, 1) := dk_28 (dk_at dksJ11_hashCode_4_0 0 rfl rfl)
theorem dJ11_hashCode_4_1 : decode cJ11_hashCode_4 1 = .ok (.iload_n 3, 1) := dk_29 (dk_at dksJ11_hashCode_4_0 1 rfl rfl)
theorem dJ11_hashCode_4_2 : decode cJ11_hashCode_4 2 = .ok (.iadd, 1) := dk_96 (dk_at dksJ11_hashCode_4_0 2 rfl rfl)
theorem dJ11_hashCode_4_3 : decode cJ11_hashCode_4 3 = .ok (.istore 4, 2) := dk_54 4 (dk_at dksJ11_hashCode_4_0 3 rfl rfl)
theorem dJ11_hashCode_4_5 : decode cJ11_hashCode_4 5 = .ok (.iload_n 2, 1) := dk_28 (dk_at dksJ11_hashCode_4_0 5 rfl rfl)
theorem dJ11_hashCode_4_6 : decode cJ11_hashCode_4 6 = .ok (.istore 5, 2) := dk_54 5 (dk_at dksJ11_hashCode_4_0 6 rfl rfl)
theorem dJ11_hashCode_4_8 : decode cJ11_hashCode_4 8 = .ok (.iload 5, 2) := dk_21 5 (dk_at dksJ11_hashCode_4_0 8 rfl rfl)
theorem dJ11_hashCode_4_10 : decode cJ11_hashCode_4 10 = .ok (.iload 4, 2) := dk_21 4 (dk_at dksJ11_hashCode_4_0 10 rfl rfl)
theorem dJ11_hashCode_4_12 : decode cJ11_hashCode_4 12 = .ok (.if_icmp .ge 19, 3) := dk_162 0 19 (dk_at dksJ11_hashCode_4_0 12 rfl rfl)
theorem dJ11_hashCode_4_15 : decode cJ11_hashCode_4 15 = .ok (.bipush 31, 2) := dk_16 31 (dk_at dksJ11_hashCode_4_0 15 rfl rfl)
theorem dJ11_hashCode_4_17 : decode cJ11_hashCode_4 17 = .ok (.iload_n 0, 1) := dk_26 (dk_at dksJ11_hashCode_4_0 17 rfl rfl)
theorem dJ11_hashCode_4_18 : decode cJ11_hashCode_4 18 = .ok (.imul, 1) := dk_104 (dk_at dksJ11_hashCode_4_0 18 rfl rfl)
theorem dJ11_hashCode_4_19 : decode cJ11_hashCode_4 19 = .ok (.aload_n 1, 1) := dk_43 (dk_at dksJ11_hashCode_4_0 19 rfl rfl)
theorem dJ11_hashCode_4_20 : decode cJ11_hashCode_4 20 = .ok (.iload 5, 2) := dk_21 5 (dk_at dksJ11_hashCode_4_0 20 rfl rfl)
theorem dJ11_hashCode_4_22 : decode cJ11_hashCode_4 22 = .ok (.iaload, 1) := dk_46 (dk_at dksJ11_hashCode_4_0 22 rfl rfl)
theorem dJ11_hashCode_4_23 : decode cJ11_hashCode_4 23 = .ok (.iadd, 1) := dk_96 (dk_at dksJ11_hashCode_4_0 23 rfl rfl)
theorem dJ11_hashCode_4_24 : decode cJ11_hashCode_4 24 = .ok (.istore_n 0, 1) := dk_59 (dk_at dksJ11_hashCode_4_1 0 rfl rfl)
theorem dJ11_hashCode_4_25 : decode cJ11_hashCode_4 25 = .ok (.iinc 5 1, 3) := dk_132 5 1 (dk_at dksJ11_hashCode_4_1 1 rfl rfl)
theorem dJ11_hashCode_4_28 : decode cJ11_hashCode_4 28 = .ok (.goto (-20), 3) := dk_167 255 236 (dk_at dksJ11_hashCode_4_1 4 rfl rfl)
theorem dJ11_hashCode_4_31 : decode cJ11_hashCode_4 31 = .ok (.iload_n 0, 1) := dk_26 (dk_at dksJ11_hashCode_4_1 7 rfl rfl)
theorem dJ11_hashCode_4_32 : decode cJ11_hashCode_4 32 = .ok (.ireturn, 1) := dk_172 (dk_at dksJ11_hashCode_4_1 8 rfl rfl)
theorem q91 : (Jvm.Cond.initialized "jdk/internal/util/ArraysSupport") ∈ lw_all := lw_g (lw_at lw_m1 15 rfl) rfl
theorem q429 : (Jvm.Cond.static ({ cls := "jdk/internal/util/ArraysSupport", name := "newLength", desc := "(III)I" } : Jvm.MethodName)) ∈ lw_all := lw_g (lw_at lw_m2 113 rfl) rfl
theorem q430 : (Jvm.Cond.code ({ cls := "jdk/internal/util/ArraysSupport", name := "newLength", desc := "(III)I" } : Jvm.MethodName) prog_77_method_27_code (4 : Nat) (Option.some Jvm.ClassFile.FieldType.int)) ∈ lw_all := lw_g (lw_at lw_m2 114 rfl) rfl
theorem q431 : (Jvm.Cond.methodLink "jdk/internal/util/ArraysSupport" (194 : Nat) ({ cls := "java/lang/Math", name := "max", desc := "(II)I" } : Jvm.MethodName)) ∈ lw_all := lw_g (lw_at lw_m2 115 rfl) rfl
theorem q434 : (Jvm.Cond.constant "jdk/internal/util/ArraysSupport" (200 : Nat) (2147483639 : Int32)) ∈ lw_all := lw_g (lw_at lw_m2 118 rfl) rfl
theorem q435 : (Jvm.Cond.methodLink "jdk/internal/util/ArraysSupport" (201 : Nat) ({ cls := "jdk/internal/util/ArraysSupport", name := "hugeLength", desc := "(II)I" } : Jvm.MethodName)) ∈ lw_all := lw_g (lw_at lw_m2 119 rfl) rfl
theorem q436 : (Jvm.Cond.static ({ cls := "jdk/internal/util/ArraysSupport", name := "hugeLength", desc := "(II)I" } : Jvm.MethodName)) ∈ lw_all := lw_g (lw_at lw_m2 120 rfl) rfl
theorem q437 : (Jvm.Cond.code ({ cls := "jdk/internal/util/ArraysSupport", name := "hugeLength", desc := "(II)I" } : Jvm.MethodName) prog_77_method_28_code (3 : Nat) (Option.some Jvm.ClassFile.FieldType.int)) ∈ lw_all := lw_g (lw_at lw_m2 121 rfl) rfl
theorem q684 : (Jvm.Cond.static ({ cls := "jdk/internal/util/ArraysSupport", name := "mismatch", desc := "([B[BI)I" } : Jvm.MethodName)) ∈ lw_all := lw_g (lw_at lw_m3 128 rfl) rfl
theorem q685 : (Jvm.Cond.code ({ cls := "jdk/internal/util/ArraysSupport", name := "mismatch", desc := "([B[BI)I" } : Jvm.MethodName) prog_77_method_13_code (4 : Nat) (Option.some Jvm.ClassFile.FieldType.int)) ∈ lw_all := lw_g (lw_at lw_m3 129 rfl) rfl
theorem q686 : (Jvm.Cond.fieldLink "jdk/internal/util/ArraysSupport" (126 : Nat) "jdk/internal/misc/Unsafe" "ARRAY_BYTE_BASE_OFFSET" "I") ∈ lw_all := lw_g (lw_at lw_m3 130 rfl) rfl
theorem q688 : (Jvm.Cond.fieldLink "jdk/internal/util/ArraysSupport" (129 : Nat) "jdk/internal/util/ArraysSupport" "LOG2_ARRAY_BYTE_INDEX_SCALE" "I") ∈ lw_all := lw_g (lw_at lw_m3 132 rfl) rfl
theorem q689 : (Jvm.Cond.laysStatic "jdk/internal/util/ArraysSupport" "LOG2_ARRAY_BYTE_INDEX_SCALE" "I") ∈ lw_tbl := lw_at lw_m3 133 rfl
theorem q690 : (Jvm.Cond.methodLink "jdk/internal/util/ArraysSupport" (122 : Nat) ({ cls := "jdk/internal/util/ArraysSupport", name := "vectorizedMismatch", desc := "(Ljava/lang/Object;JLjava/lang/Object;JII)I" } : Jvm.MethodName)) ∈ lw_all := lw_g (lw_at lw_m3 134 rfl) rfl
theorem q691 : (Jvm.Cond.static ({ cls := "jdk/internal/util/ArraysSupport", name := "vectorizedMismatch", desc := "(Ljava/lang/Object;JLjava/lang/Object;JII)I" } : Jvm.MethodName)) ∈ lw_all := lw_g (lw_at lw_m3 135 rfl) rfl
theorem q692 : (Jvm.Cond.code ({ cls := "jdk/internal/util/ArraysSupport", name := "vectorizedMismatch", desc := "(Ljava/lang/Object;JLjava/lang/Object;JII)I" } : Jvm.MethodName) prog_77_method_3_code (19 : Nat) (Option.some Jvm.ClassFile.FieldType.int)) ∈ lw_all := lw_g (lw_at lw_m3 136 rfl) rfl
theorem q693 : (Jvm.Cond.fieldLink "jdk/internal/util/ArraysSupport" (20 : Nat) "jdk/internal/util/ArraysSupport" "LOG2_ARRAY_LONG_INDEX_SCALE" "I") ∈ lw_all := lw_g (lw_at lw_m3 137 rfl) rfl
theorem q694 : (Jvm.Cond.laysStatic "jdk/internal/util/ArraysSupport" "LOG2_ARRAY_LONG_INDEX_SCALE" "I") ∈ lw_tbl := lw_at lw_m3 138 rfl
theorem q695 : (Jvm.Cond.fieldLink "jdk/internal/util/ArraysSupport" (26 : Nat) "jdk/internal/util/ArraysSupport" "U" "Ljdk/internal/misc/Unsafe;") ∈ lw_all := lw_g (lw_at lw_m3 139 rfl) rfl
theorem q696 : (Jvm.Cond.laysStatic "jdk/internal/util/ArraysSupport" "U" "Ljdk/internal/misc/Unsafe;") ∈ lw_tbl := lw_at lw_m3 140 rfl
theorem q697 : (Jvm.Cond.methodLink "jdk/internal/util/ArraysSupport" (30 : Nat) ({ cls := "jdk/internal/misc/Unsafe", name := "getLongUnaligned", desc := "(Ljava/lang/Object;J)J" } : Jvm.MethodName)) ∈ lw_all := lw_g (lw_at lw_m3 141 rfl) rfl
theorem q749 : (Jvm.Cond.fieldLink "jdk/internal/util/ArraysSupport" (36 : Nat) "jdk/internal/util/ArraysSupport" "BIG_ENDIAN" "Z") ∈ lw_all := lw_g (lw_at lw_m3 193 rfl) rfl
theorem q750 : (Jvm.Cond.laysStatic "jdk/internal/util/ArraysSupport" "BIG_ENDIAN" "Z") ∈ lw_tbl := lw_at lw_m3 194 rfl
theorem q751 : (Jvm.Cond.methodLink "jdk/internal/util/ArraysSupport" (40 : Nat) ({ cls := "java/lang/Long", name := "numberOfLeadingZeros", desc := "(J)I" } : Jvm.MethodName)) ∈ lw_all := lw_g (lw_at lw_m3 195 rfl) rfl
theorem q758 : (Jvm.Cond.fieldLink "jdk/internal/util/ArraysSupport" (46 : Nat) "jdk/internal/util/ArraysSupport" "LOG2_BYTE_BIT_SIZE" "I") ∈ lw_all := lw_g (lw_at lw_m3 202 rfl) rfl
theorem q759 : (Jvm.Cond.laysStatic "jdk/internal/util/ArraysSupport" "LOG2_BYTE_BIT_SIZE" "I") ∈ lw_tbl := lw_at lw_m3 203 rfl
theorem q760 : (Jvm.Cond.methodLink "jdk/internal/util/ArraysSupport" (49 : Nat) ({ cls := "java/lang/Long", name := "numberOfTrailingZeros", desc := "(J)I" } : Jvm.MethodName)) ∈ lw_all := lw_g (lw_at lw_m3 204 rfl) rfl
theorem q766 : (Jvm.Cond.fieldLink "jdk/internal/util/ArraysSupport" (51 : Nat) "jdk/internal/util/ArraysSupport" "LOG2_ARRAY_INT_INDEX_SCALE" "I") ∈ lw_all := lw_g (lw_at lw_m3 210 rfl) rfl
theorem q767 : (Jvm.Cond.laysStatic "jdk/internal/util/ArraysSupport" "LOG2_ARRAY_INT_INDEX_SCALE" "I") ∈ lw_tbl := lw_at lw_m3 211 rfl
theorem q768 : (Jvm.Cond.methodLink "jdk/internal/util/ArraysSupport" (54 : Nat) ({ cls := "jdk/internal/misc/Unsafe", name := "getIntUnaligned", desc := "(Ljava/lang/Object;J)I" } : Jvm.MethodName)) ∈ lw_all := lw_g (lw_at lw_m3 212 rfl) rfl
theorem q785 : (Jvm.Cond.methodLink "jdk/internal/util/ArraysSupport" (58 : Nat) ({ cls := "java/lang/Integer", name := "numberOfLeadingZeros", desc := "(I)I" } : Jvm.MethodName)) ∈ lw_all := lw_g (lw_at lw_m3 229 rfl) rfl
theorem q786 : (Jvm.Cond.methodLink "jdk/internal/util/ArraysSupport" (11 : Nat) ({ cls := "java/lang/Integer", name := "numberOfTrailingZeros", desc := "(I)I" } : Jvm.MethodName)) ∈ lw_all := lw_g (lw_at lw_m3 230 rfl) rfl
theorem q1526 : (Jvm.Cond.static ({ cls := "jdk/internal/util/ArraysSupport", name := "mismatch", desc := "([BI[BII)I" } : Jvm.MethodName)) ∈ lw_all := lw_g (lw_at lw_m7 10 rfl) rfl
theorem q1527 : (Jvm.Cond.code ({ cls := "jdk/internal/util/ArraysSupport", name := "mismatch", desc := "([BI[BII)I" } : Jvm.MethodName) prog_77_method_14_code (8 : Nat) (Option.some Jvm.ClassFile.FieldType.int)) ∈ lw_all := lw_g (lw_at lw_m7 11 rfl) rfl
theorem q1545 : (Jvm.Cond.static ({ cls := "jdk/internal/util/ArraysSupport", name := "vectorizedHashCode", desc := "(Ljava/lang/Object;IIII)I" } : Jvm.MethodName)) ∈ lw_all := lw_g (lw_at lw_m7 29 rfl) rfl
theorem q1546 : (Jvm.Cond.code ({ cls := "jdk/internal/util/ArraysSupport", name := "vectorizedHashCode", desc := "(Ljava/lang/Object;IIII)I" } : Jvm.MethodName) prog_77_method_4_code (5 : Nat) (Option.some Jvm.ClassFile.FieldType.int)) ∈ lw_all := lw_g (lw_at lw_m7 30 rfl) rfl
theorem q1547 : (Jvm.Cond.classLink "jdk/internal/util/ArraysSupport" (60 : Nat) "[B") ∈ lw_all := lw_g (lw_at lw_m7 31 rfl) rfl
theorem q1548 : (Jvm.Cond.methodLink "jdk/internal/util/ArraysSupport" (62 : Nat) ({ cls := "jdk/internal/util/ArraysSupport", name := "signedHashCode", desc := "(I[BII)I" } : Jvm.MethodName)) ∈ lw_all := lw_g (lw_at lw_m7 32 rfl) rfl
theorem q1549 : (Jvm.Cond.static ({ cls := "jdk/internal/util/ArraysSupport", name := "signedHashCode", desc := "(I[BII)I" } : Jvm.MethodName)) ∈ lw_all := lw_g (lw_at lw_m7 33 rfl) rfl
theorem q1550 : (Jvm.Cond.code ({ cls := "jdk/internal/util/ArraysSupport", name := "signedHashCode", desc := "(I[BII)I" } : Jvm.MethodName) prog_77_method_5_code (6 : Nat) (Option.some Jvm.ClassFile.FieldType.int)) ∈ lw_all := lw_g (lw_at lw_m7 34 rfl) rfl
theorem q1551 : (Jvm.Cond.methodLink "jdk/internal/util/ArraysSupport" (66 : Nat) ({ cls := "jdk/internal/util/ArraysSupport", name := "utf16hashCode", desc := "(I[BII)I" } : Jvm.MethodName)) ∈ lw_all := lw_g (lw_at lw_m7 35 rfl) rfl
theorem q1552 : (Jvm.Cond.static ({ cls := "jdk/internal/util/ArraysSupport", name := "utf16hashCode", desc := "(I[BII)I" } : Jvm.MethodName)) ∈ lw_all := lw_g (lw_at lw_m7 36 rfl) rfl
theorem q1553 : (Jvm.Cond.code ({ cls := "jdk/internal/util/ArraysSupport", name := "utf16hashCode", desc := "(I[BII)I" } : Jvm.MethodName) prog_77_method_10_code (6 : Nat) (Option.some Jvm.ClassFile.FieldType.int)) ∈ lw_all := lw_g (lw_at lw_m7 37 rfl) rfl
theorem q1554 : (Jvm.Cond.fieldLink "jdk/internal/util/ArraysSupport" (106 : Nat) "jdk/internal/util/ArraysSupport" "JLA" "Ljdk/internal/access/JavaLangAccess;") ∈ lw_all := lw_g (lw_at lw_m7 38 rfl) rfl
theorem q1555 : (Jvm.Cond.laysStatic "jdk/internal/util/ArraysSupport" "JLA" "Ljdk/internal/access/JavaLangAccess;") ∈ lw_tbl := lw_at lw_m7 39 rfl
theorem q1556 : (Jvm.Cond.interfaceEntry "jdk/internal/util/ArraysSupport" (110 : Nat)) ∈ lw_tbl := lw_at lw_m7 40 rfl
theorem q1557 : (Jvm.Cond.methodLink "jdk/internal/util/ArraysSupport" (110 : Nat) ({ cls := "jdk/internal/access/JavaLangAccess", name := "getUTF16Char", desc := "([BI)C" } : Jvm.MethodName)) ∈ lw_all := lw_g (lw_at lw_m7 41 rfl) rfl
theorem q1567 : (Jvm.Cond.classLink "jdk/internal/util/ArraysSupport" (69 : Nat) "[C") ∈ lw_all := lw_g (lw_at lw_m7 51 rfl) rfl
theorem q1568 : (Jvm.Cond.methodLink "jdk/internal/util/ArraysSupport" (71 : Nat) ({ cls := "jdk/internal/util/ArraysSupport", name := "hashCode", desc := "(I[CII)I" } : Jvm.MethodName)) ∈ lw_all := lw_g (lw_at lw_m7 52 rfl) rfl
theorem q1569 : (Jvm.Cond.static ({ cls := "jdk/internal/util/ArraysSupport", name := "hashCode", desc := "(I[CII)I" } : Jvm.MethodName)) ∈ lw_all := lw_g (lw_at lw_m7 53 rfl) rfl
theorem q1570 : (Jvm.Cond.code ({ cls := "jdk/internal/util/ArraysSupport", name := "hashCode", desc := "(I[CII)I" } : Jvm.MethodName) prog_77_method_7_code (6 : Nat) (Option.some Jvm.ClassFile.FieldType.int)) ∈ lw_all := lw_g (lw_at lw_m7 54 rfl) rfl
theorem q1571 : (Jvm.Cond.methodLink "jdk/internal/util/ArraysSupport" (75 : Nat) ({ cls := "jdk/internal/util/ArraysSupport", name := "hashCode", desc := "(I[BII)I" } : Jvm.MethodName)) ∈ lw_all := lw_g (lw_at lw_m7 55 rfl) rfl
theorem q1572 : (Jvm.Cond.static ({ cls := "jdk/internal/util/ArraysSupport", name := "hashCode", desc := "(I[BII)I" } : Jvm.MethodName)) ∈ lw_all := lw_g (lw_at lw_m7 56 rfl) rfl
theorem q1573 : (Jvm.Cond.code ({ cls := "jdk/internal/util/ArraysSupport", name := "hashCode", desc := "(I[BII)I" } : Jvm.MethodName) prog_77_method_6_code (6 : Nat) (Option.some Jvm.ClassFile.FieldType.int)) ∈ lw_all := lw_g (lw_at lw_m7 57 rfl) rfl
theorem q1574 : (Jvm.Cond.classLink "jdk/internal/util/ArraysSupport" (77 : Nat) "[S") ∈ lw_all := lw_g (lw_at lw_m7 58 rfl) rfl
theorem q1575 : (Jvm.Cond.methodLink "jdk/internal/util/ArraysSupport" (79 : Nat) ({ cls := "jdk/internal/util/ArraysSupport", name := "hashCode", desc := "(I[SII)I" } : Jvm.MethodName)) ∈ lw_all := lw_g (lw_at lw_m7 59 rfl) rfl
theorem q1576 : (Jvm.Cond.static ({ cls := "jdk/internal/util/ArraysSupport", name := "hashCode", desc := "(I[SII)I" } : Jvm.MethodName)) ∈ lw_all := lw_g (lw_at lw_m7 60 rfl) rfl
theorem q1577 : (Jvm.Cond.code ({ cls := "jdk/internal/util/ArraysSupport", name := "hashCode", desc := "(I[SII)I" } : Jvm.MethodName) prog_77_method_8_code (6 : Nat) (Option.some Jvm.ClassFile.FieldType.int)) ∈ lw_all := lw_g (lw_at lw_m7 61 rfl) rfl
theorem q1578 : (Jvm.Cond.classLink "jdk/internal/util/ArraysSupport" (82 : Nat) "[I") ∈ lw_all := lw_g (lw_at lw_m7 62 rfl) rfl
theorem q1579 : (Jvm.Cond.methodLink "jdk/internal/util/ArraysSupport" (84 : Nat) ({ cls := "jdk/internal/util/ArraysSupport", name := "hashCode", desc := "(I[III)I" } : Jvm.MethodName)) ∈ lw_all := lw_g (lw_at lw_m7 63 rfl) rfl
theorem q1580 : (Jvm.Cond.static ({ cls := "jdk/internal/util/ArraysSupport", name := "hashCode", desc := "(I[III)I" } : Jvm.MethodName)) ∈ lw_all := lw_g (lw_at lw_m7 64 rfl) rfl
theorem q1581 : (Jvm.Cond.code ({ cls := "jdk/internal/util/ArraysSupport", name := "hashCode", desc := "(I[III)I" } : Jvm.MethodName) prog_77_method_9_code (6 : Nat) (Option.some Jvm.ClassFile.FieldType.int)) ∈ lw_all := lw_g (lw_at lw_m7 65 rfl) rfl
theorem q1582 : (Jvm.Cond.classLink "jdk/internal/util/ArraysSupport" (87 : Nat) "java/lang/IllegalArgumentException") ∈ lw_all := lw_g (lw_at lw_m7 66 rfl) rfl
theorem q1583 : (Jvm.Cond.classLink "jdk/internal/util/ArraysSupport" (89 : Nat) "java/lang/StringBuilder") ∈ lw_all := lw_g (lw_at lw_m7 67 rfl) rfl
theorem q1584 : (Jvm.Cond.methodLink "jdk/internal/util/ArraysSupport" (91 : Nat) ({ cls := "java/lang/StringBuilder", name := "<init>", desc := "()V" } : Jvm.MethodName)) ∈ lw_all := lw_g (lw_at lw_m7 68 rfl) rfl
theorem q1585 : (Jvm.Cond.stringRef "jdk/internal/util/ArraysSupport" (92 : Nat) "unrecognized basic type: ") ∈ lw_tbl := lw_at lw_m7 69 rfl
theorem q1586 : (Jvm.Cond.methodLink "jdk/internal/util/ArraysSupport" (94 : Nat) ({ cls := "java/lang/StringBuilder", name := "append", desc := "(Ljava/lang/String;)Ljava/lang/StringBuilder;" } : Jvm.MethodName)) ∈ lw_all := lw_g (lw_at lw_m7 70 rfl) rfl
theorem q1587 : (Jvm.Cond.methodLink "jdk/internal/util/ArraysSupport" (98 : Nat) ({ cls := "java/lang/StringBuilder", name := "append", desc := "(I)Ljava/lang/StringBuilder;" } : Jvm.MethodName)) ∈ lw_all := lw_g (lw_at lw_m7 71 rfl) rfl
theorem q1588 : (Jvm.Cond.methodLink "jdk/internal/util/ArraysSupport" (101 : Nat) ({ cls := "java/lang/StringBuilder", name := "toString", desc := "()Ljava/lang/String;" } : Jvm.MethodName)) ∈ lw_all := lw_g (lw_at lw_m7 72 rfl) rfl
theorem q1589 : (Jvm.Cond.methodLink "jdk/internal/util/ArraysSupport" (105 : Nat) ({ cls := "java/lang/IllegalArgumentException", name := "<init>", desc := "(Ljava/lang/String;)V" } : Jvm.MethodName)) ∈ lw_all := lw_g (lw_at lw_m7 73 rfl) rfl

/-! java/lang/Math -/
set_option maxRecDepth 100000
def RJ12 : String := "java/lang/Math"
abbrev cJ12_max : ByteArray := prog_30_method_65_code
def yJ12_max : MethodName := ⟨RJ12, "max", "(II)I"⟩
def dkwJ12_max_0 : List UInt8 := [26, 27, 161, 0, 7, 26, 167, 0, 4, 27, 172]
abbrev dktJ12_max_0 : List UInt8 := dkwJ12_max_0 ++ []
theorem dksJ12_max_0 : cJ12_max.data.toList.drop 0 = dktJ12_max_0 := by decide +kernel
theorem dJ12_max_0 : decode cJ12_max 0 = .ok (.iload_n 0, 1) := dk_26 (dk_at dksJ12_max_0 0 rfl rfl)
theorem dJ12_max_1 : decode cJ12_max 1 = .ok (.iload_n 1, 1) := dk_27 (dk_at dksJ12_max_0 1 rfl rfl)
theorem dJ12_max_2 : decode cJ12_max 2 = .ok (.if_icmp .lt 7, 3) := dk_161 0 7 (dk_at dksJ12_max_0 2 rfl rfl)
theorem dJ12_max_5 : decode cJ12_max 5 = .ok (.iload_n 0, 1) := dk_26 (dk_at dksJ12_max_0 5 rfl rfl)
theorem dJ12_max_6 : decode cJ12_max 6 = .ok (.goto 4, 3) := dk_167 0 4 (dk_at dksJ12_max_0 6 rfl rfl)
theorem dJ12_max_9 : decode cJ12_max 9 = .ok (.iload_n 1, 1) := dk_27 (dk_at dksJ12_max_0 9 rfl rfl)
theorem dJ12_max_10 : decode cJ12_max 10 = .ok (.ireturn, 1) := dk_172 (dk_at dksJ12_max_0 10 rfl rfl)
abbrev cJ12_min : ByteArray := prog_30_method_69_code
def yJ12_min : MethodName := ⟨RJ12, "min", "(II)I"⟩
def dkwJ12_min_0 : List UInt8 := [26, 27, 163, 0, 7, 26, 167, 0, 4, 27, 172]
abbrev dktJ12_min_0 : List UInt8 := dkwJ12_min_0 ++ []
theorem dksJ12_min_0 : cJ12_min.data.toList.drop 0 = dktJ12_min_0 := by decide +kernel
theorem dJ12_min_0 : decode cJ12_min 0 = .ok (.iload_n 0, 1) := dk_26 (dk_at dksJ12_min_0 0 rfl rfl)
theorem dJ12_min_1 : decode cJ12_min 1 = .ok (.iload_n 1, 1) := dk_27 (dk_at dksJ12_min_0 1 rfl rfl)
theorem dJ12_min_2 : decode cJ12_min 2 = .ok (.if_icmp .gt 7, 3) := dk_163 0 7 (dk_at dksJ12_min_0 2 rfl rfl)
theorem dJ12_min_5 : decode cJ12_min 5 = .ok (.iload_n 0, 1) := dk_26 (dk_at dksJ12_min_0 5 rfl rfl)
theorem dJ12_min_6 : decode cJ12_min 6 = .ok (.goto 4, 3) := dk_167 0 4 (dk_at dksJ12_min_0 6 rfl rfl)
theorem dJ12_min_9 : decode cJ12_min 9 = .ok (.iload_n 1, 1) := dk_27 (dk_at dksJ12_min_0 9 rfl rfl)
theorem dJ12_min_10 : decode cJ12_min 10 = .ok (.ireturn, 1) := dk_172 (dk_at dksJ12_min_0 10 rfl rfl)
theorem q92 : (Jvm.Cond.initialized "java/lang/Math") ∈ lw_all := lw_g (lw_at lw_m1 16 rfl) rfl
theorem q432 : (Jvm.Cond.static ({ cls := "java/lang/Math", name := "max", desc := "(II)I" } : Jvm.MethodName)) ∈ lw_all := lw_g (lw_at lw_m2 116 rfl) rfl
theorem q433 : (Jvm.Cond.code ({ cls := "java/lang/Math", name := "max", desc := "(II)I" } : Jvm.MethodName) prog_30_method_65_code (2 : Nat) (Option.some Jvm.ClassFile.FieldType.int)) ∈ lw_all := lw_g (lw_at lw_m2 117 rfl) rfl
theorem q481 : (Jvm.Cond.static ({ cls := "java/lang/Math", name := "min", desc := "(II)I" } : Jvm.MethodName)) ∈ lw_all := lw_g (lw_at lw_m2 165 rfl) rfl
theorem q482 : (Jvm.Cond.code ({ cls := "java/lang/Math", name := "min", desc := "(II)I" } : Jvm.MethodName) prog_30_method_69_code (2 : Nat) (Option.some Jvm.ClassFile.FieldType.int)) ∈ lw_all := lw_g (lw_at lw_m2 166 rfl) rfl

/-! java/util/Arrays -/
set_option maxRecDepth 100000
def RJ13 : String := "java/util/Arrays"
abbrev cJ13_copyOf : ByteArray := prog_50_method_119_code
def yJ13_copyOf : MethodName := ⟨RJ13, "copyOf", "([Ljava/lang/Object;I)[Ljava/lang/Object;"⟩
def dkwJ13_copyOf_0 : List UInt8 := [42, 27, 42, 182, 0, 86, 184, 1, 44, 176]
abbrev dktJ13_copyOf_0 : List UInt8 := dkwJ13_copyOf_0 ++ []
theorem dksJ13_copyOf_0 : cJ13_copyOf.data.toList.drop 0 = dktJ13_copyOf_0 := by decide +kernel
theorem dJ13_copyOf_0 : decode cJ13_copyOf 0 = .ok (.aload_n 0, 1) := dk_42 (dk_at dksJ13_copyOf_0 0 rfl rfl)
theorem dJ13_copyOf_1 : decode cJ13_copyOf 1 = .ok (.iload_n 1, 1) := dk_27 (dk_at dksJ13_copyOf_0 1 rfl rfl)
theorem dJ13_copyOf_2 : decode cJ13_copyOf 2 = .ok (.aload_n 0, 1) := dk_42 (dk_at dksJ13_copyOf_0 2 rfl rfl)
theorem dJ13_copyOf_3 : decode cJ13_copyOf 3 = .ok (.invokevirtual 86, 3) := dk_182 0 86 (dk_at dksJ13_copyOf_0 3 rfl rfl)
theorem dJ13_copyOf_6 : decode cJ13_copyOf 6 = .ok (.invokestatic 300, 3) := dk_184 1 44 (dk_at dksJ13_copyOf_0 6 rfl rfl)
theorem dJ13_copyOf_9 : decode cJ13_copyOf 9 = .ok (.areturn, 1) := dk_176 (dk_at dksJ13_copyOf_0 9 rfl rfl)
abbrev cJ13_copyOf_2 : ByteArray := prog_50_method_120_code
def yJ13_copyOf_2 : MethodName := ⟨RJ13, "copyOf", "([Ljava/lang/Object;ILjava/lang/Class;)[Ljava/lang/Object;"⟩
def dkwJ13_copyOf_2_1 : List UInt8 := [78, 42, 3, 45, 3, 42, 190, 27, 184, 1, 48, 184, 0, 150, 45, 176]
abbrev dktJ13_copyOf_2_1 : List UInt8 := dkwJ13_copyOf_2_1 ++ []
def dkwJ13_copyOf_2_0 : List UInt8 := [44, 18, 110, 166, 0, 10, 27, 189, 0, 2, 167, 0, 14, 44, 182, 0, 90, 27, 184, 0, 95, 192, 0, 110]
abbrev dktJ13_copyOf_2_0 : List UInt8 := dkwJ13_copyOf_2_0 ++ dktJ13_copyOf_2_1
theorem dksJ13_copyOf_2_0 : cJ13_copyOf_2.data.toList.drop 0 = dktJ13_copyOf_2_0 := by decide +kernel
theorem dksJ13_copyOf_2_1 : cJ13_copyOf_2.data.toList.drop 24 = dktJ13_copyOf_2_1 := dk_seg dksJ13_copyOf_2_0 24 rfl rfl
theorem dJ13_copyOf_2_0 : decode cJ13_copyOf_2 0 = .ok (.aload_n 2, 1) := dk_44 (dk_at dksJ13_copyOf_2_0 0 rfl rfl)
theorem dJ13_copyOf_2_1 : decode cJ13_copyOf_2 1 = .ok (.ldc 110, 2) := dk_18 110 (dk_at dksJ13_copyOf_2_0 1 rfl rfl)
theorem dJ13_copyOf_2_3 : decode cJ13_copyOf_2 3 = .ok (.if_acmp .ne 10, 3) := dk_166 0 10 (dk_at dksJ13_copyOf_2_0 3 rfl rfl)
theorem dJ13_copyOf_2_6 : decode cJ13_copyOf_2 6 = .ok (.iload_n 1, 1) := dk_27 (dk_at dksJ13_copyOf_2_0 6 rfl rfl)
theorem dJ13_copyOf_2_7 : decode cJ13_copyOf_2 7 = .ok (.anewarray 2, 3) := dk_189 0 2 (dk_at dksJ13_copyOf_2_0 7 rfl rfl)
theorem dJ13_copyOf_2_10 : decode cJ13_copyOf_2 10 = .ok (.goto 14, 3) := dk_167 0 14 (dk_at dksJ13_copyOf_2_0 10 rfl rfl)
theorem dJ13_copyOf_2_13 : decode cJ13_copyOf_2 13 = .ok (.aload_n 2, 1) := dk_44 (dk_at dksJ13_copyOf_2_0 13 rfl rfl)
theorem dJ13_copyOf_2_14 : decode cJ13_copyOf_2 14 = .ok (.invokevirtual 90, 3) := dk_182 0 90 (dk_at dksJ13_copyOf_2_0 14 rfl rfl)
theorem dJ13_copyOf_2_17 : decode cJ13_copyOf_2 17 = .ok (.iload_n 1, 1) := dk_27 (dk_at dksJ13_copyOf_2_0 17 rfl rfl)
theorem dJ13_copyOf_2_18 : decode cJ13_copyOf_2 18 = .ok (.invokestatic 95, 3) := dk_184 0 95 (dk_at dksJ13_copyOf_2_0 18 rfl rfl)
theorem dJ13_copyOf_2_21 : decode cJ13_copyOf_2 21 = .ok (.checkcast 110, 3) := dk_192 0 110 (dk_at dksJ13_copyOf_2_0 21 rfl rfl)
theorem dJ13_copyOf_2_24 : decode cJ13_copyOf_2 24 = .ok (.astore_n 3, 1) := dk_78 (dk_at dksJ13_copyOf_2_1 0 rfl rfl)
theorem dJ13_copyOf_2_25 : decode cJ13_copyOf_2 25 = .ok (.aload_n 0, 1) := dk_42 (dk_at dksJ13_copyOf_2_1 1 rfl rfl)
theorem dJ13_copyOf_2_26 : decode cJ13_copyOf_2 26 = .ok (.iconst 0, 1) := dk_3 (dk_at dksJ13_copyOf_2_1 2 rfl rfl)
theorem dJ13_copyOf_2_27 : decode cJ13_copyOf_2 27 = .ok (.aload_n 3, 1) := dk_45 (dk_at dksJ13_copyOf_2_1 3 rfl rfl)
theorem dJ13_copyOf_2_28 : decode cJ13_copyOf_2 28 = .ok (.iconst 0, 1) := dk_3 (dk_at dksJ13_copyOf_2_1 4 rfl rfl)
theorem dJ13_copyOf_2_29 : decode cJ13_copyOf_2 29 = .ok (.aload_n 0, 1) := dk_42 (dk_at dksJ13_copyOf_2_1 5 rfl rfl)
theorem dJ13_copyOf_2_30 : decode cJ13_copyOf_2 30 = .ok (.arraylength, 1) := dk_190 (dk_at dksJ13_copyOf_2_1 6 rfl rfl)
theorem dJ13_copyOf_2_31 : decode cJ13_copyOf_2 31 = .ok (.iload_n 1, 1) := dk_27 (dk_at dksJ13_copyOf_2_1 7 rfl rfl)
theorem dJ13_copyOf_2_32 : decode cJ13_copyOf_2 32 = .ok (.invokestatic 304, 3) := dk_184 1 48 (dk_at dksJ13_copyOf_2_1 8 rfl rfl)
theorem dJ13_copyOf_2_35 : decode cJ13_copyOf_2 35 = .ok (.invokestatic 150, 3) := dk_184 0 150 (dk_at dksJ13_copyOf_2_1 11 rfl rfl)
theorem dJ13_copyOf_2_38 : decode cJ13_copyOf_2 38 = .ok (.aload_n 3, 1) := dk_45 (dk_at dksJ13_copyOf_2_1 14 rfl rfl)
theorem dJ13_copyOf_2_39 : decode cJ13_copyOf_2 39 = .ok (.areturn, 1) := dk_176 (dk_at dksJ13_copyOf_2_1 15 rfl rfl)
abbrev cJ13_copyOf_3 : ByteArray := prog_50_method_121_code
def yJ13_copyOf_3 : MethodName := ⟨RJ13, "copyOf", "([BI)[B"⟩
def dkwJ13_copyOf_3_1 : List UInt8 := [27, 184, 1, 48, 184, 0, 150, 44, 176]
abbrev dktJ13_copyOf_3_1 : List UInt8 := dkwJ13_copyOf_3_1 ++ []
def dkwJ13_copyOf_3_0 : List UInt8 := [27, 42, 190, 160, 0, 11, 42, 182, 1, 54, 192, 1, 55, 176, 27, 188, 8, 77, 42, 3, 44, 3, 42, 190]
abbrev dktJ13_copyOf_3_0 : List UInt8 := dkwJ13_copyOf_3_0 ++ dktJ13_copyOf_3_1
theorem dksJ13_copyOf_3_0 : cJ13_copyOf_3.data.toList.drop 0 = dktJ13_copyOf_3_0 := by decide +kernel
theorem dksJ13_copyOf_3_1 : cJ13_copyOf_3.data.toList.drop 24 = dktJ13_copyOf_3_1 := dk_seg dksJ13_copyOf_3_0 24 rfl rfl
theorem dJ13_copyOf_3_0 : decode cJ13_copyOf_3 0 = .ok (.iload_n 1, 1) := dk_27 (dk_at dksJ13_copyOf_3_0 0 rfl rfl)
theorem dJ13_copyOf_3_1 : decode cJ13_copyOf_3 1 = .ok (.aload_n 0, 1) := dk_42 (dk_at dksJ13_copyOf_3_0 1 rfl rfl)
theorem dJ13_copyOf_3_2 : decode cJ13_copyOf_3 2 = .ok (.arraylength, 1) := dk_190 (dk_at dksJ13_copyOf_3_0 2 rfl rfl)
theorem dJ13_copyOf_3_3 : decode cJ13_copyOf_3 3 = .ok (.if_icmp .ne 11, 3) := dk_160 0 11 (dk_at dksJ13_copyOf_3_0 3 rfl rfl)
theorem dJ13_copyOf_3_6 : decode cJ13_copyOf_3 6 = .ok (.aload_n 0, 1) := dk_42 (dk_at dksJ13_copyOf_3_0 6 rfl rfl)
theorem dJ13_copyOf_3_7 : decode cJ13_copyOf_3 7 = .ok (.invokevirtual 310, 3) := dk_182 1 54 (dk_at dksJ13_copyOf_3_0 7 rfl rfl)
theorem dJ13_copyOf_3_10 : decode cJ13_copyOf_3 10 = .ok (.checkcast 311, 3) := dk_192 1 55 (dk_at dksJ13_copyOf_3_0 10 rfl rfl)
theorem dJ13_copyOf_3_13 : decode cJ13_copyOf_3 13 = .ok (.areturn, 1) := dk_176 (dk_at dksJ13_copyOf_3_0 13 rfl rfl)
theorem dJ13_copyOf_3_14 : decode cJ13_copyOf_3 14 = .ok (.iload_n 1, 1) := dk_27 (dk_at dksJ13_copyOf_3_0 14 rfl rfl)
theorem dJ13_copyOf_3_15 : decode cJ13_copyOf_3 15 = .ok (.newarray .byte, 2) := dk_188_8 (dk_at dksJ13_copyOf_3_0 15 rfl rfl)
theorem dJ13_copyOf_3_17 : decode cJ13_copyOf_3 17 = .ok (.astore_n 2, 1) := dk_77 (dk_at dksJ13_copyOf_3_0 17 rfl rfl)
theorem dJ13_copyOf_3_18 : decode cJ13_copyOf_3 18 = .ok (.aload_n 0, 1) := dk_42 (dk_at dksJ13_copyOf_3_0 18 rfl rfl)
theorem dJ13_copyOf_3_19 : decode cJ13_copyOf_3 19 = .ok (.iconst 0, 1) := dk_3 (dk_at dksJ13_copyOf_3_0 19 rfl rfl)
theorem dJ13_copyOf_3_20 : decode cJ13_copyOf_3 20 = .ok (.aload_n 2, 1) := dk_44 (dk_at dksJ13_copyOf_3_0 20 rfl rfl)
theorem dJ13_copyOf_3_21 : decode cJ13_copyOf_3 21 = .ok (.iconst 0, 1) := dk_3 (dk_at dksJ13_copyOf_3_0 21 rfl rfl)
theorem dJ13_copyOf_3_22 : decode cJ13_copyOf_3 22 = .ok (.aload_n 0, 1) := dk_42 (dk_at dksJ13_copyOf_3_0 22 rfl rfl)
theorem dJ13_copyOf_3_23 : decode cJ13_copyOf_3 23 = .ok (.arraylength, 1) := dk_190 (dk_at dksJ13_copyOf_3_0 23 rfl rfl)
theorem dJ13_copyOf_3_24 : decode cJ13_copyOf_3 24 = .ok (.iload_n 1, 1) := dk_27 (dk_at dksJ13_copyOf_3_1 0 rfl rfl)
theorem dJ13_copyOf_3_25 : decode cJ13_copyOf_3 25 = .ok (.invokestatic 304, 3) := dk_184 1 48 (dk_at dksJ13_copyOf_3_1 1 rfl rfl)
theorem dJ13_copyOf_3_28 : decode cJ13_copyOf_3 28 = .ok (.invokestatic 150, 3) := dk_184 0 150 (dk_at dksJ13_copyOf_3_1 4 rfl rfl)
theorem dJ13_copyOf_3_31 : decode cJ13_copyOf_3 31 = .ok (.aload_n 2, 1) := dk_44 (dk_at dksJ13_copyOf_3_1 7 rfl rfl)
theorem dJ13_copyOf_3_32 : decode cJ13_copyOf_3 32 = .ok (.areturn, 1) := dk_176 (dk_at dksJ13_copyOf_3_1 8 rfl rfl)
abbrev cJ13_copyOfRange : ByteArray := prog_50_method_132_code
def yJ13_copyOfRange : MethodName := ⟨RJ13, "copyOfRange", "([BII)[B"⟩
def dkwJ13_copyOfRange_1 : List UInt8 := [176]
abbrev dktJ13_copyOfRange_1 : List UInt8 := dkwJ13_copyOfRange_1 ++ []
def dkwJ13_copyOfRange_0 : List UInt8 := [27, 154, 0, 9, 28, 42, 190, 159, 0, 10, 42, 27, 28, 184, 1, 83, 176, 42, 182, 1, 54, 192, 1, 55]
abbrev dktJ13_copyOfRange_0 : List UInt8 := dkwJ13_copyOfRange_0 ++ dktJ13_copyOfRange_1
theorem dksJ13_copyOfRange_0 : cJ13_copyOfRange.data.toList.drop 0 = dktJ13_copyOfRange_0 := by decide +kernel
theorem dksJ13_copyOfRange_1 : cJ13_copyOfRange.data.toList.drop 24 = dktJ13_copyOfRange_1 := dk_seg dksJ13_copyOfRange_0 24 rfl rfl
theorem dJ13_copyOfRange_0 : decode cJ13_copyOfRange 0 = .ok (.iload_n 1, 1) := dk_27 (dk_at dksJ13_copyOfRange_0 0 rfl rfl)
theorem dJ13_copyOfRange_1 : decode cJ13_copyOfRange 1 = .ok (.ifCond .ne 9, 3) := dk_154 0 9 (dk_at dksJ13_copyOfRange_0 1 rfl rfl)
theorem dJ13_copyOfRange_4 : decode cJ13_copyOfRange 4 = .ok (.iload_n 2, 1) := dk_28 (dk_at dksJ13_copyOfRange_0 4 rfl rfl)
theorem dJ13_copyOfRange_5 : decode cJ13_copyOfRange 5 = .ok (.aload_n 0, 1) := dk_42 (dk_at dksJ13_copyOfRange_0 5 rfl rfl)
theorem dJ13_copyOfRange_6 : decode cJ13_copyOfRange 6 = .ok (.arraylength, 1) := dk_190 (dk_at dksJ13_copyOfRange_0 6 rfl rfl)
theorem dJ13_copyOfRange_7 : decode cJ13_copyOfRange 7 = .ok (.if_icmp .eq 10, 3) := dk_159 0 10 (dk_at dksJ13_copyOfRange_0 7 rfl rfl)
theorem dJ13_copyOfRange_10 : decode cJ13_copyOfRange 10 = .ok (.aload_n 0, 1) := dk_42 (dk_at dksJ13_copyOfRange_0 10 rfl rfl)
theorem dJ13_copyOfRange_11 : decode cJ13_copyOfRange 11 = .ok (.iload_n 1, 1) := dk_27 (dk_at dksJ13_copyOfRange_0 11 rfl rfl)
theorem dJ13_copyOfRange_12 : decode cJ13_copyOfRange 12 = .ok (.iload_n 2, 1) := dk_28 (dk_at dksJ13_copyOfRange_0 12 rfl rfl)
theorem dJ13_copyOfRange_13 : decode cJ13_copyOfRange 13 = .ok (.invokestatic 339, 3) := dk_184 1 83 (dk_at dksJ13_copyOfRange_0 13 rfl rfl)
theorem dJ13_copyOfRange_16 : decode cJ13_copyOfRange 16 = .ok (.areturn, 1) := dk_176 (dk_at dksJ13_copyOfRange_0 16 rfl rfl)
theorem dJ13_copyOfRange_17 : decode cJ13_copyOfRange 17 = .ok (.aload_n 0, 1) := dk_42 (dk_at dksJ13_copyOfRange_0 17 rfl rfl)
theorem dJ13_copyOfRange_18 : decode cJ13_copyOfRange 18 = .ok (.invokevirtual 310, 3) := dk_182 1 54 (dk_at dksJ13_copyOfRange_0 18 rfl rfl)
theorem dJ13_copyOfRange_21 : decode cJ13_copyOfRange 21 = .ok (.checkcast 311, 3) := dk_192 1 55 (dk_at dksJ13_copyOfRange_0 21 rfl rfl)
theorem dJ13_copyOfRange_24 : decode cJ13_copyOfRange 24 = .ok (.areturn, 1) := dk_176 (dk_at dksJ13_copyOfRange_1 0 rfl rfl)
abbrev cJ13_copyOfRangeByte : ByteArray := prog_50_method_133_code
def yJ13_copyOfRangeByte : MethodName := ⟨RJ13, "copyOfRangeByte", "([BII)[B"⟩
def dkwJ13_copyOfRangeByte_1 : List UInt8 := [184, 1, 48, 184, 0, 150, 25, 4, 176]
abbrev dktJ13_copyOfRangeByte_1 : List UInt8 := dkwJ13_copyOfRangeByte_1 ++ []
def dkwJ13_copyOfRangeByte_0 : List UInt8 := [27, 28, 184, 1, 87, 28, 27, 100, 62, 29, 188, 8, 58, 4, 42, 27, 25, 4, 3, 42, 190, 27, 100, 29]
abbrev dktJ13_copyOfRangeByte_0 : List UInt8 := dkwJ13_copyOfRangeByte_0 ++ dktJ13_copyOfRangeByte_1
theorem dksJ13_copyOfRangeByte_0 : cJ13_copyOfRangeByte.data.toList.drop 0 = dktJ13_copyOfRangeByte_0 := by decide +kernel
theorem dksJ13_copyOfRangeByte_1 : cJ13_copyOfRangeByte.data.toList.drop 24 = dktJ13_copyOfRangeByte_1 := dk_seg dksJ13_copyOfRangeByte_0 24 rfl rfl
theorem dJ13_copyOfRangeByte_0 : decode cJ13_copyOfRangeByte 0 = .ok (.iload_n 1, 1) := dk_27 (dk_at dksJ13_copyOfRangeByte_0 0 rfl rfl)
theorem dJ13_copyOfRangeByte_1 : decode cJ13_copyOfRangeByte 1 = .ok (.iload_n 2, 1) := dk_28 (dk_at dksJ13_copyOfRangeByte_0 1 rfl rfl)
theorem dJ13_copyOfRangeByte_2 : decode cJ13_copyOfRangeByte 2 = .ok (.invokestatic 343, 3) := dk_184 1 87 (dk_at dksJ13_copyOfRangeByte_0 2 rfl rfl)
theorem dJ13_copyOfRangeByte_5 : decode cJ13_copyOfRangeByte 5 = .ok (.iload_n 2, 1) := dk_28 (dk_at dksJ13_copyOfRangeByte_0 5 rfl rfl)
theorem dJ13_copyOfRangeByte_6 : decode cJ13_copyOfRangeByte 6 = .ok (.iload_n 1, 1) := dk_27 (dk_at dksJ13_copyOfRangeByte_0 6 rfl rfl)
theorem dJ13_copyOfRangeByte_7 : decode cJ13_copyOfRangeByte 7 = .ok (.isub, 1) := dk_100 (dk_at dksJ13_copyOfRangeByte_0 7 rfl rfl)
theorem dJ13_copyOfRangeByte_8 : decode cJ13_copyOfRangeByte 8 = .ok (.istore_n 3, 1) := dk_62 (dk_at dksJ13_copyOfRangeByte_0 8 rfl rfl)
theorem dJ13_copyOfRangeByte_9 : decode cJ13_copyOfRangeByte 9 = .ok (.iload_n 3, 1) := dk_29 (dk_at dksJ13_copyOfRangeByte_0 9 rfl rfl)
theorem dJ13_copyOfRangeByte_10 : decode cJ13_copyOfRangeByte 10 = .ok (.newarray .byte, 2) := dk_188_8 (dk_at dksJ13_copyOfRangeByte_0 10 rfl rfl)
theorem dJ13_copyOfRangeByte_12 : decode cJ13_copyOfRangeByte 12 = .ok (.astore 4, 2) := dk_58 4 (dk_at dksJ13_copyOfRangeByte_0 12 rfl rfl)
theorem dJ13_copyOfRangeByte_14 : decode cJ13_copyOfRangeByte 14 = .ok (.aload_n 0, 1) := dk_42 (dk_at dksJ13_copyOfRangeByte_0 14 rfl rfl)
theorem dJ13_copyOfRangeByte_15 : decode cJ13_copyOfRangeByte 15 = .ok (.iload_n 1, 1) := dk_27 (dk_at dksJ13_copyOfRangeByte_0 15 rfl rfl)
theorem dJ13_copyOfRangeByte_16 : decode cJ13_copyOfRangeByte 16 = .ok (.aload 4, 2) := dk_25 4 (dk_at dksJ13_copyOfRangeByte_0 16 rfl rfl)
theorem dJ13_copyOfRangeByte_18 : decode cJ13_copyOfRangeByte 18 = .ok (.iconst 0, 1) := dk_3 (dk_at dksJ13_copyOfRangeByte_0 18 rfl rfl)
theorem dJ13_copyOfRangeByte_19 : decode cJ13_copyOfRangeByte 19 = .ok (.aload_n 0, 1) := dk_42 (dk_at dksJ13_copyOfRangeByte_0 19 rfl rfl)
theorem dJ13_copyOfRangeByte_20 : decode cJ13_copyOfRangeByte 20 = .ok (.arraylength, 1) := dk_190 (dk_at dksJ13_copyOfRangeByte_0 20 rfl rfl)
theorem dJ13_copyOfRangeByte_21 : decode cJ13_copyOfRangeByte 21 = .ok (.iload_n 1, 1) := dk_27 (dk_at dksJ13_copyOfRangeByte_0 21 rfl rfl)
theorem dJ13_copyOfRangeByte_22 : decode cJ13_copyOfRangeByte 22 = .ok (.isub, 1) := dk_100 (dk_at dksJ13_copyOfRangeByte_0 22 rfl rfl)
theorem dJ13_copyOfRangeByte_23 : decode cJ13_copyOfRangeByte 23 = .ok (.iload_n 3, 1) := dk_29 (dk_at dksJ13_copyOfRangeByte_0 23 rfl rfl)
theorem dJ13_copyOfRangeByte_24 : decode cJ13_copyOfRangeByte 24 = .ok (.invokestatic 304, 3) := dk_184 1 48 (dk_at dksJ13_copyOfRangeByte_1 0 rfl rfl)
theorem dJ13_copyOfRangeByte_27 : decode cJ13_copyOfRangeByte 27 = .ok (.invokestatic 150, 3) := dk_184 0 150 (dk_at dksJ13_copyOfRangeByte_1 3 rfl rfl)
theorem dJ13_copyOfRangeByte_30 : decode cJ13_copyOfRangeByte 30 = .ok (.aload 4, 2) := dk_25 4 (dk_at dksJ13_copyOfRangeByte_1 6 rfl rfl)
theorem dJ13_copyOfRangeByte_32 : decode cJ13_copyOfRangeByte 32 = .ok (.areturn, 1) := dk_176 (dk_at dksJ13_copyOfRangeByte_1 8 rfl rfl)
abbrev cJ13_checkLength : ByteArray := prog_50_method_131_code
def yJ13_checkLength : MethodName := ⟨RJ13, "checkLength", "(II)V"⟩
def dkwJ13_checkLength_1 : List UInt8 := [182, 0, 50, 27, 182, 0, 54, 182, 0, 61, 183, 0, 65, 191, 177]
abbrev dktJ13_checkLength_1 : List UInt8 := dkwJ13_checkLength_1 ++ []
def dkwJ13_checkLength_0 : List UInt8 := [27, 26, 162, 0, 35, 187, 0, 43, 89, 187, 0, 45, 89, 183, 0, 47, 26, 182, 0, 54, 19, 1, 81]
abbrev dktJ13_checkLength_0 : List UInt8 := dkwJ13_checkLength_0 ++ dktJ13_checkLength_1
theorem dksJ13_checkLength_0 : cJ13_checkLength.data.toList.drop 0 = dktJ13_checkLength_0 := by decide +kernel
theorem dksJ13_checkLength_1 : cJ13_checkLength.data.toList.drop 23 = dktJ13_checkLength_1 := dk_seg dksJ13_checkLength_0 23 rfl rfl
theorem dJ13_checkLength_0 : decode cJ13_checkLength 0 = .ok (.iload_n 1, 1) := dk_27 (dk_at dksJ13_checkLength_0 0 rfl rfl)
theorem dJ13_checkLength_1 : decode cJ13_checkLength 1 = .ok (.iload_n 0, 1) := dk_26 (dk_at dksJ13_checkLength_0 1 rfl rfl)
theorem dJ13_checkLength_2 : decode cJ13_checkLength 2 = .ok (.if_icmp .ge 35, 3) := dk_162 0 35 (dk_at dksJ13_checkLength_0 2 rfl rfl)
theorem dJ13_checkLength_5 : decode cJ13_checkLength 5 = .ok (.new 43, 3) := dk_187 0 43 (dk_at dksJ13_checkLength_0 5 rfl rfl)
theorem dJ13_checkLength_8 : decode cJ13_checkLength 8 = .ok (.dup, 1) := dk_89 (dk_at dksJ13_checkLength_0 8 rfl rfl)
theorem dJ13_checkLength_9 : decode cJ13_checkLength 9 = .ok (.new 45, 3) := dk_187 0 45 (dk_at dksJ13_checkLength_0 9 rfl rfl)
theorem dJ13_checkLength_12 : decode cJ13_checkLength 12 = .ok (.dup, 1) := dk_89 (dk_at dksJ13_checkLength_0 12 rfl rfl)
theorem dJ13_checkLength_13 : decode cJ13_checkLength 13 = .ok (.invokespecial 47, 3) := dk_183 0 47 (dk_at dksJ13_checkLength_0 13 rfl rfl)
theorem dJ13_checkLength_16 : decode cJ13_checkLength 16 = .ok (.iload_n 0, 1) := dk_26 (dk_at dksJ13_checkLength_0 16 rfl rfl)
theorem dJ13_checkLength_17 : decode cJ13_checkLength 17 = .ok (.invokevirtual 54, 3) := dk_182 0 54 (dk_at dksJ13_checkLength_0 17 rfl rfl)
theorem dJ13_checkLength_20 : decode cJ13_checkLength 20 = .ok (.ldc_w 337, 3) := dk_19 1 81 (dk_at dksJ13_checkLength_0 20 rfl rfl)
theorem dJ13_checkLength_23 : decode cJ13_checkLength 23 = .ok (.invokevirtual 50, 3) := dk_182 0 50 (dk_at dksJ13_checkLength_1 0 rfl rfl)
theorem dJ13_checkLength_26 : decode cJ13_checkLength 26 = .ok (.iload_n 1, 1) := dk_27 (dk_at dksJ13_checkLength_1 3 rfl rfl)
theorem dJ13_checkLength_27 : decode cJ13_checkLength 27 = .ok (.invokevirtual 54, 3) := dk_182 0 54 (dk_at dksJ13_checkLength_1 4 rfl rfl)
theorem dJ13_checkLength_30 : decode cJ13_checkLength 30 = .ok (.invokevirtual 61, 3) := dk_182 0 61 (dk_at dksJ13_checkLength_1 7 rfl rfl)
theorem dJ13_checkLength_33 : decode cJ13_checkLength 33 = .ok (.invokespecial 65, 3) := dk_183 0 65 (dk_at dksJ13_checkLength_1 10 rfl rfl)
theorem dJ13_checkLength_36 : decode cJ13_checkLength 36 = .ok (.athrow, 1) := dk_191 (dk_at dksJ13_checkLength_1 13 rfl rfl)
theorem dJ13_checkLength_37 : decode cJ13_checkLength 37 = .ok (.return_, 1) := dk_177 (dk_at dksJ13_checkLength_1 14 rfl rfl)
abbrev cJ13_fill : ByteArray := prog_50_method_110_code
def yJ13_fill : MethodName := ⟨RJ13, "fill", "([BIIB)V"⟩
def dkwJ13_fill_1 : List UInt8 := [167, 255, 242, 177]
abbrev dktJ13_fill_1 : List UInt8 := dkwJ13_fill_1 ++ []
def dkwJ13_fill_0 : List UInt8 := [42, 190, 27, 28, 184, 0, 13, 27, 54, 4, 21, 4, 28, 162, 0, 14, 42, 21, 4, 29, 84, 132, 4, 1]
abbrev dktJ13_fill_0 : List UInt8 := dkwJ13_fill_0 ++ dktJ13_fill_1
theorem dksJ13_fill_0 : cJ13_fill.data.toList.drop 0 = dktJ13_fill_0 := by decide +kernel
theorem dksJ13_fill_1 : cJ13_fill.data.toList.drop 24 = dktJ13_fill_1 := dk_seg dksJ13_fill_0 24 rfl rfl
theorem dJ13_fill_0 : decode cJ13_fill 0 = .ok (.aload_n 0, 1) := dk_42 (dk_at dksJ13_fill_0 0 rfl rfl)
theorem dJ13_fill_1 : decode cJ13_fill 1 = .ok (.arraylength, 1) := dk_190 (dk_at dksJ13_fill_0 1 rfl rfl)
theorem dJ13_fill_2 : decode cJ13_fill 2 = .ok (.iload_n 1, 1) := dk_27 (dk_at dksJ13_fill_0 2 rfl rfl)
theorem dJ13_fill_3 : decode cJ13_fill 3 = .ok (.iload_n 2, 1) := dk_28 (dk_at dksJ13_fill_0 3 rfl rfl)
theorem dJ13_fill_4 : decode cJ13_fill 4 = .ok (.invokestatic 13, 3) := dk_184 0 13 (dk_at dksJ13_fill_0 4 rfl rfl)
theorem dJ13_fill_7 : decode cJ13_fill 7 = .ok (.iload_n 1, 1) := dk_27 (dk_at dksJ13_fill_0 7 rfl rfl)
theorem dJ13_fill_8 : decode cJ13_fill 8 = .ok (.istore 4, 2) := dk_54 4 (dk_at dksJ13_fill_0 8 rfl rfl)
theorem dJ13_fill_10 : decode cJ13_fill 10 = .ok (.iload 4, 2) := dk_21 4 (dk_at dksJ13_fill_0 10 rfl rfl)
theorem dJ13_fill_12 : decode cJ13_fill 12 = .ok (.iload_n 2, 1) := dk_28 (dk_at dksJ13_fill_0 12 rfl rfl)
theorem dJ13_fill_13 : decode cJ13_fill 13 = .ok (.if_icmp .ge 14, 3) := dk_162 0 14 (dk_at dksJ13_fill_0 13 rfl rfl)
theorem dJ13_fill_16 : decode cJ13_fill 16 = .ok (.aload_n 0, 1) := dk_42 (dk_at dksJ13_fill_0 16 rfl rfl)
theorem dJ13_fill_17 : decode cJ13_fill 17 = .ok (.iload 4, 2) := dk_21 4 (dk_at dksJ13_fill_0 17 rfl rfl)
theorem dJ13_fill_19 : decode cJ13_fill 19 = .ok (.iload_n 3, 1) := dk_29 (dk_at dksJ13_fill_0 19 rfl rfl)
theorem dJ13_fill_20 : decode cJ13_fill 20 = .ok (.bastore, 1) := dk_84 (dk_at dksJ13_fill_0 20 rfl rfl)
theorem dJ13_fill_21 : decode cJ13_fill 21 = .ok (.iinc 4 1, 3) := dk_132 4 1 (dk_at dksJ13_fill_0 21 rfl rfl)
theorem dJ13_fill_24 : decode cJ13_fill 24 = .ok (.goto (-14), 3) := dk_167 255 242 (dk_at dksJ13_fill_1 0 rfl rfl)
theorem dJ13_fill_27 : decode cJ13_fill 27 = .ok (.return_, 1) := dk_177 (dk_at dksJ13_fill_1 3 rfl rfl)
abbrev cJ13_rangeCheck : ByteArray := prog_50_method_30_code
def yJ13_rangeCheck : MethodName := ⟨RJ13, "rangeCheck", "(III)V"⟩
def dkwJ13_rangeCheck_3 : List UInt8 := [183, 0, 70, 191, 177]
abbrev dktJ13_rangeCheck_3 : List UInt8 := dkwJ13_rangeCheck_3 ++ []
def dkwJ13_rangeCheck_2 : List UInt8 := [27, 156, 0, 12, 187, 0, 68, 89, 27, 183, 0, 70, 191, 28, 26, 164, 0, 12, 187, 0, 68, 89, 28]
abbrev dktJ13_rangeCheck_2 : List UInt8 := dkwJ13_rangeCheck_2 ++ dktJ13_rangeCheck_3
def dkwJ13_rangeCheck_1 : List UInt8 := [182, 0, 54, 18, 57, 182, 0, 50, 28, 182, 0, 54, 18, 59, 182, 0, 50, 182, 0, 61, 183, 0, 65, 191]
abbrev dktJ13_rangeCheck_1 : List UInt8 := dkwJ13_rangeCheck_1 ++ dktJ13_rangeCheck_2
def dkwJ13_rangeCheck_0 : List UInt8 := [27, 28, 164, 0, 44, 187, 0, 43, 89, 187, 0, 45, 89, 183, 0, 47, 18, 48, 182, 0, 50, 27]
abbrev dktJ13_rangeCheck_0 : List UInt8 := dkwJ13_rangeCheck_0 ++ dktJ13_rangeCheck_1
theorem dksJ13_rangeCheck_0 : cJ13_rangeCheck.data.toList.drop 0 = dktJ13_rangeCheck_0 := by decide +kernel
theorem dksJ13_rangeCheck_1 : cJ13_rangeCheck.data.toList.drop 22 = dktJ13_rangeCheck_1 := dk_seg dksJ13_rangeCheck_0 22 rfl rfl
theorem dksJ13_rangeCheck_2 : cJ13_rangeCheck.data.toList.drop 46 = dktJ13_rangeCheck_2 := dk_seg dksJ13_rangeCheck_1 24 rfl rfl
theorem dksJ13_rangeCheck_3 : cJ13_rangeCheck.data.toList.drop 69 = dktJ13_rangeCheck_3 := dk_seg dksJ13_rangeCheck_2 23 rfl rfl
theorem dJ13_rangeCheck_0 : decode cJ13_rangeCheck 0 = .ok (.iload_n 1, 1) := dk_27 (dk_at dksJ13_rangeCheck_0 0 rfl rfl)
theorem dJ13_rangeCheck_1 : decode cJ13_rangeCheck 1 = .ok (.iload_n 2, 1) := dk_28 (dk_at dksJ13_rangeCheck_0 1 rfl rfl)
theorem dJ13_rangeCheck_2 : decode cJ13_rangeCheck 2 = .ok (.if_icmp .le 44, 3) := dk_164 0 44 (dk_at dksJ13_rangeCheck_0 2 rfl rfl)
theorem dJ13_rangeCheck_5 : decode cJ13_rangeCheck 5 = .ok (.new 43, 3) := dk_187 0 43 (dk_at dksJ13_rangeCheck_0 5 rfl rfl)
theorem dJ13_rangeCheck_8 : decode cJ13_rangeCheck 8 = .ok (.dup, 1) := dk_89 (dk_at dksJ13_rangeCheck_0 8 rfl rfl)
theorem dJ13_rangeCheck_9 : decode cJ13_rangeCheck 9 = .ok (.new 45, 3) := dk_187 0 45 (dk_at dksJ13_rangeCheck_0 9 rfl rfl)
theorem dJ13_rangeCheck_12 : decode cJ13_rangeCheck 12 = .ok (.dup, 1) := dk_89 (dk_at dksJ13_rangeCheck_0 12 rfl rfl)
theorem dJ13_rangeCheck_13 : decode cJ13_rangeCheck 13 = .ok (.invokespecial 47, 3) := dk_183 0 47 (dk_at dksJ13_rangeCheck_0 13 rfl rfl)
theorem dJ13_rangeCheck_16 : decode cJ13_rangeCheck 16 = .ok (.ldc 48, 2) := dk_18 48 (dk_at dksJ13_rangeCheck_0 16 rfl rfl)
theorem dJ13_rangeCheck_18 : decode cJ13_rangeCheck 18 = .ok (.invokevirtual 50, 3) := dk_182 0 50 (dk_at dksJ13_rangeCheck_0 18 rfl rfl)
theorem dJ13_rangeCheck_21 : decode cJ13_rangeCheck 21 = .ok (.iload_n 1, 1) := dk_27 (dk_at dksJ13_rangeCheck_0 21 rfl rfl)
theorem dJ13_rangeCheck_22 : decode cJ13_rangeCheck 22 = .ok (.invokevirtual 54, 3) := dk_182 0 54 (dk_at dksJ13_rangeCheck_1 0 rfl rfl)
theorem dJ13_rangeCheck_25 : decode cJ13_rangeCheck 25 = .ok (.ldc 57, 2) := dk_18 57 (dk_at dksJ13_rangeCheck_1 3 rfl rfl)
theorem dJ13_rangeCheck_27 : decode cJ13_rangeCheck 27 = .ok (.invokevirtual 50, 3) := dk_182 0 50 (dk_at dksJ13_rangeCheck_1 5 rfl rfl)
theorem dJ13_rangeCheck_30 : decode cJ13_rangeCheck 30 = .ok (.iload_n 2, 1) := dk_28 (dk_at dksJ13_rangeCheck_1 8 rfl rfl)
theorem dJ13_rangeCheck_31 : decode cJ13_rangeCheck 31 = .ok (.invokevirtual 54, 3) := dk_182 0 54 (dk_at dksJ13_rangeCheck_1 9 rfl rfl)
theorem dJ13_rangeCheck_34 : decode cJ13_rangeCheck 34 = .ok (.ldc 59, 2) := dk_18 59 (dk_at dksJ13_rangeCheck_1 12 rfl rfl)
theorem dJ13_rangeCheck_36 : decode cJ13_rangeCheck 36 = .ok (.invokevirtual 50, 3) := dk_182 0 50 (dk_at dksJ13_rangeCheck_1 14 rfl rfl)
theorem dJ13_rangeCheck_39 : decode cJ13_rangeCheck 39 = .ok (.invokevirtual 61, 3) := dk_182 0 61 (dk_at dksJ13_rangeCheck_1 17 rfl rfl)
theorem dJ13_rangeCheck_42 : decode cJ13_rangeCheck 42 = .ok (.invokespecial 65, 3) := dk_183 0 65 (dk_at dksJ13_rangeCheck_1 20 rfl rfl)
theorem dJ13_rangeCheck_45 : decode cJ13_rangeCheck 45 = .ok (.athrow, 1) := dk_191 (dk_at dksJ13_rangeCheck_1 23 rfl rfl)
theorem dJ13_rangeCheck_46 : decode cJ13_rangeCheck 46 = .ok (.iload_n 1, 1) := dk_27 (dk_at dksJ13_rangeCheck_2 0 rfl rfl)
theorem dJ13_rangeCheck_47 : decode cJ13_rangeCheck 47 = .ok (.ifCond .ge 12, 3) := dk_156 0 12 (dk_at dksJ13_rangeCheck_2 1 rfl rfl)
theorem dJ13_rangeCheck_50 : decode cJ13_rangeCheck 50 = .ok (.new 68, 3) := dk_187 0 68 (dk_at dksJ13_rangeCheck_2 4 rfl rfl)
theorem dJ13_rangeCheck_53 : decode cJ13_rangeCheck 53 = .ok (.dup, 1) := dk_89 (dk_at dksJ13_rangeCheck_2 7 rfl rfl)
theorem dJ13_rangeCheck_54 : decode cJ13_rangeCheck 54 = .ok (.iload_n 1, 1) := dk_27 (dk_at dksJ13_rangeCheck_2 8 rfl rfl)
theorem dJ13_rangeCheck_55 : decode cJ13_rangeCheck 55 = .ok (.invokespecial 70, 3) := dk_183 0 70 (dk_at dksJ13_rangeCheck_2 9 rfl rfl)
theorem dJ13_rangeCheck_58 : decode cJ13_rangeCheck 58 = .ok (.athrow, 1) := dk_191 (dk_at dksJ13_rangeCheck_2 12 rfl rfl)
theorem dJ13_rangeCheck_59 : decode cJ13_rangeCheck 59 = .ok (.iload_n 2, 1) := dk_28 (dk_at dksJ13_rangeCheck_2 13 rfl rfl)
theorem dJ13_rangeCheck_60 : decode cJ13_rangeCheck 60 = .ok (.iload_n 0, 1) := dk_26 (dk_at dksJ13_rangeCheck_2 14 rfl rfl)
theorem dJ13_rangeCheck_61 : decode cJ13_rangeCheck 61 = .ok (.if_icmp .le 12, 3) := dk_164 0 12 (dk_at dksJ13_rangeCheck_2 15 rfl rfl)
theorem dJ13_rangeCheck_64 : decode cJ13_rangeCheck 64 = .ok (.new 68, 3) := dk_187 0 68 (dk_at dksJ13_rangeCheck_2 18 rfl rfl)
theorem dJ13_rangeCheck_67 : decode cJ13_rangeCheck 67 = .ok (.dup, 1) := dk_89 (dk_at dksJ13_rangeCheck_2 21 rfl rfl)
theorem dJ13_rangeCheck_68 : decode cJ13_rangeCheck 68 = .ok (.iload_n 2, 1) := dk_28 (dk_at dksJ13_rangeCheck_2 22 rfl rfl)
theorem dJ13_rangeCheck_69 : decode cJ13_rangeCheck 69 = .ok (.invokespecial 70, 3) := dk_183 0 70 (dk_at dksJ13_rangeCheck_3 0 rfl rfl)
theorem dJ13_rangeCheck_72 : decode cJ13_rangeCheck 72 = .ok (.athrow, 1) := dk_191 (dk_at dksJ13_rangeCheck_3 3 rfl rfl)
theorem dJ13_rangeCheck_73 : decode cJ13_rangeCheck 73 = .ok (.return_, 1) := dk_177 (dk_at dksJ13_rangeCheck_3 4 rfl rfl)
theorem q93 : (Jvm.Cond.initialized "java/util/Arrays") ∈ lw_all := lw_g (lw_at lw_m1 17 rfl) rfl
theorem q439 : (Jvm.Cond.static ({ cls := "java/util/Arrays", name := "copyOf", desc := "([Ljava/lang/Object;I)[Ljava/lang/Object;" } : Jvm.MethodName)) ∈ lw_all := lw_g (lw_at lw_m2 123 rfl) rfl
theorem q440 : (Jvm.Cond.code ({ cls := "java/util/Arrays", name := "copyOf", desc := "([Ljava/lang/Object;I)[Ljava/lang/Object;" } : Jvm.MethodName) prog_50_method_119_code (2 : Nat) (Option.some (Jvm.ClassFile.FieldType.array (Jvm.ClassFile.FieldType.object "java/lang/Object")))) ∈ lw_all := lw_g (lw_at lw_m2 124 rfl) rfl
theorem q441 : (Jvm.Cond.methodLink "java/util/Arrays" (86 : Nat) ({ cls := "java/lang/Object", name := "getClass", desc := "()Ljava/lang/Class;" } : Jvm.MethodName)) ∈ lw_all := lw_g (lw_at lw_m2 125 rfl) rfl
theorem q475 : (Jvm.Cond.methodLink "java/util/Arrays" (300 : Nat) ({ cls := "java/util/Arrays", name := "copyOf", desc := "([Ljava/lang/Object;ILjava/lang/Class;)[Ljava/lang/Object;" } : Jvm.MethodName)) ∈ lw_all := lw_g (lw_at lw_m2 159 rfl) rfl
theorem q476 : (Jvm.Cond.static ({ cls := "java/util/Arrays", name := "copyOf", desc := "([Ljava/lang/Object;ILjava/lang/Class;)[Ljava/lang/Object;" } : Jvm.MethodName)) ∈ lw_all := lw_g (lw_at lw_m2 160 rfl) rfl
theorem q477 : (Jvm.Cond.code ({ cls := "java/util/Arrays", name := "copyOf", desc := "([Ljava/lang/Object;ILjava/lang/Class;)[Ljava/lang/Object;" } : Jvm.MethodName) prog_50_method_120_code (4 : Nat) (Option.some (Jvm.ClassFile.FieldType.array (Jvm.ClassFile.FieldType.object "java/lang/Object")))) ∈ lw_all := lw_g (lw_at lw_m2 161 rfl) rfl
theorem q478 : (Jvm.Cond.classLink "java/util/Arrays" (110 : Nat) "[Ljava/lang/Object;") ∈ lw_all := lw_g (lw_at lw_m2 162 rfl) rfl
theorem q479 : (Jvm.Cond.classLink "java/util/Arrays" (2 : Nat) "java/lang/Object") ∈ lw_all := lw_g (lw_at lw_m2 163 rfl) rfl
theorem q480 : (Jvm.Cond.methodLink "java/util/Arrays" (304 : Nat) ({ cls := "java/lang/Math", name := "min", desc := "(II)I" } : Jvm.MethodName)) ∈ lw_all := lw_g (lw_at lw_m2 164 rfl) rfl
theorem q483 : (Jvm.Cond.methodLink "java/util/Arrays" (150 : Nat) ({ cls := "java/lang/System", name := "arraycopy", desc := "(Ljava/lang/Object;ILjava/lang/Object;II)V" } : Jvm.MethodName)) ∈ lw_all := lw_g (lw_at lw_m2 167 rfl) rfl
theorem q1225 : (Jvm.Cond.static ({ cls := "java/util/Arrays", name := "copyOf", desc := "([BI)[B" } : Jvm.MethodName)) ∈ lw_all := lw_g (lw_at lw_m5 189 rfl) rfl
theorem q1226 : (Jvm.Cond.code ({ cls := "java/util/Arrays", name := "copyOf", desc := "([BI)[B" } : Jvm.MethodName) prog_50_method_121_code (3 : Nat) (Option.some (Jvm.ClassFile.FieldType.array Jvm.ClassFile.FieldType.byte))) ∈ lw_all := lw_g (lw_at lw_m5 190 rfl) rfl
theorem q1227 : (Jvm.Cond.methodLink "java/util/Arrays" (310 : Nat) ({ cls := "[B", name := "clone", desc := "()Ljava/lang/Object;" } : Jvm.MethodName)) ∈ lw_all := lw_g (lw_at lw_m5 191 rfl) rfl
theorem q1233 : (Jvm.Cond.classLink "java/util/Arrays" (311 : Nat) "[B") ∈ lw_all := lw_g (lw_at lw_m5 197 rfl) rfl
theorem q1330 : (Jvm.Cond.static ({ cls := "java/util/Arrays", name := "copyOfRange", desc := "([BII)[B" } : Jvm.MethodName)) ∈ lw_all := lw_g (lw_at lw_m6 54 rfl) rfl
theorem q1331 : (Jvm.Cond.code ({ cls := "java/util/Arrays", name := "copyOfRange", desc := "([BII)[B" } : Jvm.MethodName) prog_50_method_132_code (3 : Nat) (Option.some (Jvm.ClassFile.FieldType.array Jvm.ClassFile.FieldType.byte))) ∈ lw_all := lw_g (lw_at lw_m6 55 rfl) rfl
theorem q1332 : (Jvm.Cond.methodLink "java/util/Arrays" (339 : Nat) ({ cls := "java/util/Arrays", name := "copyOfRangeByte", desc := "([BII)[B" } : Jvm.MethodName)) ∈ lw_all := lw_g (lw_at lw_m6 56 rfl) rfl
theorem q1333 : (Jvm.Cond.static ({ cls := "java/util/Arrays", name := "copyOfRangeByte", desc := "([BII)[B" } : Jvm.MethodName)) ∈ lw_all := lw_g (lw_at lw_m6 57 rfl) rfl
theorem q1334 : (Jvm.Cond.code ({ cls := "java/util/Arrays", name := "copyOfRangeByte", desc := "([BII)[B" } : Jvm.MethodName) prog_50_method_133_code (5 : Nat) (Option.some (Jvm.ClassFile.FieldType.array Jvm.ClassFile.FieldType.byte))) ∈ lw_all := lw_g (lw_at lw_m6 58 rfl) rfl
theorem q1335 : (Jvm.Cond.methodLink "java/util/Arrays" (343 : Nat) ({ cls := "java/util/Arrays", name := "checkLength", desc := "(II)V" } : Jvm.MethodName)) ∈ lw_all := lw_g (lw_at lw_m6 59 rfl) rfl
theorem q1336 : (Jvm.Cond.static ({ cls := "java/util/Arrays", name := "checkLength", desc := "(II)V" } : Jvm.MethodName)) ∈ lw_all := lw_g (lw_at lw_m6 60 rfl) rfl
theorem q1337 : (Jvm.Cond.code ({ cls := "java/util/Arrays", name := "checkLength", desc := "(II)V" } : Jvm.MethodName) prog_50_method_131_code (2 : Nat) (Option.none : Option Jvm.ClassFile.FieldType)) ∈ lw_all := lw_g (lw_at lw_m6 61 rfl) rfl
theorem q1338 : (Jvm.Cond.classLink "java/util/Arrays" (43 : Nat) "java/lang/IllegalArgumentException") ∈ lw_all := lw_g (lw_at lw_m6 62 rfl) rfl
theorem q1339 : (Jvm.Cond.classLink "java/util/Arrays" (45 : Nat) "java/lang/StringBuilder") ∈ lw_all := lw_g (lw_at lw_m6 63 rfl) rfl
theorem q1340 : (Jvm.Cond.methodLink "java/util/Arrays" (47 : Nat) ({ cls := "java/lang/StringBuilder", name := "<init>", desc := "()V" } : Jvm.MethodName)) ∈ lw_all := lw_g (lw_at lw_m6 64 rfl) rfl
theorem q1341 : (Jvm.Cond.methodLink "java/util/Arrays" (54 : Nat) ({ cls := "java/lang/StringBuilder", name := "append", desc := "(I)Ljava/lang/StringBuilder;" } : Jvm.MethodName)) ∈ lw_all := lw_g (lw_at lw_m6 65 rfl) rfl
theorem q1342 : (Jvm.Cond.stringRef "java/util/Arrays" (337 : Nat) " > ") ∈ lw_tbl := lw_at lw_m6 66 rfl
theorem q1343 : (Jvm.Cond.methodLink "java/util/Arrays" (50 : Nat) ({ cls := "java/lang/StringBuilder", name := "append", desc := "(Ljava/lang/String;)Ljava/lang/StringBuilder;" } : Jvm.MethodName)) ∈ lw_all := lw_g (lw_at lw_m6 67 rfl) rfl
theorem q1344 : (Jvm.Cond.methodLink "java/util/Arrays" (61 : Nat) ({ cls := "java/lang/StringBuilder", name := "toString", desc := "()Ljava/lang/String;" } : Jvm.MethodName)) ∈ lw_all := lw_g (lw_at lw_m6 68 rfl) rfl
theorem q1345 : (Jvm.Cond.methodLink "java/util/Arrays" (65 : Nat) ({ cls := "java/lang/IllegalArgumentException", name := "<init>", desc := "(Ljava/lang/String;)V" } : Jvm.MethodName)) ∈ lw_all := lw_g (lw_at lw_m6 69 rfl) rfl
theorem q1395 : (Jvm.Cond.static ({ cls := "java/util/Arrays", name := "fill", desc := "([BIIB)V" } : Jvm.MethodName)) ∈ lw_all := lw_g (lw_at lw_m6 119 rfl) rfl
theorem q1396 : (Jvm.Cond.code ({ cls := "java/util/Arrays", name := "fill", desc := "([BIIB)V" } : Jvm.MethodName) prog_50_method_110_code (5 : Nat) (Option.none : Option Jvm.ClassFile.FieldType)) ∈ lw_all := lw_g (lw_at lw_m6 120 rfl) rfl
theorem q1397 : (Jvm.Cond.methodLink "java/util/Arrays" (13 : Nat) ({ cls := "java/util/Arrays", name := "rangeCheck", desc := "(III)V" } : Jvm.MethodName)) ∈ lw_all := lw_g (lw_at lw_m6 121 rfl) rfl
theorem q1398 : (Jvm.Cond.static ({ cls := "java/util/Arrays", name := "rangeCheck", desc := "(III)V" } : Jvm.MethodName)) ∈ lw_all := lw_g (lw_at lw_m6 122 rfl) rfl
theorem q1399 : (Jvm.Cond.code ({ cls := "java/util/Arrays", name := "rangeCheck", desc := "(III)V" } : Jvm.MethodName) prog_50_method_30_code (3 : Nat) (Option.none : Option Jvm.ClassFile.FieldType)) ∈ lw_all := lw_g (lw_at lw_m6 123 rfl) rfl
theorem q1400 : (Jvm.Cond.stringRef "java/util/Arrays" (48 : Nat) "fromIndex(") ∈ lw_tbl := lw_at lw_m6 124 rfl
theorem q1401 : (Jvm.Cond.stringRef "java/util/Arrays" (57 : Nat) ") > toIndex(") ∈ lw_tbl := lw_at lw_m6 125 rfl
theorem q1402 : (Jvm.Cond.stringRef "java/util/Arrays" (59 : Nat) ")") ∈ lw_tbl := lw_at lw_m6 126 rfl
theorem q1403 : (Jvm.Cond.classLink "java/util/Arrays" (68 : Nat) "java/lang/ArrayIndexOutOfBoundsException") ∈ lw_all := lw_g (lw_at lw_m6 127 rfl) rfl
theorem q1414 : (Jvm.Cond.methodLink "java/util/Arrays" (70 : Nat) ({ cls := "java/lang/ArrayIndexOutOfBoundsException", name := "<init>", desc := "(I)V" } : Jvm.MethodName)) ∈ lw_all := lw_g (lw_at lw_m6 138 rfl) rfl

/-! java/util/Objects -/
set_option maxRecDepth 100000
def RJ14 : String := "java/util/Objects"
abbrev cJ14_checkIndex : ByteArray := prog_60_method_17_code
def yJ14_checkIndex : MethodName := ⟨RJ14, "checkIndex", "(II)I"⟩
def dkwJ14_checkIndex_0 : List UInt8 := [26, 27, 1, 184, 0, 105, 172]
abbrev dktJ14_checkIndex_0 : List UInt8 := dkwJ14_checkIndex_0 ++ []
theorem dksJ14_checkIndex_0 : cJ14_checkIndex.data.toList.drop 0 = dktJ14_checkIndex_0 := by decide +kernel
theorem dJ14_checkIndex_0 : decode cJ14_checkIndex 0 = .ok (.iload_n 0, 1) := dk_26 (dk_at dksJ14_checkIndex_0 0 rfl rfl)
theorem dJ14_checkIndex_1 : decode cJ14_checkIndex 1 = .ok (.iload_n 1, 1) := dk_27 (dk_at dksJ14_checkIndex_0 1 rfl rfl)
theorem dJ14_checkIndex_2 : decode cJ14_checkIndex 2 = .ok (.aconst_null, 1) := dk_1 (dk_at dksJ14_checkIndex_0 2 rfl rfl)
theorem dJ14_checkIndex_3 : decode cJ14_checkIndex 3 = .ok (.invokestatic 105, 3) := dk_184 0 105 (dk_at dksJ14_checkIndex_0 3 rfl rfl)
theorem dJ14_checkIndex_6 : decode cJ14_checkIndex 6 = .ok (.ireturn, 1) := dk_172 (dk_at dksJ14_checkIndex_0 6 rfl rfl)
abbrev cJ14_requireNonNull : ByteArray := prog_60_method_10_code
def yJ14_requireNonNull : MethodName := ⟨RJ14, "requireNonNull", "(Ljava/lang/Object;)Ljava/lang/Object;"⟩
def dkwJ14_requireNonNull_0 : List UInt8 := [42, 199, 0, 11, 187, 0, 84, 89, 183, 0, 86, 191, 42, 176]
abbrev dktJ14_requireNonNull_0 : List UInt8 := dkwJ14_requireNonNull_0 ++ []
theorem dksJ14_requireNonNull_0 : cJ14_requireNonNull.data.toList.drop 0 = dktJ14_requireNonNull_0 := by decide +kernel
theorem dJ14_requireNonNull_0 : decode cJ14_requireNonNull 0 = .ok (.aload_n 0, 1) := dk_42 (dk_at dksJ14_requireNonNull_0 0 rfl rfl)
theorem dJ14_requireNonNull_1 : decode cJ14_requireNonNull 1 = .ok (.ifnonnull 11, 3) := dk_199 0 11 (dk_at dksJ14_requireNonNull_0 1 rfl rfl)
theorem dJ14_requireNonNull_4 : decode cJ14_requireNonNull 4 = .ok (.new 84, 3) := dk_187 0 84 (dk_at dksJ14_requireNonNull_0 4 rfl rfl)
theorem dJ14_requireNonNull_7 : decode cJ14_requireNonNull 7 = .ok (.dup, 1) := dk_89 (dk_at dksJ14_requireNonNull_0 7 rfl rfl)
theorem dJ14_requireNonNull_8 : decode cJ14_requireNonNull 8 = .ok (.invokespecial 86, 3) := dk_183 0 86 (dk_at dksJ14_requireNonNull_0 8 rfl rfl)
theorem dJ14_requireNonNull_11 : decode cJ14_requireNonNull 11 = .ok (.athrow, 1) := dk_191 (dk_at dksJ14_requireNonNull_0 11 rfl rfl)
theorem dJ14_requireNonNull_12 : decode cJ14_requireNonNull 12 = .ok (.aload_n 0, 1) := dk_42 (dk_at dksJ14_requireNonNull_0 12 rfl rfl)
theorem dJ14_requireNonNull_13 : decode cJ14_requireNonNull 13 = .ok (.areturn, 1) := dk_176 (dk_at dksJ14_requireNonNull_0 13 rfl rfl)
theorem q96 : (Jvm.Cond.initialized "java/util/Objects") ∈ lw_all := lw_g (lw_at lw_m1 20 rfl) rfl
theorem q521 : (Jvm.Cond.static ({ cls := "java/util/Objects", name := "checkIndex", desc := "(II)I" } : Jvm.MethodName)) ∈ lw_all := lw_g (lw_at lw_m2 205 rfl) rfl
theorem q522 : (Jvm.Cond.code ({ cls := "java/util/Objects", name := "checkIndex", desc := "(II)I" } : Jvm.MethodName) prog_60_method_17_code (2 : Nat) (Option.some Jvm.ClassFile.FieldType.int)) ∈ lw_all := lw_g (lw_at lw_m2 206 rfl) rfl
theorem q523 : (Jvm.Cond.methodLink "java/util/Objects" (105 : Nat) ({ cls := "jdk/internal/util/Preconditions", name := "checkIndex", desc := "(IILjava/util/function/BiFunction;)I" } : Jvm.MethodName)) ∈ lw_all := lw_g (lw_at lw_m2 207 rfl) rfl
theorem q914 : (Jvm.Cond.static ({ cls := "java/util/Objects", name := "requireNonNull", desc := "(Ljava/lang/Object;)Ljava/lang/Object;" } : Jvm.MethodName)) ∈ lw_all := lw_g (lw_at lw_m4 118 rfl) rfl
theorem q915 : (Jvm.Cond.code ({ cls := "java/util/Objects", name := "requireNonNull", desc := "(Ljava/lang/Object;)Ljava/lang/Object;" } : Jvm.MethodName) prog_60_method_10_code (1 : Nat) (Option.some (Jvm.ClassFile.FieldType.object "java/lang/Object"))) ∈ lw_all := lw_g (lw_at lw_m4 119 rfl) rfl

/-! jdk/internal/util/Preconditions -/
set_option maxRecDepth 100000
def RJ15 : String := "jdk/internal/util/Preconditions"
abbrev cJ15_checkIndex : ByteArray := prog_78_method_11_code
def yJ15_checkIndex : MethodName := ⟨RJ15, "checkIndex", "(IILjava/util/function/BiFunction;)I"⟩
def dkwJ15_checkIndex_0 : List UInt8 := [26, 155, 0, 8, 26, 27, 161, 0, 10, 44, 26, 27, 184, 0, 95, 191, 26, 172]
abbrev dktJ15_checkIndex_0 : List UInt8 := dkwJ15_checkIndex_0 ++ []
theorem dksJ15_checkIndex_0 : cJ15_checkIndex.data.toList.drop 0 = dktJ15_checkIndex_0 := by decide +kernel
theorem dJ15_checkIndex_0 : decode cJ15_checkIndex 0 = .ok (.iload_n 0, 1) := dk_26 (dk_at dksJ15_checkIndex_0 0 rfl rfl)
theorem dJ15_checkIndex_1 : decode cJ15_checkIndex 1 = .ok (.ifCond .lt 8, 3) := dk_155 0 8 (dk_at dksJ15_checkIndex_0 1 rfl rfl)
theorem dJ15_checkIndex_4 : decode cJ15_checkIndex 4 = .ok (.iload_n 0, 1) := dk_26 (dk_at dksJ15_checkIndex_0 4 rfl rfl)
theorem dJ15_checkIndex_5 : decode cJ15_checkIndex 5 = .ok (.iload_n 1, 1) := dk_27 (dk_at dksJ15_checkIndex_0 5 rfl rfl)
theorem dJ15_checkIndex_6 : decode cJ15_checkIndex 6 = .ok (.if_icmp .lt 10, 3) := dk_161 0 10 (dk_at dksJ15_checkIndex_0 6 rfl rfl)
theorem dJ15_checkIndex_9 : decode cJ15_checkIndex 9 = .ok (.aload_n 2, 1) := dk_44 (dk_at dksJ15_checkIndex_0 9 rfl rfl)
theorem dJ15_checkIndex_10 : decode cJ15_checkIndex 10 = .ok (.iload_n 0, 1) := dk_26 (dk_at dksJ15_checkIndex_0 10 rfl rfl)
theorem dJ15_checkIndex_11 : decode cJ15_checkIndex 11 = .ok (.iload_n 1, 1) := dk_27 (dk_at dksJ15_checkIndex_0 11 rfl rfl)
theorem dJ15_checkIndex_12 : decode cJ15_checkIndex 12 = .ok (.invokestatic 95, 3) := dk_184 0 95 (dk_at dksJ15_checkIndex_0 12 rfl rfl)
theorem dJ15_checkIndex_15 : decode cJ15_checkIndex 15 = .ok (.athrow, 1) := dk_191 (dk_at dksJ15_checkIndex_0 15 rfl rfl)
theorem dJ15_checkIndex_16 : decode cJ15_checkIndex 16 = .ok (.iload_n 0, 1) := dk_26 (dk_at dksJ15_checkIndex_0 16 rfl rfl)
theorem dJ15_checkIndex_17 : decode cJ15_checkIndex 17 = .ok (.ireturn, 1) := dk_172 (dk_at dksJ15_checkIndex_0 17 rfl rfl)
abbrev cJ15_checkFromToIndex : ByteArray := prog_78_method_12_code
def yJ15_checkFromToIndex : MethodName := ⟨RJ15, "checkFromToIndex", "(IIILjava/util/function/BiFunction;)I"⟩
def dkwJ15_checkFromToIndex_0 : List UInt8 := [26, 155, 0, 13, 26, 27, 163, 0, 8, 27, 28, 164, 0, 11, 45, 26, 27, 28, 184, 0, 99, 191, 26, 172]
abbrev dktJ15_checkFromToIndex_0 : List UInt8 := dkwJ15_checkFromToIndex_0 ++ []
theorem dksJ15_checkFromToIndex_0 : cJ15_checkFromToIndex.data.toList.drop 0 = dktJ15_checkFromToIndex_0 := by decide +kernel
theorem dJ15_checkFromToIndex_0 : decode cJ15_checkFromToIndex 0 = .ok (.iload_n 0, 1) := dk_26 (dk_at dksJ15_checkFromToIndex_0 0 rfl rfl)
theorem dJ15_checkFromToIndex_1 : decode cJ15_checkFromToIndex 1 = .ok (.ifCond .lt 13, 3) := dk_155 0 13 (dk_at dksJ15_checkFromToIndex_0 1 rfl rfl)
theorem dJ15_checkFromToIndex_4 : decode cJ15_checkFromToIndex 4 = .ok (.iload_n 0, 1) := dk_26 (dk_at dksJ15_checkFromToIndex_0 4 rfl rfl)
theorem dJ15_checkFromToIndex_5 : decode cJ15_checkFromToIndex 5 = .ok (.iload_n 1, 1) := dk_27 (dk_at dksJ15_checkFromToIndex_0 5 rfl rfl)
theorem dJ15_checkFromToIndex_6 : decode cJ15_checkFromToIndex 6 = .ok (.if_icmp .gt 8, 3) := dk_163 0 8 (dk_at dksJ15_checkFromToIndex_0 6 rfl rfl)
theorem dJ15_checkFromToIndex_9 : decode cJ15_checkFromToIndex 9 = .ok (.iload_n 1, 1) := dk_27 (dk_at dksJ15_checkFromToIndex_0 9 rfl rfl)
theorem dJ15_checkFromToIndex_10 : decode cJ15_checkFromToIndex 10 = .ok (.iload_n 2, 1) := dk_28 (dk_at dksJ15_checkFromToIndex_0 10 rfl rfl)
theorem dJ15_checkFromToIndex_11 : decode cJ15_checkFromToIndex 11 = .ok (.if_icmp .le 11, 3) := dk_164 0 11 (dk_at dksJ15_checkFromToIndex_0 11 rfl rfl)
theorem dJ15_checkFromToIndex_14 : decode cJ15_checkFromToIndex 14 = .ok (.aload_n 3, 1) := dk_45 (dk_at dksJ15_checkFromToIndex_0 14 rfl rfl)
theorem dJ15_checkFromToIndex_15 : decode cJ15_checkFromToIndex 15 = .ok (.iload_n 0, 1) := dk_26 (dk_at dksJ15_checkFromToIndex_0 15 rfl rfl)
theorem dJ15_checkFromToIndex_16 : decode cJ15_checkFromToIndex 16 = .ok (.iload_n 1, 1) := dk_27 (dk_at dksJ15_checkFromToIndex_0 16 rfl rfl)
theorem dJ15_checkFromToIndex_17 : decode cJ15_checkFromToIndex 17 = .ok (.iload_n 2, 1) := dk_28 (dk_at dksJ15_checkFromToIndex_0 17 rfl rfl)
theorem dJ15_checkFromToIndex_18 : decode cJ15_checkFromToIndex 18 = .ok (.invokestatic 99, 3) := dk_184 0 99 (dk_at dksJ15_checkFromToIndex_0 18 rfl rfl)
theorem dJ15_checkFromToIndex_21 : decode cJ15_checkFromToIndex 21 = .ok (.athrow, 1) := dk_191 (dk_at dksJ15_checkFromToIndex_0 21 rfl rfl)
theorem dJ15_checkFromToIndex_22 : decode cJ15_checkFromToIndex 22 = .ok (.iload_n 0, 1) := dk_26 (dk_at dksJ15_checkFromToIndex_0 22 rfl rfl)
theorem dJ15_checkFromToIndex_23 : decode cJ15_checkFromToIndex 23 = .ok (.ireturn, 1) := dk_172 (dk_at dksJ15_checkFromToIndex_0 23 rfl rfl)
abbrev cJ15_checkFromIndexSize : ByteArray := prog_78_method_13_code
def yJ15_checkFromIndexSize : MethodName := ⟨RJ15, "checkFromIndexSize", "(IIILjava/util/function/BiFunction;)I"⟩
def dkwJ15_checkFromIndexSize_1 : List UInt8 := [172]
abbrev dktJ15_checkFromIndexSize_1 : List UInt8 := dkwJ15_checkFromIndexSize_1 ++ []
def dkwJ15_checkFromIndexSize_0 : List UInt8 := [28, 26, 128, 27, 128, 155, 0, 10, 27, 28, 26, 100, 164, 0, 11, 45, 26, 27, 28, 184, 0, 103, 191, 26]
abbrev dktJ15_checkFromIndexSize_0 : List UInt8 := dkwJ15_checkFromIndexSize_0 ++ dktJ15_checkFromIndexSize_1
theorem dksJ15_checkFromIndexSize_0 : cJ15_checkFromIndexSize.data.toList.drop 0 = dktJ15_checkFromIndexSize_0 := by decide +kernel
theorem dksJ15_checkFromIndexSize_1 : cJ15_checkFromIndexSize.data.toList.drop 24 = dktJ15_checkFromIndexSize_1 := dk_seg dksJ15_checkFromIndexSize_0 24 rfl rfl
theorem dJ15_checkFromIndexSize_0 : decode cJ15_checkFromIndexSize 0 = .ok (.iload_n 2, 1) := dk_28 (dk_at dksJ15_checkFromIndexSize_0 0 rfl rfl)
theorem dJ15_checkFromIndexSize_1 : decode cJ15_checkFromIndexSize 1 = .ok (.iload_n 0, 1) := dk_26 (dk_at dksJ15_checkFromIndexSize_0 1 rfl rfl)
theorem dJ15_checkFromIndexSize_2 : decode cJ15_checkFromIndexSize 2 = .ok (.ior, 1) := dk_128 (dk_at dksJ15_checkFromIndexSize_0 2 rfl rfl)
theorem dJ15_checkFromIndexSize_3 : decode cJ15_checkFromIndexSize 3 = .ok (.iload_n 1, 1) := dk_27 (dk_at dksJ15_checkFromIndexSize_0 3 rfl rfl)
theorem dJ15_checkFromIndexSize_4 : decode cJ15_checkFromIndexSize 4 = .ok (.ior, 1) := dk_128 (dk_at dksJ15_checkFromIndexSize_0 4 rfl rfl)
theorem dJ15_checkFromIndexSize_5 : decode cJ15_checkFromIndexSize 5 = .ok (.ifCond .lt 10, 3) := dk_155 0 10 (dk_at dksJ15_checkFromIndexSize_0 5 rfl rfl)
theorem dJ15_checkFromIndexSize_8 : decode cJ15_checkFromIndexSize 8 = .ok (.iload_n 1, 1) := dk_27 (dk_at dksJ15_checkFromIndexSize_0 8 rfl rfl)
theorem dJ15_checkFromIndexSize_9 : decode cJ15_checkFromIndexSize 9 = .ok (.iload_n 2, 1) := dk_28 (dk_at dksJ15_checkFromIndexSize_0 9 rfl rfl)
theorem dJ15_checkFromIndexSize_10 : decode cJ15_checkFromIndexSize 10 = .ok (.iload_n 0, 1) := dk_26 (dk_at dksJ15_checkFromIndexSize_0 10 rfl rfl)
theorem dJ15_checkFromIndexSize_11 : decode cJ15_checkFromIndexSize 11 = .ok (.isub, 1) := dk_100 (dk_at dksJ15_checkFromIndexSize_0 11 rfl rfl)
theorem dJ15_checkFromIndexSize_12 : decode cJ15_checkFromIndexSize 12 = .ok (.if_icmp .le 11, 3) := dk_164 0 11 (dk_at dksJ15_checkFromIndexSize_0 12 rfl rfl)
theorem dJ15_checkFromIndexSize_15 : decode cJ15_checkFromIndexSize 15 = .ok (.aload_n 3, 1) := dk_45 (dk_at dksJ15_checkFromIndexSize_0 15 rfl rfl)
theorem dJ15_checkFromIndexSize_16 : decode cJ15_checkFromIndexSize 16 = .ok (.iload_n 0, 1) := dk_26 (dk_at dksJ15_checkFromIndexSize_0 16 rfl rfl)
theorem dJ15_checkFromIndexSize_17 : decode cJ15_checkFromIndexSize 17 = .ok (.iload_n 1, 1) := dk_27 (dk_at dksJ15_checkFromIndexSize_0 17 rfl rfl)
theorem dJ15_checkFromIndexSize_18 : decode cJ15_checkFromIndexSize 18 = .ok (.iload_n 2, 1) := dk_28 (dk_at dksJ15_checkFromIndexSize_0 18 rfl rfl)
theorem dJ15_checkFromIndexSize_19 : decode cJ15_checkFromIndexSize 19 = .ok (.invokestatic 103, 3) := dk_184 0 103 (dk_at dksJ15_checkFromIndexSize_0 19 rfl rfl)
theorem dJ15_checkFromIndexSize_22 : decode cJ15_checkFromIndexSize 22 = .ok (.athrow, 1) := dk_191 (dk_at dksJ15_checkFromIndexSize_0 22 rfl rfl)
theorem dJ15_checkFromIndexSize_23 : decode cJ15_checkFromIndexSize 23 = .ok (.iload_n 0, 1) := dk_26 (dk_at dksJ15_checkFromIndexSize_0 23 rfl rfl)
theorem dJ15_checkFromIndexSize_24 : decode cJ15_checkFromIndexSize 24 = .ok (.ireturn, 1) := dk_172 (dk_at dksJ15_checkFromIndexSize_1 0 rfl rfl)
theorem q97 : (Jvm.Cond.initialized "jdk/internal/util/Preconditions") ∈ lw_all := lw_g (lw_at lw_m1 21 rfl) rfl
theorem q524 : (Jvm.Cond.static ({ cls := "jdk/internal/util/Preconditions", name := "checkIndex", desc := "(IILjava/util/function/BiFunction;)I" } : Jvm.MethodName)) ∈ lw_all := lw_g (lw_at lw_m2 208 rfl) rfl
theorem q525 : (Jvm.Cond.code ({ cls := "jdk/internal/util/Preconditions", name := "checkIndex", desc := "(IILjava/util/function/BiFunction;)I" } : Jvm.MethodName) prog_78_method_11_code (3 : Nat) (Option.some Jvm.ClassFile.FieldType.int)) ∈ lw_all := lw_g (lw_at lw_m2 209 rfl) rfl
theorem q856 : (Jvm.Cond.laysStatic "jdk/internal/util/Preconditions" "SIOOBE_FORMATTER" "Ljava/util/function/BiFunction;") ∈ lw_tbl := lw_at lw_m4 60 rfl
theorem q858 : (Jvm.Cond.static ({ cls := "jdk/internal/util/Preconditions", name := "checkFromToIndex", desc := "(IIILjava/util/function/BiFunction;)I" } : Jvm.MethodName)) ∈ lw_all := lw_g (lw_at lw_m4 62 rfl) rfl
theorem q859 : (Jvm.Cond.code ({ cls := "jdk/internal/util/Preconditions", name := "checkFromToIndex", desc := "(IIILjava/util/function/BiFunction;)I" } : Jvm.MethodName) prog_78_method_12_code (4 : Nat) (Option.some Jvm.ClassFile.FieldType.int)) ∈ lw_all := lw_g (lw_at lw_m4 63 rfl) rfl
theorem q1276 : (Jvm.Cond.static ({ cls := "jdk/internal/util/Preconditions", name := "checkFromIndexSize", desc := "(IIILjava/util/function/BiFunction;)I" } : Jvm.MethodName)) ∈ lw_all := lw_g (lw_at lw_m6 0 rfl) rfl
theorem q1277 : (Jvm.Cond.code ({ cls := "jdk/internal/util/Preconditions", name := "checkFromIndexSize", desc := "(IIILjava/util/function/BiFunction;)I" } : Jvm.MethodName) prog_78_method_13_code (4 : Nat) (Option.some Jvm.ClassFile.FieldType.int)) ∈ lw_all := lw_g (lw_at lw_m6 1 rfl) rfl

/-! java/lang/Number -/
set_option maxRecDepth 100000
def RJ16 : String := "java/lang/Number"
abbrev cJ16_init : ByteArray := prog_31_method_1_code
def yJ16_init : MethodName := ⟨RJ16, "<init>", "()V"⟩
theorem dJ16_init_0 : decode cJ16_init 0 = .ok (.aload_n 0, 1) := by decide +kernel
theorem dJ16_init_1 : decode cJ16_init 1 = .ok (.invokespecial 1, 3) := by decide +kernel
theorem dJ16_init_4 : decode cJ16_init 4 = .ok (.return_, 1) := by decide +kernel
theorem q99 : (Jvm.Cond.initialized "java/lang/Number") ∈ lw_all := lw_g (lw_at lw_m1 23 rfl) rfl
theorem q576 : (Jvm.Cond.instanceMethod ({ cls := "java/lang/Number", name := "<init>", desc := "()V" } : Jvm.MethodName)) ∈ lw_all := lw_g (lw_at lw_m3 20 rfl) rfl
theorem q577 : (Jvm.Cond.code ({ cls := "java/lang/Number", name := "<init>", desc := "()V" } : Jvm.MethodName) prog_31_method_1_code (1 : Nat) (Option.none : Option Jvm.ClassFile.FieldType)) ∈ lw_all := lw_g (lw_at lw_m3 21 rfl) rfl
theorem q578 : (Jvm.Cond.methodLink "java/lang/Number" (1 : Nat) ({ cls := "java/lang/Object", name := "<init>", desc := "()V" } : Jvm.MethodName)) ∈ lw_all := lw_g (lw_at lw_m3 22 rfl) rfl

/-! java/lang/Integer -/
set_option maxRecDepth 100000
def RJ17 : String := "java/lang/Integer"
def TJ17 : u_T := fun k => match k with
  | _ => ("java/lang/Integer", "value", "I", true)
def tyJ17 : Nat → FieldType := fun k => match k with
  | _ => .int
abbrev wsJ170 : List Cond := u_ws RJ17 TJ17 1
theorem nmJ17 : ∀ a, a < 1 → ∀ b, b < 1 → a ≠ b → (TJ17 a).2.1 ≠ (TJ17 b).2.1 := by decide +kernel
theorem tyJ17_ok : ∀ k, k < 1 → parseFieldDescriptor (TJ17 k).2.2.1 = some (tyJ17 k) := by decide +kernel
abbrev cJ17_valueOf : ByteArray := prog_26_method_22_code
def yJ17_valueOf : MethodName := ⟨RJ17, "valueOf", "(I)Ljava/lang/Integer;"⟩
def dkwJ17_valueOf_1 : List UInt8 := [187, 0, 1, 89, 26, 183, 0, 199, 176]
abbrev dktJ17_valueOf_1 : List UInt8 := dkwJ17_valueOf_1 ++ []
def dkwJ17_valueOf_0 : List UInt8 := [26, 16, 128, 161, 0, 20, 26, 178, 0, 191, 163, 0, 13, 178, 0, 195, 26, 17, 0, 128, 96, 50, 176]
abbrev dktJ17_valueOf_0 : List UInt8 := dkwJ17_valueOf_0 ++ dktJ17_valueOf_1
theorem dksJ17_valueOf_0 : cJ17_valueOf.data.toList.drop 0 = dktJ17_valueOf_0 := by decide +kernel
theorem dksJ17_valueOf_1 : cJ17_valueOf.data.toList.drop 23 = dktJ17_valueOf_1 := dk_seg dksJ17_valueOf_0 23 rfl rfl
theorem dJ17_valueOf_0 : decode cJ17_valueOf 0 = .ok (.iload_n 0, 1) := dk_26 (dk_at dksJ17_valueOf_0 0 rfl rfl)
theorem dJ17_valueOf_1 : decode cJ17_valueOf 1 = .ok (.bipush (-128), 2) := dk_16 128 (dk_at dksJ17_valueOf_0 1 rfl rfl)
theorem dJ17_valueOf_3 : decode cJ17_valueOf 3 = .ok (.if_icmp .lt 20, 3) := dk_161 0 20 (dk_at dksJ17_valueOf_0 3 rfl rfl)
theorem dJ17_valueOf_6 : decode cJ17_valueOf 6 = .ok (.iload_n 0, 1) := dk_26 (dk_at dksJ17_valueOf_0 6 rfl rfl)
theorem dJ17_valueOf_7 : decode cJ17_valueOf 7 = .ok (.getstatic 191, 3) := dk_178 0 191 (dk_at dksJ17_valueOf_0 7 rfl rfl)
theorem dJ17_valueOf_10 : decode cJ17_valueOf 10 = .ok (.if_icmp .gt 13, 3) := dk_163 0 13 (dk_at dksJ17_valueOf_0 10 rfl rfl)
theorem dJ17_valueOf_13 : decode cJ17_valueOf 13 = .ok (.getstatic 195, 3) := dk_178 0 195 (dk_at dksJ17_valueOf_0 13 rfl rfl)
theorem dJ17_valueOf_16 : decode cJ17_valueOf 16 = .ok (.iload_n 0, 1) := dk_26 (dk_at dksJ17_valueOf_0 16 rfl rfl)
theorem dJ17_valueOf_17 : decode cJ17_valueOf 17 = .ok (.sipush 128, 3) := dk_17 0 128 (dk_at dksJ17_valueOf_0 17 rfl rfl)
theorem dJ17_valueOf_20 : decode cJ17_valueOf 20 = .ok (.iadd, 1) := dk_96 (dk_at dksJ17_valueOf_0 20 rfl rfl)
theorem dJ17_valueOf_21 : decode cJ17_valueOf 21 = .ok (.aaload, 1) := dk_50 (dk_at dksJ17_valueOf_0 21 rfl rfl)
theorem dJ17_valueOf_22 : decode cJ17_valueOf 22 = .ok (.areturn, 1) := dk_176 (dk_at dksJ17_valueOf_0 22 rfl rfl)
theorem dJ17_valueOf_23 : decode cJ17_valueOf 23 = .ok (.new 1, 3) := dk_187 0 1 (dk_at dksJ17_valueOf_1 0 rfl rfl)
theorem dJ17_valueOf_26 : decode cJ17_valueOf 26 = .ok (.dup, 1) := dk_89 (dk_at dksJ17_valueOf_1 3 rfl rfl)
theorem dJ17_valueOf_27 : decode cJ17_valueOf 27 = .ok (.iload_n 0, 1) := dk_26 (dk_at dksJ17_valueOf_1 4 rfl rfl)
theorem dJ17_valueOf_28 : decode cJ17_valueOf 28 = .ok (.invokespecial 199, 3) := dk_183 0 199 (dk_at dksJ17_valueOf_1 5 rfl rfl)
theorem dJ17_valueOf_31 : decode cJ17_valueOf 31 = .ok (.areturn, 1) := dk_176 (dk_at dksJ17_valueOf_1 8 rfl rfl)
abbrev cJ17_init : ByteArray := prog_26_method_23_code
def yJ17_init : MethodName := ⟨RJ17, "<init>", "(I)V"⟩
def dkwJ17_init_0 : List UInt8 := [42, 183, 0, 202, 42, 27, 181, 0, 205, 177]
abbrev dktJ17_init_0 : List UInt8 := dkwJ17_init_0 ++ []
theorem dksJ17_init_0 : cJ17_init.data.toList.drop 0 = dktJ17_init_0 := by decide +kernel
theorem dJ17_init_0 : decode cJ17_init 0 = .ok (.aload_n 0, 1) := dk_42 (dk_at dksJ17_init_0 0 rfl rfl)
theorem dJ17_init_1 : decode cJ17_init 1 = .ok (.invokespecial 202, 3) := dk_183 0 202 (dk_at dksJ17_init_0 1 rfl rfl)
theorem dJ17_init_4 : decode cJ17_init 4 = .ok (.aload_n 0, 1) := dk_42 (dk_at dksJ17_init_0 4 rfl rfl)
theorem dJ17_init_5 : decode cJ17_init 5 = .ok (.iload_n 1, 1) := dk_27 (dk_at dksJ17_init_0 5 rfl rfl)
theorem dJ17_init_6 : decode cJ17_init 6 = .ok (.putfield 205, 3) := dk_181 0 205 (dk_at dksJ17_init_0 6 rfl rfl)
theorem dJ17_init_9 : decode cJ17_init 9 = .ok (.return_, 1) := dk_177 (dk_at dksJ17_init_0 9 rfl rfl)
abbrev cJ17_compare : ByteArray := prog_26_method_40_code
def yJ17_compare : MethodName := ⟨RJ17, "compare", "(II)I"⟩
def dkwJ17_compare_0 : List UInt8 := [26, 27, 162, 0, 7, 2, 167, 0, 13, 26, 27, 160, 0, 7, 3, 167, 0, 4, 4, 172]
abbrev dktJ17_compare_0 : List UInt8 := dkwJ17_compare_0 ++ []
theorem dksJ17_compare_0 : cJ17_compare.data.toList.drop 0 = dktJ17_compare_0 := by decide +kernel
theorem dJ17_compare_0 : decode cJ17_compare 0 = .ok (.iload_n 0, 1) := dk_26 (dk_at dksJ17_compare_0 0 rfl rfl)
theorem dJ17_compare_1 : decode cJ17_compare 1 = .ok (.iload_n 1, 1) := dk_27 (dk_at dksJ17_compare_0 1 rfl rfl)
theorem dJ17_compare_2 : decode cJ17_compare 2 = .ok (.if_icmp .ge 7, 3) := dk_162 0 7 (dk_at dksJ17_compare_0 2 rfl rfl)
theorem dJ17_compare_5 : decode cJ17_compare 5 = .ok (.iconst (-1), 1) := dk_2 (dk_at dksJ17_compare_0 5 rfl rfl)
theorem dJ17_compare_6 : decode cJ17_compare 6 = .ok (.goto 13, 3) := dk_167 0 13 (dk_at dksJ17_compare_0 6 rfl rfl)
theorem dJ17_compare_9 : decode cJ17_compare 9 = .ok (.iload_n 0, 1) := dk_26 (dk_at dksJ17_compare_0 9 rfl rfl)
theorem dJ17_compare_10 : decode cJ17_compare 10 = .ok (.iload_n 1, 1) := dk_27 (dk_at dksJ17_compare_0 10 rfl rfl)
theorem dJ17_compare_11 : decode cJ17_compare 11 = .ok (.if_icmp .ne 7, 3) := dk_160 0 7 (dk_at dksJ17_compare_0 11 rfl rfl)
theorem dJ17_compare_14 : decode cJ17_compare 14 = .ok (.iconst 0, 1) := dk_3 (dk_at dksJ17_compare_0 14 rfl rfl)
theorem dJ17_compare_15 : decode cJ17_compare 15 = .ok (.goto 4, 3) := dk_167 0 4 (dk_at dksJ17_compare_0 15 rfl rfl)
theorem dJ17_compare_18 : decode cJ17_compare 18 = .ok (.iconst 1, 1) := dk_4 (dk_at dksJ17_compare_0 18 rfl rfl)
theorem dJ17_compare_19 : decode cJ17_compare 19 = .ok (.ireturn, 1) := dk_172 (dk_at dksJ17_compare_0 19 rfl rfl)
abbrev cJ17_compareTo : ByteArray := prog_26_method_63_code
def yJ17_compareTo : MethodName := ⟨RJ17, "compareTo", "(Ljava/lang/Object;)I"⟩
def dkwJ17_compareTo_0 : List UInt8 := [42, 43, 192, 0, 1, 182, 1, 28, 172]
abbrev dktJ17_compareTo_0 : List UInt8 := dkwJ17_compareTo_0 ++ []
theorem dksJ17_compareTo_0 : cJ17_compareTo.data.toList.drop 0 = dktJ17_compareTo_0 := by decide +kernel
theorem dJ17_compareTo_0 : decode cJ17_compareTo 0 = .ok (.aload_n 0, 1) := dk_42 (dk_at dksJ17_compareTo_0 0 rfl rfl)
theorem dJ17_compareTo_1 : decode cJ17_compareTo 1 = .ok (.aload_n 1, 1) := dk_43 (dk_at dksJ17_compareTo_0 1 rfl rfl)
theorem dJ17_compareTo_2 : decode cJ17_compareTo 2 = .ok (.checkcast 1, 3) := dk_192 0 1 (dk_at dksJ17_compareTo_0 2 rfl rfl)
theorem dJ17_compareTo_5 : decode cJ17_compareTo 5 = .ok (.invokevirtual 284, 3) := dk_182 1 28 (dk_at dksJ17_compareTo_0 5 rfl rfl)
theorem dJ17_compareTo_8 : decode cJ17_compareTo 8 = .ok (.ireturn, 1) := dk_172 (dk_at dksJ17_compareTo_0 8 rfl rfl)
abbrev cJ17_compareTo_2 : ByteArray := prog_26_method_39_code
def yJ17_compareTo_2 : MethodName := ⟨RJ17, "compareTo", "(Ljava/lang/Integer;)I"⟩
def dkwJ17_compareTo_2_0 : List UInt8 := [42, 180, 0, 205, 43, 180, 0, 205, 184, 1, 3, 172]
abbrev dktJ17_compareTo_2_0 : List UInt8 := dkwJ17_compareTo_2_0 ++ []
theorem dksJ17_compareTo_2_0 : cJ17_compareTo_2.data.toList.drop 0 = dktJ17_compareTo_2_0 := by decide +kernel
theorem dJ17_compareTo_2_0 : decode cJ17_compareTo_2 0 = .ok (.aload_n 0, 1) := dk_42 (dk_at dksJ17_compareTo_2_0 0 rfl rfl)
theorem dJ17_compareTo_2_1 : decode cJ17_compareTo_2 1 = .ok (.getfield 205, 3) := dk_180 0 205 (dk_at dksJ17_compareTo_2_0 1 rfl rfl)
theorem dJ17_compareTo_2_4 : decode cJ17_compareTo_2 4 = .ok (.aload_n 1, 1) := dk_43 (dk_at dksJ17_compareTo_2_0 4 rfl rfl)
theorem dJ17_compareTo_2_5 : decode cJ17_compareTo_2 5 = .ok (.getfield 205, 3) := dk_180 0 205 (dk_at dksJ17_compareTo_2_0 5 rfl rfl)
theorem dJ17_compareTo_2_8 : decode cJ17_compareTo_2 8 = .ok (.invokestatic 259, 3) := dk_184 1 3 (dk_at dksJ17_compareTo_2_0 8 rfl rfl)
theorem dJ17_compareTo_2_11 : decode cJ17_compareTo_2 11 = .ok (.ireturn, 1) := dk_172 (dk_at dksJ17_compareTo_2_0 11 rfl rfl)
abbrev cJ17_numberOfLeadingZeros : ByteArray := prog_26_method_47_code
def yJ17_numberOfLeadingZeros : MethodName := ⟨RJ17, "numberOfLeadingZeros", "(I)I"⟩
def dkwJ17_numberOfLeadingZeros_3 : List UInt8 := [5, 124, 59, 27, 26, 4, 124, 100, 172]
abbrev dktJ17_numberOfLeadingZeros_3 : List UInt8 := dkwJ17_numberOfLeadingZeros_3 ++ []
def dkwJ17_numberOfLeadingZeros_2 : List UInt8 := [124, 59, 26, 16, 16, 161, 0, 10, 132, 1, 252, 26, 7, 124, 59, 26, 7, 161, 0, 10, 132, 1, 254, 26]
abbrev dktJ17_numberOfLeadingZeros_2 : List UInt8 := dkwJ17_numberOfLeadingZeros_2 ++ dktJ17_numberOfLeadingZeros_3
def dkwJ17_numberOfLeadingZeros_1 : List UInt8 := [161, 0, 11, 132, 1, 240, 26, 16, 16, 124, 59, 26, 17, 1, 0, 161, 0, 11, 132, 1, 248, 26, 16, 8]
abbrev dktJ17_numberOfLeadingZeros_1 : List UInt8 := dkwJ17_numberOfLeadingZeros_1 ++ dktJ17_numberOfLeadingZeros_2
def dkwJ17_numberOfLeadingZeros_0 : List UInt8 := [26, 157, 0, 14, 26, 154, 0, 8, 16, 32, 167, 0, 4, 3, 172, 16, 31, 60, 26, 19, 1, 8]
abbrev dktJ17_numberOfLeadingZeros_0 : List UInt8 := dkwJ17_numberOfLeadingZeros_0 ++ dktJ17_numberOfLeadingZeros_1
theorem dksJ17_numberOfLeadingZeros_0 : cJ17_numberOfLeadingZeros.data.toList.drop 0 = dktJ17_numberOfLeadingZeros_0 := by decide +kernel
theorem dksJ17_numberOfLeadingZeros_1 : cJ17_numberOfLeadingZeros.data.toList.drop 22 = dktJ17_numberOfLeadingZeros_1 := dk_seg dksJ17_numberOfLeadingZeros_0 22 rfl rfl
theorem dksJ17_numberOfLeadingZeros_2 : cJ17_numberOfLeadingZeros.data.toList.drop 46 = dktJ17_numberOfLeadingZeros_2 := dk_seg dksJ17_numberOfLeadingZeros_1 24 rfl rfl
theorem dksJ17_numberOfLeadingZeros_3 : cJ17_numberOfLeadingZeros.data.toList.drop 70 = dktJ17_numberOfLeadingZeros_3 := dk_seg dksJ17_numberOfLeadingZeros_2 24 rfl rfl
theorem dJ17_numberOfLeadingZeros_0 : decode cJ17_numberOfLeadingZeros 0 = .ok (.iload_n 0, 1) := dk_26 (dk_at dksJ17_numberOfLeadingZeros_0 0 rfl rfl)
theorem dJ17_numberOfLeadingZeros_1 : decode cJ17_numberOfLeadingZeros 1 = .ok (.ifCond .gt 14, 3) := dk_157 0 14 (dk_at dksJ17_numberOfLeadingZeros_0 1 rfl rfl)
theorem dJ17_numberOfLeadingZeros_4 : decode cJ17_numberOfLeadingZeros 4 = .ok (.iload_n 0, 1) := dk_26 (dk_at dksJ17_numberOfLeadingZeros_0 4 rfl rfl)
theorem dJ17_numberOfLeadingZeros_5 : decode cJ17_numberOfLeadingZeros 5 = .ok (.ifCond .ne 8, 3) := dk_154 0 8 (dk_at dksJ17_numberOfLeadingZeros_0 5 rfl rfl)
theorem dJ17_numberOfLeadingZeros_8 : decode cJ17_numberOfLeadingZeros 8 = .ok (.bipush 32, 2) := dk_16 32 (dk_at dksJ17_numberOfLeadingZeros_0 8 rfl rfl)
theorem dJ17_numberOfLeadingZeros_10 : decode cJ17_numberOfLeadingZeros 10 = .ok (.goto 4, 3) := dk_167 0 4 (dk_at dksJ17_numberOfLeadingZeros_0 10 rfl rfl)
theorem dJ17_numberOfLeadingZeros_13 : decode cJ17_numberOfLeadingZeros 13 = .ok (.iconst 0, 1) := dk_3 (dk_at dksJ17_numberOfLeadingZeros_0 13 rfl rfl)
theorem dJ17_numberOfLeadingZeros_14 : decode cJ17_numberOfLeadingZeros 14 = .ok (.ireturn, 1) := dk_172 (dk_at dksJ17_numberOfLeadingZeros_0 14 rfl rfl)
theorem dJ17_numberOfLeadingZeros_15 : decode cJ17_numberOfLeadingZeros 15 = .ok (.bipush 31, 2) := dk_16 31 (dk_at dksJ17_numberOfLeadingZeros_0 15 rfl rfl)
theorem dJ17_numberOfLeadingZeros_17 : decode cJ17_numberOfLeadingZeros 17 = .ok (.istore_n 1, 1) := dk_60 (dk_at dksJ17_numberOfLeadingZeros_0 17 rfl rfl)
theorem dJ17_numberOfLeadingZeros_18 : decode cJ17_numberOfLeadingZeros 18 = .ok (.iload_n 0, 1) := dk_26 (dk_at dksJ17_numberOfLeadingZeros_0 18 rfl rfl)
theorem dJ17_numberOfLeadingZeros_19 : decode cJ17_numberOfLeadingZeros 19 = .ok (.ldc_w 264, 3) := dk_19 1 8 (dk_at dksJ17_numberOfLeadingZeros_0 19 rfl rfl)
theorem dJ17_numberOfLeadingZeros_22 : decode cJ17_numberOfLeadingZeros 22 = .ok (.if_icmp .lt 11, 3) := dk_161 0 11 (dk_at dksJ17_numberOfLeadingZeros_1 0 rfl rfl)
theorem dJ17_numberOfLeadingZeros_25 : decode cJ17_numberOfLeadingZeros 25 = .ok (.iinc 1 (-16), 3) := dk_132 1 240 (dk_at dksJ17_numberOfLeadingZeros_1 3 rfl rfl)
theorem dJ17_numberOfLeadingZeros_28 : decode cJ17_numberOfLeadingZeros 28 = .ok (.iload_n 0, 1) := dk_26 (dk_at dksJ17_numberOfLeadingZeros_1 6 rfl rfl)
theorem dJ17_numberOfLeadingZeros_29 : decode cJ17_numberOfLeadingZeros 29 = .ok (.bipush 16, 2) := dk_16 16 (dk_at dksJ17_numberOfLeadingZeros_1 7 rfl rfl)
theorem dJ17_numberOfLeadingZeros_31 : decode cJ17_numberOfLeadingZeros 31 = .ok (.iushr, 1) := dk_124 (dk_at dksJ17_numberOfLeadingZeros_1 9 rfl rfl)
theorem dJ17_numberOfLeadingZeros_32 : decode cJ17_numberOfLeadingZeros 32 = .ok (.istore_n 0, 1) := dk_59 (dk_at dksJ17_numberOfLeadingZeros_1 10 rfl rfl)
theorem dJ17_numberOfLeadingZeros_33 : decode cJ17_numberOfLeadingZeros 33 = .ok (.iload_n 0, 1) := dk_26 (dk_at dksJ17_numberOfLeadingZeros_1 11 rfl rfl)
theorem dJ17_numberOfLeadingZeros_34 : decode cJ17_numberOfLeadingZeros 34 = .ok (.sipush 256, 3) := dk_17 1 0 (dk_at dksJ17_numberOfLeadingZeros_1 12 rfl rfl)
theorem dJ17_numberOfLeadingZeros_37 : decode cJ17_numberOfLeadingZeros 37 = .ok (.if_icmp .lt 11, 3) := dk_161 0 11 (dk_at dksJ17_numberOfLeadingZeros_1 15 rfl rfl)
theorem dJ17_numberOfLeadingZeros_40 : decode cJ17_numberOfLeadingZeros 40 = .ok (.iinc 1 (-8), 3) := dk_132 1 248 (dk_at dksJ17_numberOfLeadingZeros_1 18 rfl rfl)
theorem dJ17_numberOfLeadingZeros_43 : decode cJ17_numberOfLeadingZeros 43 = .ok (.iload_n 0, 1) := dk_26 (dk_at dksJ17_numberOfLeadingZeros_1 21 rfl rfl)
theorem dJ17_numberOfLeadingZeros_44 : decode cJ17_numberOfLeadingZeros 44 = .ok (.bipush 8, 2) := dk_16 8 (dk_at dksJ17_numberOfLeadingZeros_1 22 rfl rfl)
theorem dJ17_numberOfLeadingZeros_46 : decode cJ17_numberOfLeadingZeros 46 = .ok (.iushr, 1) := dk_124 (dk_at dksJ17_numberOfLeadingZeros_2 0 rfl rfl)
theorem dJ17_numberOfLeadingZeros_47 : decode cJ17_numberOfLeadingZeros 47 = .ok (.istore_n 0, 1) := dk_59 (dk_at dksJ17_numberOfLeadingZeros_2 1 rfl rfl)
theorem dJ17_numberOfLeadingZeros_48 : decode cJ17_numberOfLeadingZeros 48 = .ok (.iload_n 0, 1) := dk_26 (dk_at dksJ17_numberOfLeadingZeros_2 2 rfl rfl)
theorem dJ17_numberOfLeadingZeros_49 : decode cJ17_numberOfLeadingZeros 49 = .ok (.bipush 16, 2) := dk_16 16 (dk_at dksJ17_numberOfLeadingZeros_2 3 rfl rfl)
theorem dJ17_numberOfLeadingZeros_51 : decode cJ17_numberOfLeadingZeros 51 = .ok (.if_icmp .lt 10, 3) := dk_161 0 10 (dk_at dksJ17_numberOfLeadingZeros_2 5 rfl rfl)
theorem dJ17_numberOfLeadingZeros_54 : decode cJ17_numberOfLeadingZeros 54 = .ok (.iinc 1 (-4), 3) := dk_132 1 252 (dk_at dksJ17_numberOfLeadingZeros_2 8 rfl rfl)
theorem dJ17_numberOfLeadingZeros_57 : decode cJ17_numberOfLeadingZeros 57 = .ok (.iload_n 0, 1) := dk_26 (dk_at dksJ17_numberOfLeadingZeros_2 11 rfl rfl)
theorem dJ17_numberOfLeadingZeros_58 : decode cJ17_numberOfLeadingZeros 58 = .ok (.iconst 4, 1) := dk_7 (dk_at dksJ17_numberOfLeadingZeros_2 12 rfl rfl)
theorem dJ17_numberOfLeadingZeros_59 : decode cJ17_numberOfLeadingZeros 59 = .ok (.iushr, 1) := dk_124 (dk_at dksJ17_numberOfLeadingZeros_2 13 rfl rfl)
theorem dJ17_numberOfLeadingZeros_60 : decode cJ17_numberOfLeadingZeros 60 = .ok (.istore_n 0, 1) := dk_59 (dk_at dksJ17_numberOfLeadingZeros_2 14 rfl rfl)
theorem dJ17_numberOfLeadingZeros_61 : decode cJ17_numberOfLeadingZeros 61 = .ok (.iload_n 0, 1) := dk_26 (dk_at dksJ17_numberOfLeadingZeros_2 15 rfl rfl)
theorem dJ17_numberOfLeadingZeros_62 : decode cJ17_numberOfLeadingZeros 62 = .ok (.iconst 4, 1) := dk_7 (dk_at dksJ17_numberOfLeadingZeros_2 16 rfl rfl)
theorem dJ17_numberOfLeadingZeros_63 : decode cJ17_numberOfLeadingZeros 63 = .ok (.if_icmp .lt 10, 3) := dk_161 0 10 (dk_at dksJ17_numberOfLeadingZeros_2 17 rfl rfl)
theorem dJ17_numberOfLeadingZeros_66 : decode cJ17_numberOfLeadingZeros 66 = .ok (.iinc 1 (-2), 3) := dk_132 1 254 (dk_at dksJ17_numberOfLeadingZeros_2 20 rfl rfl)
theorem dJ17_numberOfLeadingZeros_69 : decode cJ17_numberOfLeadingZeros 69 = .ok (.iload_n 0, 1) := dk_26 (dk_at dksJ17_numberOfLeadingZeros_2 23 rfl rfl)
theorem dJ17_numberOfLeadingZeros_70 : decode cJ17_numberOfLeadingZeros 70 = .ok (.iconst 2, 1) := dk_5 (dk_at dksJ17_numberOfLeadingZeros_3 0 rfl rfl)
theorem dJ17_numberOfLeadingZeros_71 : decode cJ17_numberOfLeadingZeros 71 = .ok (.iushr, 1) := dk_124 (dk_at dksJ17_numberOfLeadingZeros_3 1 rfl rfl)
theorem dJ17_numberOfLeadingZeros_72 : decode cJ17_numberOfLeadingZeros 72 = .ok (.istore_n 0, 1) := dk_59 (dk_at dksJ17_numberOfLeadingZeros_3 2 rfl rfl)
theorem dJ17_numberOfLeadingZeros_73 : decode cJ17_numberOfLeadingZeros 73 = .ok (.iload_n 1, 1) := dk_27 (dk_at dksJ17_numberOfLeadingZeros_3 3 rfl rfl)
theorem dJ17_numberOfLeadingZeros_74 : decode cJ17_numberOfLeadingZeros 74 = .ok (.iload_n 0, 1) := dk_26 (dk_at dksJ17_numberOfLeadingZeros_3 4 rfl rfl)
theorem dJ17_numberOfLeadingZeros_75 : decode cJ17_numberOfLeadingZeros 75 = .ok (.iconst 1, 1) := dk_4 (dk_at dksJ17_numberOfLeadingZeros_3 5 rfl rfl)
theorem dJ17_numberOfLeadingZeros_76 : decode cJ17_numberOfLeadingZeros 76 = .ok (.iushr, 1) := dk_124 (dk_at dksJ17_numberOfLeadingZeros_3 6 rfl rfl)
theorem dJ17_numberOfLeadingZeros_77 : decode cJ17_numberOfLeadingZeros 77 = .ok (.isub, 1) := dk_100 (dk_at dksJ17_numberOfLeadingZeros_3 7 rfl rfl)
theorem dJ17_numberOfLeadingZeros_78 : decode cJ17_numberOfLeadingZeros 78 = .ok (.ireturn, 1) := dk_172 (dk_at dksJ17_numberOfLeadingZeros_3 8 rfl rfl)
abbrev cJ17_numberOfTrailingZeros : ByteArray := prog_26_method_48_code
def yJ17_numberOfTrailingZeros : MethodName := ⟨RJ17, "numberOfTrailingZeros", "(I)I"⟩
def dkwJ17_numberOfTrailingZeros_3 : List UInt8 := [5, 124, 59, 27, 26, 4, 124, 96, 172]
abbrev dktJ17_numberOfTrailingZeros_3 : List UInt8 := dkwJ17_numberOfTrailingZeros_3 ++ []
def dkwJ17_numberOfTrailingZeros_2 : List UInt8 := [124, 59, 26, 16, 16, 164, 0, 10, 132, 1, 4, 26, 7, 124, 59, 26, 7, 164, 0, 10, 132, 1, 2, 26]
abbrev dktJ17_numberOfTrailingZeros_2 : List UInt8 := dkwJ17_numberOfTrailingZeros_2 ++ dktJ17_numberOfTrailingZeros_3
def dkwJ17_numberOfTrailingZeros_1 : List UInt8 := [164, 0, 11, 132, 1, 16, 26, 16, 16, 124, 59, 26, 17, 1, 0, 164, 0, 11, 132, 1, 8, 26, 16, 8]
abbrev dktJ17_numberOfTrailingZeros_1 : List UInt8 := dkwJ17_numberOfTrailingZeros_1 ++ dktJ17_numberOfTrailingZeros_2
def dkwJ17_numberOfTrailingZeros_0 : List UInt8 := [26, 2, 130, 26, 4, 100, 126, 59, 26, 157, 0, 8, 26, 16, 32, 126, 172, 4, 60, 26, 19, 1, 8]
abbrev dktJ17_numberOfTrailingZeros_0 : List UInt8 := dkwJ17_numberOfTrailingZeros_0 ++ dktJ17_numberOfTrailingZeros_1
theorem dksJ17_numberOfTrailingZeros_0 : cJ17_numberOfTrailingZeros.data.toList.drop 0 = dktJ17_numberOfTrailingZeros_0 := by decide +kernel
theorem dksJ17_numberOfTrailingZeros_1 : cJ17_numberOfTrailingZeros.data.toList.drop 23 = dktJ17_numberOfTrailingZeros_1 := dk_seg dksJ17_numberOfTrailingZeros_0 23 rfl rfl
theorem dksJ17_numberOfTrailingZeros_2 : cJ17_numberOfTrailingZeros.data.toList.drop 47 = dktJ17_numberOfTrailingZeros_2 := dk_seg dksJ17_numberOfTrailingZeros_1 24 rfl rfl
theorem dksJ17_numberOfTrailingZeros_3 : cJ17_numberOfTrailingZeros.data.toList.drop 71 = dktJ17_numberOfTrailingZeros_3 := dk_seg dksJ17_numberOfTrailingZeros_2 24 rfl rfl
theorem dJ17_numberOfTrailingZeros_0 : decode cJ17_numberOfTrailingZeros 0 = .ok (.iload_n 0, 1) := dk_26 (dk_at dksJ17_numberOfTrailingZeros_0 0 rfl rfl)
theorem dJ17_numberOfTrailingZeros_1 : decode cJ17_numberOfTrailingZeros 1 = .ok (.iconst (-1), 1) := dk_2 (dk_at dksJ17_numberOfTrailingZeros_0 1 rfl rfl)
theorem dJ17_numberOfTrailingZeros_2 : decode cJ17_numberOfTrailingZeros 2 = .ok (.ixor, 1) := dk_130 (dk_at dksJ17_numberOfTrailingZeros_0 2 rfl rfl)
theorem dJ17_numberOfTrailingZeros_3 : decode cJ17_numberOfTrailingZeros 3 = .ok (.iload_n 0, 1) := dk_26 (dk_at dksJ17_numberOfTrailingZeros_0 3 rfl rfl)
theorem dJ17_numberOfTrailingZeros_4 : decode cJ17_numberOfTrailingZeros 4 = .ok (.iconst 1, 1) := dk_4 (dk_at dksJ17_numberOfTrailingZeros_0 4 rfl rfl)
theorem dJ17_numberOfTrailingZeros_5 : decode cJ17_numberOfTrailingZeros 5 = .ok (.isub, 1) := dk_100 (dk_at dksJ17_numberOfTrailingZeros_0 5 rfl rfl)
theorem dJ17_numberOfTrailingZeros_6 : decode cJ17_numberOfTrailingZeros 6 = .ok (.iand, 1) := dk_126 (dk_at dksJ17_numberOfTrailingZeros_0 6 rfl rfl)
theorem dJ17_numberOfTrailingZeros_7 : decode cJ17_numberOfTrailingZeros 7 = .ok (.istore_n 0, 1) := dk_59 (dk_at dksJ17_numberOfTrailingZeros_0 7 rfl rfl)
theorem dJ17_numberOfTrailingZeros_8 : decode cJ17_numberOfTrailingZeros 8 = .ok (.iload_n 0, 1) := dk_26 (dk_at dksJ17_numberOfTrailingZeros_0 8 rfl rfl)
theorem dJ17_numberOfTrailingZeros_9 : decode cJ17_numberOfTrailingZeros 9 = .ok (.ifCond .gt 8, 3) := dk_157 0 8 (dk_at dksJ17_numberOfTrailingZeros_0 9 rfl rfl)
theorem dJ17_numberOfTrailingZeros_12 : decode cJ17_numberOfTrailingZeros 12 = .ok (.iload_n 0, 1) := dk_26 (dk_at dksJ17_numberOfTrailingZeros_0 12 rfl rfl)
theorem dJ17_numberOfTrailingZeros_13 : decode cJ17_numberOfTrailingZeros 13 = .ok (.bipush 32, 2) := dk_16 32 (dk_at dksJ17_numberOfTrailingZeros_0 13 rfl rfl)
theorem dJ17_numberOfTrailingZeros_15 : decode cJ17_numberOfTrailingZeros 15 = .ok (.iand, 1) := dk_126 (dk_at dksJ17_numberOfTrailingZeros_0 15 rfl rfl)
theorem dJ17_numberOfTrailingZeros_16 : decode cJ17_numberOfTrailingZeros 16 = .ok (.ireturn, 1) := dk_172 (dk_at dksJ17_numberOfTrailingZeros_0 16 rfl rfl)
theorem dJ17_numberOfTrailingZeros_17 : decode cJ17_numberOfTrailingZeros 17 = .ok (.iconst 1, 1) := dk_4 (dk_at dksJ17_numberOfTrailingZeros_0 17 rfl rfl)
theorem dJ17_numberOfTrailingZeros_18 : decode cJ17_numberOfTrailingZeros 18 = .ok (.istore_n 1, 1) := dk_60 (dk_at dksJ17_numberOfTrailingZeros_0 18 rfl rfl)
theorem dJ17_numberOfTrailingZeros_19 : decode cJ17_numberOfTrailingZeros 19 = .ok (.iload_n 0, 1) := dk_26 (dk_at dksJ17_numberOfTrailingZeros_0 19 rfl rfl)
theorem dJ17_numberOfTrailingZeros_20 : decode cJ17_numberOfTrailingZeros 20 = .ok (.ldc_w 264, 3) := dk_19 1 8 (dk_at dksJ17_numberOfTrailingZeros_0 20 rfl rfl)
theorem dJ17_numberOfTrailingZeros_23 : decode cJ17_numberOfTrailingZeros 23 = .ok (.if_icmp .le 11, 3) := dk_164 0 11 (dk_at dksJ17_numberOfTrailingZeros_1 0 rfl rfl)
theorem dJ17_numberOfTrailingZeros_26 : decode cJ17_numberOfTrailingZeros 26 = .ok (.iinc 1 16, 3) := dk_132 1 16 (dk_at dksJ17_numberOfTrailingZeros_1 3 rfl rfl)
theorem dJ17_numberOfTrailingZeros_29 : decode cJ17_numberOfTrailingZeros 29 = .ok (.iload_n 0, 1) := dk_26 (dk_at dksJ17_numberOfTrailingZeros_1 6 rfl rfl)
theorem dJ17_numberOfTrailingZeros_30 : decode cJ17_numberOfTrailingZeros 30 = .ok (.bipush 16, 2) := dk_16 16 (dk_at dksJ17_numberOfTrailingZeros_1 7 rfl rfl)
theorem dJ17_numberOfTrailingZeros_32 : decode cJ17_numberOfTrailingZeros 32 = .ok (.iushr, 1) := dk_124 (dk_at dksJ17_numberOfTrailingZeros_1 9 rfl rfl)
theorem dJ17_numberOfTrailingZeros_33 : decode cJ17_numberOfTrailingZeros 33 = .ok (.istore_n 0, 1) := dk_59 (dk_at dksJ17_numberOfTrailingZeros_1 10 rfl rfl)
theorem dJ17_numberOfTrailingZeros_34 : decode cJ17_numberOfTrailingZeros 34 = .ok (.iload_n 0, 1) := dk_26 (dk_at dksJ17_numberOfTrailingZeros_1 11 rfl rfl)
theorem dJ17_numberOfTrailingZeros_35 : decode cJ17_numberOfTrailingZeros 35 = .ok (.sipush 256, 3) := dk_17 1 0 (dk_at dksJ17_numberOfTrailingZeros_1 12 rfl rfl)
theorem dJ17_numberOfTrailingZeros_38 : decode cJ17_numberOfTrailingZeros 38 = .ok (.if_icmp .le 11, 3) := dk_164 0 11 (dk_at dksJ17_numberOfTrailingZeros_1 15 rfl rfl)
theorem dJ17_numberOfTrailingZeros_41 : decode cJ17_numberOfTrailingZeros 41 = .ok (.iinc 1 8, 3) := dk_132 1 8 (dk_at dksJ17_numberOfTrailingZeros_1 18 rfl rfl)
theorem dJ17_numberOfTrailingZeros_44 : decode cJ17_numberOfTrailingZeros 44 = .ok (.iload_n 0, 1) := dk_26 (dk_at dksJ17_numberOfTrailingZeros_1 21 rfl rfl)
theorem dJ17_numberOfTrailingZeros_45 : decode cJ17_numberOfTrailingZeros 45 = .ok (.bipush 8, 2) := dk_16 8 (dk_at dksJ17_numberOfTrailingZeros_1 22 rfl rfl)
theorem dJ17_numberOfTrailingZeros_47 : decode cJ17_numberOfTrailingZeros 47 = .ok (.iushr, 1) := dk_124 (dk_at dksJ17_numberOfTrailingZeros_2 0 rfl rfl)
theorem dJ17_numberOfTrailingZeros_48 : decode cJ17_numberOfTrailingZeros 48 = .ok (.istore_n 0, 1) := dk_59 (dk_at dksJ17_numberOfTrailingZeros_2 1 rfl rfl)
theorem dJ17_numberOfTrailingZeros_49 : decode cJ17_numberOfTrailingZeros 49 = .ok (.iload_n 0, 1) := dk_26 (dk_at dksJ17_numberOfTrailingZeros_2 2 rfl rfl)
theorem dJ17_numberOfTrailingZeros_50 : decode cJ17_numberOfTrailingZeros 50 = .ok (.bipush 16, 2) := dk_16 16 (dk_at dksJ17_numberOfTrailingZeros_2 3 rfl rfl)
theorem dJ17_numberOfTrailingZeros_52 : decode cJ17_numberOfTrailingZeros 52 = .ok (.if_icmp .le 10, 3) := dk_164 0 10 (dk_at dksJ17_numberOfTrailingZeros_2 5 rfl rfl)
theorem dJ17_numberOfTrailingZeros_55 : decode cJ17_numberOfTrailingZeros 55 = .ok (.iinc 1 4, 3) := dk_132 1 4 (dk_at dksJ17_numberOfTrailingZeros_2 8 rfl rfl)
theorem dJ17_numberOfTrailingZeros_58 : decode cJ17_numberOfTrailingZeros 58 = .ok (.iload_n 0, 1) := dk_26 (dk_at dksJ17_numberOfTrailingZeros_2 11 rfl rfl)
theorem dJ17_numberOfTrailingZeros_59 : decode cJ17_numberOfTrailingZeros 59 = .ok (.iconst 4, 1) := dk_7 (dk_at dksJ17_numberOfTrailingZeros_2 12 rfl rfl)
theorem dJ17_numberOfTrailingZeros_60 : decode cJ17_numberOfTrailingZeros 60 = .ok (.iushr, 1) := dk_124 (dk_at dksJ17_numberOfTrailingZeros_2 13 rfl rfl)
theorem dJ17_numberOfTrailingZeros_61 : decode cJ17_numberOfTrailingZeros 61 = .ok (.istore_n 0, 1) := dk_59 (dk_at dksJ17_numberOfTrailingZeros_2 14 rfl rfl)
theorem dJ17_numberOfTrailingZeros_62 : decode cJ17_numberOfTrailingZeros 62 = .ok (.iload_n 0, 1) := dk_26 (dk_at dksJ17_numberOfTrailingZeros_2 15 rfl rfl)
theorem dJ17_numberOfTrailingZeros_63 : decode cJ17_numberOfTrailingZeros 63 = .ok (.iconst 4, 1) := dk_7 (dk_at dksJ17_numberOfTrailingZeros_2 16 rfl rfl)
theorem dJ17_numberOfTrailingZeros_64 : decode cJ17_numberOfTrailingZeros 64 = .ok (.if_icmp .le 10, 3) := dk_164 0 10 (dk_at dksJ17_numberOfTrailingZeros_2 17 rfl rfl)
theorem dJ17_numberOfTrailingZeros_67 : decode cJ17_numberOfTrailingZeros 67 = .ok (.iinc 1 2, 3) := dk_132 1 2 (dk_at dksJ17_numberOfTrailingZeros_2 20 rfl rfl)
theorem dJ17_numberOfTrailingZeros_70 : decode cJ17_numberOfTrailingZeros 70 = .ok (.iload_n 0, 1) := dk_26 (dk_at dksJ17_numberOfTrailingZeros_2 23 rfl rfl)
theorem dJ17_numberOfTrailingZeros_71 : decode cJ17_numberOfTrailingZeros 71 = .ok (.iconst 2, 1) := dk_5 (dk_at dksJ17_numberOfTrailingZeros_3 0 rfl rfl)
theorem dJ17_numberOfTrailingZeros_72 : decode cJ17_numberOfTrailingZeros 72 = .ok (.iushr, 1) := dk_124 (dk_at dksJ17_numberOfTrailingZeros_3 1 rfl rfl)
theorem dJ17_numberOfTrailingZeros_73 : decode cJ17_numberOfTrailingZeros 73 = .ok (.istore_n 0, 1) := dk_59 (dk_at dksJ17_numberOfTrailingZeros_3 2 rfl rfl)
theorem dJ17_numberOfTrailingZeros_74 : decode cJ17_numberOfTrailingZeros 74 = .ok (.iload_n 1, 1) := dk_27 (dk_at dksJ17_numberOfTrailingZeros_3 3 rfl rfl)
theorem dJ17_numberOfTrailingZeros_75 : decode cJ17_numberOfTrailingZeros 75 = .ok (.iload_n 0, 1) := dk_26 (dk_at dksJ17_numberOfTrailingZeros_3 4 rfl rfl)
theorem dJ17_numberOfTrailingZeros_76 : decode cJ17_numberOfTrailingZeros 76 = .ok (.iconst 1, 1) := dk_4 (dk_at dksJ17_numberOfTrailingZeros_3 5 rfl rfl)
theorem dJ17_numberOfTrailingZeros_77 : decode cJ17_numberOfTrailingZeros 77 = .ok (.iushr, 1) := dk_124 (dk_at dksJ17_numberOfTrailingZeros_3 6 rfl rfl)
theorem dJ17_numberOfTrailingZeros_78 : decode cJ17_numberOfTrailingZeros 78 = .ok (.iadd, 1) := dk_96 (dk_at dksJ17_numberOfTrailingZeros_3 7 rfl rfl)
theorem dJ17_numberOfTrailingZeros_79 : decode cJ17_numberOfTrailingZeros 79 = .ok (.ireturn, 1) := dk_172 (dk_at dksJ17_numberOfTrailingZeros_3 8 rfl rfl)
abbrev cJ17_intValue : ByteArray := prog_26_method_27_code
def yJ17_intValue : MethodName := ⟨RJ17, "intValue", "()I"⟩
theorem dJ17_intValue_0 : decode cJ17_intValue 0 = .ok (.aload_n 0, 1) := by decide +kernel
theorem dJ17_intValue_1 : decode cJ17_intValue 1 = .ok (.getfield 205, 3) := by decide +kernel
theorem dJ17_intValue_4 : decode cJ17_intValue 4 = .ok (.ireturn, 1) := by decide +kernel
abbrev cJ17_stringSize : ByteArray := prog_26_method_13_code
def yJ17_stringSize : MethodName := ⟨RJ17, "stringSize", "(I)I"⟩
def dkwJ17_stringSize_1 : List UInt8 := [164, 0, 7, 29, 27, 96, 172, 16, 10, 28, 104, 61, 132, 3, 1, 167, 255, 233, 16, 10, 27, 96, 172]
abbrev dktJ17_stringSize_1 : List UInt8 := dkwJ17_stringSize_1 ++ []
def dkwJ17_stringSize_0 : List UInt8 := [4, 60, 26, 155, 0, 8, 3, 60, 26, 116, 59, 16, 246, 61, 4, 62, 29, 16, 10, 162, 0, 23, 26, 28]
abbrev dktJ17_stringSize_0 : List UInt8 := dkwJ17_stringSize_0 ++ dktJ17_stringSize_1
theorem dksJ17_stringSize_0 : cJ17_stringSize.data.toList.drop 0 = dktJ17_stringSize_0 := by decide +kernel
theorem dksJ17_stringSize_1 : cJ17_stringSize.data.toList.drop 24 = dktJ17_stringSize_1 := dk_seg dksJ17_stringSize_0 24 rfl rfl
theorem dJ17_stringSize_0 : decode cJ17_stringSize 0 = .ok (.iconst 1, 1) := dk_4 (dk_at dksJ17_stringSize_0 0 rfl rfl)
theorem dJ17_stringSize_1 : decode cJ17_stringSize 1 = .ok (.istore_n 1, 1) := dk_60 (dk_at dksJ17_stringSize_0 1 rfl rfl)
theorem dJ17_stringSize_2 : decode cJ17_stringSize 2 = .ok (.iload_n 0, 1) := dk_26 (dk_at dksJ17_stringSize_0 2 rfl rfl)
theorem dJ17_stringSize_3 : decode cJ17_stringSize 3 = .ok (.ifCond .lt 8, 3) := dk_155 0 8 (dk_at dksJ17_stringSize_0 3 rfl rfl)
theorem dJ17_stringSize_6 : decode cJ17_stringSize 6 = .ok (.iconst 0, 1) := dk_3 (dk_at dksJ17_stringSize_0 6 rfl rfl)
theorem dJ17_stringSize_7 : decode cJ17_stringSize 7 = .ok (.istore_n 1, 1) := dk_60 (dk_at dksJ17_stringSize_0 7 rfl rfl)
theorem dJ17_stringSize_8 : decode cJ17_stringSize 8 = .ok (.iload_n 0, 1) := dk_26 (dk_at dksJ17_stringSize_0 8 rfl rfl)
theorem dJ17_stringSize_9 : decode cJ17_stringSize 9 = .ok (.ineg, 1) := dk_116 (dk_at dksJ17_stringSize_0 9 rfl rfl)
theorem dJ17_stringSize_10 : decode cJ17_stringSize 10 = .ok (.istore_n 0, 1) := dk_59 (dk_at dksJ17_stringSize_0 10 rfl rfl)
theorem dJ17_stringSize_11 : decode cJ17_stringSize 11 = .ok (.bipush (-10), 2) := dk_16 246 (dk_at dksJ17_stringSize_0 11 rfl rfl)
theorem dJ17_stringSize_13 : decode cJ17_stringSize 13 = .ok (.istore_n 2, 1) := dk_61 (dk_at dksJ17_stringSize_0 13 rfl rfl)
theorem dJ17_stringSize_14 : decode cJ17_stringSize 14 = .ok (.iconst 1, 1) := dk_4 (dk_at dksJ17_stringSize_0 14 rfl rfl)
theorem dJ17_stringSize_15 : decode cJ17_stringSize 15 = .ok (.istore_n 3, 1) := dk_62 (dk_at dksJ17_stringSize_0 15 rfl rfl)
theorem dJ17_stringSize_16 : decode cJ17_stringSize 16 = .ok (.iload_n 3, 1) := dk_29 (dk_at dksJ17_stringSize_0 16 rfl rfl)
theorem dJ17_stringSize_17 : decode cJ17_stringSize 17 = .ok (.bipush 10, 2) := dk_16 10 (dk_at dksJ17_stringSize_0 17 rfl rfl)
theorem dJ17_stringSize_19 : decode cJ17_stringSize 19 = .ok (.if_icmp .ge 23, 3) := dk_162 0 23 (dk_at dksJ17_stringSize_0 19 rfl rfl)
theorem dJ17_stringSize_22 : decode cJ17_stringSize 22 = .ok (.iload_n 0, 1) := dk_26 (dk_at dksJ17_stringSize_0 22 rfl rfl)
theorem dJ17_stringSize_23 : decode cJ17_stringSize 23 = .ok (.iload_n 2, 1) := dk_28 (dk_at dksJ17_stringSize_0 23 rfl rfl)
theorem dJ17_stringSize_24 : decode cJ17_stringSize 24 = .ok (.if_icmp .le 7, 3) := dk_164 0 7 (dk_at dksJ17_stringSize_1 0 rfl rfl)
theorem dJ17_stringSize_27 : decode cJ17_stringSize 27 = .ok (.iload_n 3, 1) := dk_29 (dk_at dksJ17_stringSize_1 3 rfl rfl)
theorem dJ17_stringSize_28 : decode cJ17_stringSize 28 = .ok (.iload_n 1, 1) := dk_27 (dk_at dksJ17_stringSize_1 4 rfl rfl)
theorem dJ17_stringSize_29 : decode cJ17_stringSize 29 = .ok (.iadd, 1) := dk_96 (dk_at dksJ17_stringSize_1 5 rfl rfl)
theorem dJ17_stringSize_30 : decode cJ17_stringSize 30 = .ok (.ireturn, 1) := dk_172 (dk_at dksJ17_stringSize_1 6 rfl rfl)
theorem dJ17_stringSize_31 : decode cJ17_stringSize 31 = .ok (.bipush 10, 2) := dk_16 10 (dk_at dksJ17_stringSize_1 7 rfl rfl)
theorem dJ17_stringSize_33 : decode cJ17_stringSize 33 = .ok (.iload_n 2, 1) := dk_28 (dk_at dksJ17_stringSize_1 9 rfl rfl)
theorem dJ17_stringSize_34 : decode cJ17_stringSize 34 = .ok (.imul, 1) := dk_104 (dk_at dksJ17_stringSize_1 10 rfl rfl)
theorem dJ17_stringSize_35 : decode cJ17_stringSize 35 = .ok (.istore_n 2, 1) := dk_61 (dk_at dksJ17_stringSize_1 11 rfl rfl)
theorem dJ17_stringSize_36 : decode cJ17_stringSize 36 = .ok (.iinc 3 1, 3) := dk_132 3 1 (dk_at dksJ17_stringSize_1 12 rfl rfl)
theorem dJ17_stringSize_39 : decode cJ17_stringSize 39 = .ok (.goto (-23), 3) := dk_167 255 233 (dk_at dksJ17_stringSize_1 15 rfl rfl)
theorem dJ17_stringSize_42 : decode cJ17_stringSize 42 = .ok (.bipush 10, 2) := dk_16 10 (dk_at dksJ17_stringSize_1 18 rfl rfl)
theorem dJ17_stringSize_44 : decode cJ17_stringSize 44 = .ok (.iload_n 1, 1) := dk_27 (dk_at dksJ17_stringSize_1 20 rfl rfl)
theorem dJ17_stringSize_45 : decode cJ17_stringSize 45 = .ok (.iadd, 1) := dk_96 (dk_at dksJ17_stringSize_1 21 rfl rfl)
theorem dJ17_stringSize_46 : decode cJ17_stringSize 46 = .ok (.ireturn, 1) := dk_172 (dk_at dksJ17_stringSize_1 22 rfl rfl)
abbrev cJ17_getChars : ByteArray := prog_26_method_12_code
def yJ17_getChars : MethodName := ⟨RJ17, "getChars", "(II[B)I"⟩
def dkwJ17_getChars_5 : List UInt8 := [16, 45, 84, 21, 5, 172]
abbrev dktJ17_getChars_5 : List UInt8 := dkwJ17_getChars_5 ++ []
def dkwJ17_getChars_4 : List UInt8 := [132, 5, 255, 21, 5, 178, 0, 87, 26, 116, 51, 84, 21, 6, 153, 0, 12, 44, 132, 5, 255, 21, 5]
abbrev dktJ17_getChars_4 : List UInt8 := dkwJ17_getChars_4 ++ dktJ17_getChars_5
def dkwJ17_getChars_3 : List UInt8 := [167, 255, 209, 44, 132, 5, 255, 21, 5, 178, 0, 83, 26, 116, 51, 84, 26, 16, 247, 162, 0, 16, 44]
abbrev dktJ17_getChars_3 : List UInt8 := dkwJ17_getChars_3 ++ dktJ17_getChars_4
def dkwJ17_getChars_2 : List UInt8 := [21, 5, 178, 0, 83, 21, 4, 51, 84, 44, 132, 5, 255, 21, 5, 178, 0, 87, 21, 4, 51, 84]
abbrev dktJ17_getChars_2 : List UInt8 := dkwJ17_getChars_2 ++ dktJ17_getChars_3
def dkwJ17_getChars_1 : List UInt8 := [16, 156, 163, 0, 47, 26, 16, 100, 108, 62, 29, 16, 100, 104, 26, 100, 54, 4, 29, 59, 44, 132, 5, 255]
abbrev dktJ17_getChars_1 : List UInt8 := dkwJ17_getChars_1 ++ dktJ17_getChars_2
def dkwJ17_getChars_0 : List UInt8 := [27, 54, 5, 26, 156, 0, 7, 4, 167, 0, 4, 3, 54, 6, 21, 6, 154, 0, 6, 26, 116, 59, 26]
abbrev dktJ17_getChars_0 : List UInt8 := dkwJ17_getChars_0 ++ dktJ17_getChars_1
theorem dksJ17_getChars_0 : cJ17_getChars.data.toList.drop 0 = dktJ17_getChars_0 := by decide +kernel
theorem dksJ17_getChars_1 : cJ17_getChars.data.toList.drop 23 = dktJ17_getChars_1 := dk_seg dksJ17_getChars_0 23 rfl rfl
theorem dksJ17_getChars_2 : cJ17_getChars.data.toList.drop 47 = dktJ17_getChars_2 := dk_seg dksJ17_getChars_1 24 rfl rfl
theorem dksJ17_getChars_3 : cJ17_getChars.data.toList.drop 69 = dktJ17_getChars_3 := dk_seg dksJ17_getChars_2 22 rfl rfl
theorem dksJ17_getChars_4 : cJ17_getChars.data.toList.drop 92 = dktJ17_getChars_4 := dk_seg dksJ17_getChars_3 23 rfl rfl
theorem dksJ17_getChars_5 : cJ17_getChars.data.toList.drop 115 = dktJ17_getChars_5 := dk_seg dksJ17_getChars_4 23 rfl rfl
theorem dJ17_getChars_0 : decode cJ17_getChars 0 = .ok (.iload_n 1, 1) := dk_27 (dk_at dksJ17_getChars_0 0 rfl rfl)
theorem dJ17_getChars_1 : decode cJ17_getChars 1 = .ok (.istore 5, 2) := dk_54 5 (dk_at dksJ17_getChars_0 1 rfl rfl)
theorem dJ17_getChars_3 : decode cJ17_getChars 3 = .ok (.iload_n 0, 1) := dk_26 (dk_at dksJ17_getChars_0 3 rfl rfl)
theorem dJ17_getChars_4 : decode cJ17_getChars 4 = .ok (.ifCond .ge 7, 3) := dk_156 0 7 (dk_at dksJ17_getChars_0 4 rfl rfl)
theorem dJ17_getChars_7 : decode cJ17_getChars 7 = .ok (.iconst 1, 1) := dk_4 (dk_at dksJ17_getChars_0 7 rfl rfl)
theorem dJ17_getChars_8 : decode cJ17_getChars 8 = .ok (.goto 4, 3) := dk_167 0 4 (dk_at dksJ17_getChars_0 8 rfl rfl)
theorem dJ17_getChars_11 : decode cJ17_getChars 11 = .ok (.iconst 0, 1) := dk_3 (dk_at dksJ17_getChars_0 11 rfl rfl)
theorem dJ17_getChars_12 : decode cJ17_getChars 12 = .ok (.istore 6, 2) := dk_54 6 (dk_at dksJ17_getChars_0 12 rfl rfl)
theorem dJ17_getChars_14 : decode cJ17_getChars 14 = .ok (.iload 6, 2) := dk_21 6 (dk_at dksJ17_getChars_0 14 rfl rfl)
theorem dJ17_getChars_16 : decode cJ17_getChars 16 = .ok (.ifCond .ne 6, 3) := dk_154 0 6 (dk_at dksJ17_getChars_0 16 rfl rfl)
theorem dJ17_getChars_19 : decode cJ17_getChars 19 = .ok (.iload_n 0, 1) := dk_26 (dk_at dksJ17_getChars_0 19 rfl rfl)
theorem dJ17_getChars_20 : decode cJ17_getChars 20 = .ok (.ineg, 1) := dk_116 (dk_at dksJ17_getChars_0 20 rfl rfl)
theorem dJ17_getChars_21 : decode cJ17_getChars 21 = .ok (.istore_n 0, 1) := dk_59 (dk_at dksJ17_getChars_0 21 rfl rfl)
theorem dJ17_getChars_22 : decode cJ17_getChars 22 = .ok (.iload_n 0, 1) := dk_26 (dk_at dksJ17_getChars_0 22 rfl rfl)
theorem dJ17_getChars_23 : decode cJ17_getChars 23 = .ok (.bipush (-100), 2) := dk_16 156 (dk_at dksJ17_getChars_1 0 rfl rfl)
theorem dJ17_getChars_25 : decode cJ17_getChars 25 = .ok (.if_icmp .gt 47, 3) := dk_163 0 47 (dk_at dksJ17_getChars_1 2 rfl rfl)
theorem dJ17_getChars_28 : decode cJ17_getChars 28 = .ok (.iload_n 0, 1) := dk_26 (dk_at dksJ17_getChars_1 5 rfl rfl)
theorem dJ17_getChars_29 : decode cJ17_getChars 29 = .ok (.bipush 100, 2) := dk_16 100 (dk_at dksJ17_getChars_1 6 rfl rfl)
theorem dJ17_getChars_31 : decode cJ17_getChars 31 = .ok (.idiv, 1) := dk_108 (dk_at dksJ17_getChars_1 8 rfl rfl)
theorem dJ17_getChars_32 : decode cJ17_getChars 32 = .ok (.istore_n 3, 1) := dk_62 (dk_at dksJ17_getChars_1 9 rfl rfl)
theorem dJ17_getChars_33 : decode cJ17_getChars 33 = .ok (.iload_n 3, 1) := dk_29 (dk_at dksJ17_getChars_1 10 rfl rfl)
theorem dJ17_getChars_34 : decode cJ17_getChars 34 = .ok (.bipush 100, 2) := dk_16 100 (dk_at dksJ17_getChars_1 11 rfl rfl)
theorem dJ17_getChars_36 : decode cJ17_getChars 36 = .ok (.imul, 1) := dk_104 (dk_at dksJ17_getChars_1 13 rfl rfl)
theorem dJ17_getChars_37 : decode cJ17_getChars 37 = .ok (.iload_n 0, 1) := dk_26 (dk_at dksJ17_getChars_1 14 rfl rfl)
theorem dJ17_getChars_38 : decode cJ17_getChars 38 = .ok (.isub, 1) := dk_100 (dk_at dksJ17_getChars_1 15 rfl rfl)
theorem dJ17_getChars_39 : decode cJ17_getChars 39 = .ok (.istore 4, 2) := dk_54 4 (dk_at dksJ17_getChars_1 16 rfl rfl)
theorem dJ17_getChars_41 : decode cJ17_getChars 41 = .ok (.iload_n 3, 1) := dk_29 (dk_at dksJ17_getChars_1 18 rfl rfl)
theorem dJ17_getChars_42 : decode cJ17_getChars 42 = .ok (.istore_n 0, 1) := dk_59 (dk_at dksJ17_getChars_1 19 rfl rfl)
theorem dJ17_getChars_43 : decode cJ17_getChars 43 = .ok (.aload_n 2, 1) := dk_44 (dk_at dksJ17_getChars_1 20 rfl rfl)
theorem dJ17_getChars_44 : decode cJ17_getChars 44 = .ok (.iinc 5 (-1), 3) := dk_132 5 255 (dk_at dksJ17_getChars_1 21 rfl rfl)
theorem dJ17_getChars_47 : decode cJ17_getChars 47 = .ok (.iload 5, 2) := dk_21 5 (dk_at dksJ17_getChars_2 0 rfl rfl)
theorem dJ17_getChars_49 : decode cJ17_getChars 49 = .ok (.getstatic 83, 3) := dk_178 0 83 (dk_at dksJ17_getChars_2 2 rfl rfl)
theorem dJ17_getChars_52 : decode cJ17_getChars 52 = .ok (.iload 4, 2) := dk_21 4 (dk_at dksJ17_getChars_2 5 rfl rfl)
theorem dJ17_getChars_54 : decode cJ17_getChars 54 = .ok (.baload, 1) := dk_51 (dk_at dksJ17_getChars_2 7 rfl rfl)
theorem dJ17_getChars_55 : decode cJ17_getChars 55 = .ok (.bastore, 1) := dk_84 (dk_at dksJ17_getChars_2 8 rfl rfl)
theorem dJ17_getChars_56 : decode cJ17_getChars 56 = .ok (.aload_n 2, 1) := dk_44 (dk_at dksJ17_getChars_2 9 rfl rfl)
theorem dJ17_getChars_57 : decode cJ17_getChars 57 = .ok (.iinc 5 (-1), 3) := dk_132 5 255 (dk_at dksJ17_getChars_2 10 rfl rfl)
theorem dJ17_getChars_60 : decode cJ17_getChars 60 = .ok (.iload 5, 2) := dk_21 5 (dk_at dksJ17_getChars_2 13 rfl rfl)
theorem dJ17_getChars_62 : decode cJ17_getChars 62 = .ok (.getstatic 87, 3) := dk_178 0 87 (dk_at dksJ17_getChars_2 15 rfl rfl)
theorem dJ17_getChars_65 : decode cJ17_getChars 65 = .ok (.iload 4, 2) := dk_21 4 (dk_at dksJ17_getChars_2 18 rfl rfl)
theorem dJ17_getChars_67 : decode cJ17_getChars 67 = .ok (.baload, 1) := dk_51 (dk_at dksJ17_getChars_2 20 rfl rfl)
theorem dJ17_getChars_68 : decode cJ17_getChars 68 = .ok (.bastore, 1) := dk_84 (dk_at dksJ17_getChars_2 21 rfl rfl)
theorem dJ17_getChars_69 : decode cJ17_getChars 69 = .ok (.goto (-47), 3) := dk_167 255 209 (dk_at dksJ17_getChars_3 0 rfl rfl)
theorem dJ17_getChars_72 : decode cJ17_getChars 72 = .ok (.aload_n 2, 1) := dk_44 (dk_at dksJ17_getChars_3 3 rfl rfl)
theorem dJ17_getChars_73 : decode cJ17_getChars 73 = .ok (.iinc 5 (-1), 3) := dk_132 5 255 (dk_at dksJ17_getChars_3 4 rfl rfl)
theorem dJ17_getChars_76 : decode cJ17_getChars 76 = .ok (.iload 5, 2) := dk_21 5 (dk_at dksJ17_getChars_3 7 rfl rfl)
theorem dJ17_getChars_78 : decode cJ17_getChars 78 = .ok (.getstatic 83, 3) := dk_178 0 83 (dk_at dksJ17_getChars_3 9 rfl rfl)
theorem dJ17_getChars_81 : decode cJ17_getChars 81 = .ok (.iload_n 0, 1) := dk_26 (dk_at dksJ17_getChars_3 12 rfl rfl)
theorem dJ17_getChars_82 : decode cJ17_getChars 82 = .ok (.ineg, 1) := dk_116 (dk_at dksJ17_getChars_3 13 rfl rfl)
theorem dJ17_getChars_83 : decode cJ17_getChars 83 = .ok (.baload, 1) := dk_51 (dk_at dksJ17_getChars_3 14 rfl rfl)
theorem dJ17_getChars_84 : decode cJ17_getChars 84 = .ok (.bastore, 1) := dk_84 (dk_at dksJ17_getChars_3 15 rfl rfl)
theorem dJ17_getChars_85 : decode cJ17_getChars 85 = .ok (.iload_n 0, 1) := dk_26 (dk_at dksJ17_getChars_3 16 rfl rfl)
theorem dJ17_getChars_86 : decode cJ17_getChars 86 = .ok (.bipush (-9), 2) := dk_16 247 (dk_at dksJ17_getChars_3 17 rfl rfl)
theorem dJ17_getChars_88 : decode cJ17_getChars 88 = .ok (.if_icmp .ge 16, 3) := dk_162 0 16 (dk_at dksJ17_getChars_3 19 rfl rfl)
theorem dJ17_getChars_91 : decode cJ17_getChars 91 = .ok (.aload_n 2, 1) := dk_44 (dk_at dksJ17_getChars_3 22 rfl rfl)
theorem dJ17_getChars_92 : decode cJ17_getChars 92 = .ok (.iinc 5 (-1), 3) := dk_132 5 255 (dk_at dksJ17_getChars_4 0 rfl rfl)
theorem dJ17_getChars_95 : decode cJ17_getChars 95 = .ok (.iload 5, 2) := dk_21 5 (dk_at dksJ17_getChars_4 3 rfl rfl)
theorem dJ17_getChars_97 : decode cJ17_getChars 97 = .ok (.getstatic 87, 3) := dk_178 0 87 (dk_at dksJ17_getChars_4 5 rfl rfl)
theorem dJ17_getChars_100 : decode cJ17_getChars 100 = .ok (.iload_n 0, 1) := dk_26 (dk_at dksJ17_getChars_4 8 rfl rfl)
theorem dJ17_getChars_101 : decode cJ17_getChars 101 = .ok (.ineg, 1) := dk_116 (dk_at dksJ17_getChars_4 9 rfl rfl)
theorem dJ17_getChars_102 : decode cJ17_getChars 102 = .ok (.baload, 1) := dk_51 (dk_at dksJ17_getChars_4 10 rfl rfl)
theorem dJ17_getChars_103 : decode cJ17_getChars 103 = .ok (.bastore, 1) := dk_84 (dk_at dksJ17_getChars_4 11 rfl rfl)
theorem dJ17_getChars_104 : decode cJ17_getChars 104 = .ok (.iload 6, 2) := dk_21 6 (dk_at dksJ17_getChars_4 12 rfl rfl)
theorem dJ17_getChars_106 : decode cJ17_getChars 106 = .ok (.ifCond .eq 12, 3) := dk_153 0 12 (dk_at dksJ17_getChars_4 14 rfl rfl)
theorem dJ17_getChars_109 : decode cJ17_getChars 109 = .ok (.aload_n 2, 1) := dk_44 (dk_at dksJ17_getChars_4 17 rfl rfl)
theorem dJ17_getChars_110 : decode cJ17_getChars 110 = .ok (.iinc 5 (-1), 3) := dk_132 5 255 (dk_at dksJ17_getChars_4 18 rfl rfl)
theorem dJ17_getChars_113 : decode cJ17_getChars 113 = .ok (.iload 5, 2) := dk_21 5 (dk_at dksJ17_getChars_4 21 rfl rfl)
theorem dJ17_getChars_115 : decode cJ17_getChars 115 = .ok (.bipush 45, 2) := dk_16 45 (dk_at dksJ17_getChars_5 0 rfl rfl)
theorem dJ17_getChars_117 : decode cJ17_getChars 117 = .ok (.bastore, 1) := dk_84 (dk_at dksJ17_getChars_5 2 rfl rfl)
theorem dJ17_getChars_118 : decode cJ17_getChars 118 = .ok (.iload 5, 2) := dk_21 5 (dk_at dksJ17_getChars_5 3 rfl rfl)
theorem dJ17_getChars_120 : decode cJ17_getChars 120 = .ok (.ireturn, 1) := dk_172 (dk_at dksJ17_getChars_5 5 rfl rfl)
abbrev cJ17_equals : ByteArray := prog_26_method_34_code
def yJ17_equals : MethodName := ⟨RJ17, "equals", "(Ljava/lang/Object;)Z"⟩
def dkwJ17_equals_1 : List UInt8 := [167, 0, 4, 3, 172, 3, 172]
abbrev dktJ17_equals_1 : List UInt8 := dkwJ17_equals_1 ++ []
def dkwJ17_equals_0 : List UInt8 := [43, 193, 0, 1, 153, 0, 23, 42, 180, 0, 205, 43, 192, 0, 1, 182, 0, 211, 160, 0, 7, 4]
abbrev dktJ17_equals_0 : List UInt8 := dkwJ17_equals_0 ++ dktJ17_equals_1
theorem dksJ17_equals_0 : cJ17_equals.data.toList.drop 0 = dktJ17_equals_0 := by decide +kernel
theorem dksJ17_equals_1 : cJ17_equals.data.toList.drop 22 = dktJ17_equals_1 := dk_seg dksJ17_equals_0 22 rfl rfl
theorem dJ17_equals_0 : decode cJ17_equals 0 = .ok (.aload_n 1, 1) := dk_43 (dk_at dksJ17_equals_0 0 rfl rfl)
theorem dJ17_equals_1 : decode cJ17_equals 1 = .ok (.instanceof 1, 3) := dk_193 0 1 (dk_at dksJ17_equals_0 1 rfl rfl)
theorem dJ17_equals_4 : decode cJ17_equals 4 = .ok (.ifCond .eq 23, 3) := dk_153 0 23 (dk_at dksJ17_equals_0 4 rfl rfl)
theorem dJ17_equals_7 : decode cJ17_equals 7 = .ok (.aload_n 0, 1) := dk_42 (dk_at dksJ17_equals_0 7 rfl rfl)
theorem dJ17_equals_8 : decode cJ17_equals 8 = .ok (.getfield 205, 3) := dk_180 0 205 (dk_at dksJ17_equals_0 8 rfl rfl)
theorem dJ17_equals_11 : decode cJ17_equals 11 = .ok (.aload_n 1, 1) := dk_43 (dk_at dksJ17_equals_0 11 rfl rfl)
theorem dJ17_equals_12 : decode cJ17_equals 12 = .ok (.checkcast 1, 3) := dk_192 0 1 (dk_at dksJ17_equals_0 12 rfl rfl)
theorem dJ17_equals_15 : decode cJ17_equals 15 = .ok (.invokevirtual 211, 3) := dk_182 0 211 (dk_at dksJ17_equals_0 15 rfl rfl)
theorem dJ17_equals_18 : decode cJ17_equals 18 = .ok (.if_icmp .ne 7, 3) := dk_160 0 7 (dk_at dksJ17_equals_0 18 rfl rfl)
theorem dJ17_equals_21 : decode cJ17_equals 21 = .ok (.iconst 1, 1) := dk_4 (dk_at dksJ17_equals_0 21 rfl rfl)
theorem dJ17_equals_22 : decode cJ17_equals 22 = .ok (.goto 4, 3) := dk_167 0 4 (dk_at dksJ17_equals_1 0 rfl rfl)
theorem dJ17_equals_25 : decode cJ17_equals 25 = .ok (.iconst 0, 1) := dk_3 (dk_at dksJ17_equals_1 3 rfl rfl)
theorem dJ17_equals_26 : decode cJ17_equals 26 = .ok (.ireturn, 1) := dk_172 (dk_at dksJ17_equals_1 4 rfl rfl)
theorem dJ17_equals_27 : decode cJ17_equals 27 = .ok (.iconst 0, 1) := dk_3 (dk_at dksJ17_equals_1 5 rfl rfl)
theorem dJ17_equals_28 : decode cJ17_equals 28 = .ok (.ireturn, 1) := dk_172 (dk_at dksJ17_equals_1 6 rfl rfl)
theorem q100 : (Jvm.Cond.initialized "java/lang/Integer") ∈ lw_all := lw_g (lw_at lw_m1 24 rfl) rfl
theorem q460 : (Jvm.Cond.selects "java/lang/Integer" ({ cls := "java/lang/Object", name := "getClass", desc := "()Ljava/lang/Class;" } : Jvm.MethodName) ({ cls := "java/lang/Object", name := "getClass", desc := "()Ljava/lang/Class;" } : Jvm.MethodName)) ∈ lw_all := lw_g (lw_at lw_m2 144 rfl) rfl
theorem q564 : (Jvm.Cond.static ({ cls := "java/lang/Integer", name := "valueOf", desc := "(I)Ljava/lang/Integer;" } : Jvm.MethodName)) ∈ lw_all := lw_g (lw_at lw_m3 8 rfl) rfl
theorem q565 : (Jvm.Cond.code ({ cls := "java/lang/Integer", name := "valueOf", desc := "(I)Ljava/lang/Integer;" } : Jvm.MethodName) prog_26_method_22_code (1 : Nat) (Option.some (Jvm.ClassFile.FieldType.object "java/lang/Integer"))) ∈ lw_all := lw_g (lw_at lw_m3 9 rfl) rfl
theorem q566 : (Jvm.Cond.fieldLink "java/lang/Integer" (191 : Nat) "java/lang/Integer$IntegerCache" "high" "I") ∈ lw_all := lw_g (lw_at lw_m3 10 rfl) rfl
theorem q568 : (Jvm.Cond.fieldLink "java/lang/Integer" (195 : Nat) "java/lang/Integer$IntegerCache" "cache" "[Ljava/lang/Integer;") ∈ lw_all := lw_g (lw_at lw_m3 12 rfl) rfl
theorem q570 : (Jvm.Cond.classLink "java/lang/Integer" (1 : Nat) "java/lang/Integer") ∈ lw_all := lw_g (lw_at lw_m3 14 rfl) rfl
theorem q571 : (Jvm.Cond.instantiable "java/lang/Integer" (1 : Nat)) ∈ lw_all := lw_g (lw_at lw_m3 15 rfl) rfl
theorem q572 : (Jvm.Cond.methodLink "java/lang/Integer" (199 : Nat) ({ cls := "java/lang/Integer", name := "<init>", desc := "(I)V" } : Jvm.MethodName)) ∈ lw_all := lw_g (lw_at lw_m3 16 rfl) rfl
theorem q573 : (Jvm.Cond.instanceMethod ({ cls := "java/lang/Integer", name := "<init>", desc := "(I)V" } : Jvm.MethodName)) ∈ lw_all := lw_g (lw_at lw_m3 17 rfl) rfl
theorem q574 : (Jvm.Cond.code ({ cls := "java/lang/Integer", name := "<init>", desc := "(I)V" } : Jvm.MethodName) prog_26_method_23_code (2 : Nat) (Option.none : Option Jvm.ClassFile.FieldType)) ∈ lw_all := lw_g (lw_at lw_m3 18 rfl) rfl
theorem q575 : (Jvm.Cond.methodLink "java/lang/Integer" (202 : Nat) ({ cls := "java/lang/Number", name := "<init>", desc := "()V" } : Jvm.MethodName)) ∈ lw_all := lw_g (lw_at lw_m3 19 rfl) rfl
theorem q579 : (Jvm.Cond.fieldLink "java/lang/Integer" (205 : Nat) "java/lang/Integer" "value" "I") ∈ lw_all := lw_g (lw_at lw_m3 23 rfl) rfl
theorem q580 : (Jvm.Cond.laysFinal "java/lang/Integer" "java/lang/Integer" "value" "I") ∈ lw_all := lw_g (lw_at lw_m3 24 rfl) rfl
theorem q581 : (Jvm.Cond.soleField "java/lang/Integer" "value") ∈ lw_all := lw_g (lw_at lw_m3 25 rfl) rfl
theorem q582 : (Jvm.Cond.superclass "java/lang/Integer" "java/lang/Number") ∈ lw_all := lw_g (lw_at lw_m3 26 rfl) rfl
theorem q616 : (Jvm.Cond.static ({ cls := "java/lang/Integer", name := "compare", desc := "(II)I" } : Jvm.MethodName)) ∈ lw_all := lw_g (lw_at lw_m3 60 rfl) rfl
theorem q617 : (Jvm.Cond.code ({ cls := "java/lang/Integer", name := "compare", desc := "(II)I" } : Jvm.MethodName) prog_26_method_40_code (2 : Nat) (Option.some Jvm.ClassFile.FieldType.int)) ∈ lw_all := lw_g (lw_at lw_m3 61 rfl) rfl
theorem q648 : (Jvm.Cond.castable "java/lang/Integer" "java/lang/Comparable") ∈ lw_tbl := lw_at lw_m3 92 rfl
theorem q649 : (Jvm.Cond.selects "java/lang/Integer" ({ cls := "java/lang/Comparable", name := "compareTo", desc := "(Ljava/lang/Object;)I" } : Jvm.MethodName) ({ cls := "java/lang/Integer", name := "compareTo", desc := "(Ljava/lang/Object;)I" } : Jvm.MethodName)) ∈ lw_all := lw_g (lw_at lw_m3 93 rfl) rfl
theorem q650 : (Jvm.Cond.unhidden "java/lang/Integer" "compareTo" "(Ljava/lang/Object;)I") ∈ lw_tbl := lw_at lw_m3 94 rfl
theorem q651 : (Jvm.Cond.instanceMethod ({ cls := "java/lang/Integer", name := "compareTo", desc := "(Ljava/lang/Object;)I" } : Jvm.MethodName)) ∈ lw_all := lw_g (lw_at lw_m3 95 rfl) rfl
theorem q652 : (Jvm.Cond.publicMethod ({ cls := "java/lang/Integer", name := "compareTo", desc := "(Ljava/lang/Object;)I" } : Jvm.MethodName)) ∈ lw_tbl := lw_at lw_m3 96 rfl
theorem q653 : (Jvm.Cond.code ({ cls := "java/lang/Integer", name := "compareTo", desc := "(Ljava/lang/Object;)I" } : Jvm.MethodName) prog_26_method_63_code (2 : Nat) (Option.some Jvm.ClassFile.FieldType.int)) ∈ lw_all := lw_g (lw_at lw_m3 97 rfl) rfl
theorem q654 : (Jvm.Cond.methodLink "java/lang/Integer" (284 : Nat) ({ cls := "java/lang/Integer", name := "compareTo", desc := "(Ljava/lang/Integer;)I" } : Jvm.MethodName)) ∈ lw_all := lw_g (lw_at lw_m3 98 rfl) rfl
theorem q655 : (Jvm.Cond.instanceMethod ({ cls := "java/lang/Integer", name := "compareTo", desc := "(Ljava/lang/Integer;)I" } : Jvm.MethodName)) ∈ lw_all := lw_g (lw_at lw_m3 99 rfl) rfl
theorem q656 : (Jvm.Cond.selects "java/lang/Integer" ({ cls := "java/lang/Integer", name := "compareTo", desc := "(Ljava/lang/Integer;)I" } : Jvm.MethodName) ({ cls := "java/lang/Integer", name := "compareTo", desc := "(Ljava/lang/Integer;)I" } : Jvm.MethodName)) ∈ lw_all := lw_g (lw_at lw_m3 100 rfl) rfl
theorem q657 : (Jvm.Cond.code ({ cls := "java/lang/Integer", name := "compareTo", desc := "(Ljava/lang/Integer;)I" } : Jvm.MethodName) prog_26_method_39_code (2 : Nat) (Option.some Jvm.ClassFile.FieldType.int)) ∈ lw_all := lw_g (lw_at lw_m3 101 rfl) rfl
theorem q658 : (Jvm.Cond.methodLink "java/lang/Integer" (259 : Nat) ({ cls := "java/lang/Integer", name := "compare", desc := "(II)I" } : Jvm.MethodName)) ∈ lw_all := lw_g (lw_at lw_m3 102 rfl) rfl
theorem q755 : (Jvm.Cond.static ({ cls := "java/lang/Integer", name := "numberOfLeadingZeros", desc := "(I)I" } : Jvm.MethodName)) ∈ lw_all := lw_g (lw_at lw_m3 199 rfl) rfl
theorem q756 : (Jvm.Cond.code ({ cls := "java/lang/Integer", name := "numberOfLeadingZeros", desc := "(I)I" } : Jvm.MethodName) prog_26_method_47_code (2 : Nat) (Option.some Jvm.ClassFile.FieldType.int)) ∈ lw_all := lw_g (lw_at lw_m3 200 rfl) rfl
theorem q757 : (Jvm.Cond.constant "java/lang/Integer" (264 : Nat) (65536 : Int32)) ∈ lw_all := lw_g (lw_at lw_m3 201 rfl) rfl
theorem q764 : (Jvm.Cond.static ({ cls := "java/lang/Integer", name := "numberOfTrailingZeros", desc := "(I)I" } : Jvm.MethodName)) ∈ lw_all := lw_g (lw_at lw_m3 208 rfl) rfl
theorem q765 : (Jvm.Cond.code ({ cls := "java/lang/Integer", name := "numberOfTrailingZeros", desc := "(I)I" } : Jvm.MethodName) prog_26_method_48_code (2 : Nat) (Option.some Jvm.ClassFile.FieldType.int)) ∈ lw_all := lw_g (lw_at lw_m3 209 rfl) rfl
theorem q1152 : (Jvm.Cond.instanceMethod ({ cls := "java/lang/Integer", name := "intValue", desc := "()I" } : Jvm.MethodName)) ∈ lw_all := lw_g (lw_at lw_m5 116 rfl) rfl
theorem q1153 : (Jvm.Cond.selects "java/lang/Integer" ({ cls := "java/lang/Integer", name := "intValue", desc := "()I" } : Jvm.MethodName) ({ cls := "java/lang/Integer", name := "intValue", desc := "()I" } : Jvm.MethodName)) ∈ lw_all := lw_g (lw_at lw_m5 117 rfl) rfl
theorem q1154 : (Jvm.Cond.code ({ cls := "java/lang/Integer", name := "intValue", desc := "()I" } : Jvm.MethodName) prog_26_method_27_code (1 : Nat) (Option.some Jvm.ClassFile.FieldType.int)) ∈ lw_all := lw_g (lw_at lw_m5 118 rfl) rfl
theorem q1292 : (Jvm.Cond.static ({ cls := "java/lang/Integer", name := "stringSize", desc := "(I)I" } : Jvm.MethodName)) ∈ lw_all := lw_g (lw_at lw_m6 16 rfl) rfl
theorem q1293 : (Jvm.Cond.code ({ cls := "java/lang/Integer", name := "stringSize", desc := "(I)I" } : Jvm.MethodName) prog_26_method_13_code (4 : Nat) (Option.some Jvm.ClassFile.FieldType.int)) ∈ lw_all := lw_g (lw_at lw_m6 17 rfl) rfl
theorem q1295 : (Jvm.Cond.static ({ cls := "java/lang/Integer", name := "getChars", desc := "(II[B)I" } : Jvm.MethodName)) ∈ lw_all := lw_g (lw_at lw_m6 19 rfl) rfl
theorem q1296 : (Jvm.Cond.code ({ cls := "java/lang/Integer", name := "getChars", desc := "(II[B)I" } : Jvm.MethodName) prog_26_method_12_code (7 : Nat) (Option.some Jvm.ClassFile.FieldType.int)) ∈ lw_all := lw_g (lw_at lw_m6 20 rfl) rfl
theorem q1297 : (Jvm.Cond.fieldLink "java/lang/Integer" (83 : Nat) "java/lang/Integer" "DigitOnes" "[B") ∈ lw_all := lw_g (lw_at lw_m6 21 rfl) rfl
theorem q1298 : (Jvm.Cond.laysStatic "java/lang/Integer" "DigitOnes" "[B") ∈ lw_tbl := lw_at lw_m6 22 rfl
theorem q1299 : (Jvm.Cond.fieldLink "java/lang/Integer" (87 : Nat) "java/lang/Integer" "DigitTens" "[B") ∈ lw_all := lw_g (lw_at lw_m6 23 rfl) rfl
theorem q1300 : (Jvm.Cond.laysStatic "java/lang/Integer" "DigitTens" "[B") ∈ lw_tbl := lw_at lw_m6 24 rfl
theorem q2121 : (Jvm.Cond.selects "java/lang/Integer" ({ cls := "java/lang/Object", name := "equals", desc := "(Ljava/lang/Object;)Z" } : Jvm.MethodName) ({ cls := "java/lang/Integer", name := "equals", desc := "(Ljava/lang/Object;)Z" } : Jvm.MethodName)) ∈ lw_all := lw_g (lw_at lw_m9 125 rfl) rfl
theorem q2122 : (Jvm.Cond.instanceMethod ({ cls := "java/lang/Integer", name := "equals", desc := "(Ljava/lang/Object;)Z" } : Jvm.MethodName)) ∈ lw_all := lw_g (lw_at lw_m9 126 rfl) rfl
theorem q2123 : (Jvm.Cond.code ({ cls := "java/lang/Integer", name := "equals", desc := "(Ljava/lang/Object;)Z" } : Jvm.MethodName) prog_26_method_34_code (2 : Nat) (Option.some Jvm.ClassFile.FieldType.boolean)) ∈ lw_all := lw_g (lw_at lw_m9 127 rfl) rfl
theorem q2124 : (Jvm.Cond.methodLink "java/lang/Integer" (211 : Nat) ({ cls := "java/lang/Integer", name := "intValue", desc := "()I" } : Jvm.MethodName)) ∈ lw_all := lw_g (lw_at lw_m9 128 rfl) rfl
theorem q3003 : (Jvm.Cond.castable "java/lang/Integer" "java/lang/Object") ∈ lw_tbl := lw_at lw_m13 47 rfl
theorem in_J17 : ∀ w ∈ wsJ170, w ∈ lw_all := lw_in wsJ170 [580] (by decide +kernel) (by decide +kernel)

/-! java/lang/String -/
set_option maxRecDepth 100000
def RJ18 : String := "java/lang/String"
def TJ18 : u_T := fun k => match k with
  | 0 => ("java/lang/String", "value", "[B", true)
  | 1 => ("java/lang/String", "coder", "B", true)
  | 2 => ("java/lang/String", "hash", "I", false)
  | _ => ("java/lang/String", "hashIsZero", "Z", false)
def tyJ18 : Nat → FieldType := fun k => match k with
  | 0 => .array .byte
  | 1 => .byte
  | 2 => .int
  | _ => .boolean
abbrev wsJ180 : List Cond := u_ws RJ18 TJ18 4
theorem nmJ18 : ∀ a, a < 4 → ∀ b, b < 4 → a ≠ b → (TJ18 a).2.1 ≠ (TJ18 b).2.1 := by decide +kernel
theorem tyJ18_ok : ∀ k, k < 4 → parseFieldDescriptor (TJ18 k).2.2.1 = some (tyJ18 k) := by decide +kernel
abbrev cJ18_compareTo : ByteArray := prog_33_method_162_code
def yJ18_compareTo : MethodName := ⟨RJ18, "compareTo", "(Ljava/lang/Object;)I"⟩
def dkwJ18_compareTo_0 : List UInt8 := [42, 43, 192, 0, 10, 182, 4, 60, 172]
abbrev dktJ18_compareTo_0 : List UInt8 := dkwJ18_compareTo_0 ++ []
theorem dksJ18_compareTo_0 : cJ18_compareTo.data.toList.drop 0 = dktJ18_compareTo_0 := by decide +kernel
theorem dJ18_compareTo_0 : decode cJ18_compareTo 0 = .ok (.aload_n 0, 1) := dk_42 (dk_at dksJ18_compareTo_0 0 rfl rfl)
theorem dJ18_compareTo_1 : decode cJ18_compareTo 1 = .ok (.aload_n 1, 1) := dk_43 (dk_at dksJ18_compareTo_0 1 rfl rfl)
theorem dJ18_compareTo_2 : decode cJ18_compareTo 2 = .ok (.checkcast 10, 3) := dk_192 0 10 (dk_at dksJ18_compareTo_0 2 rfl rfl)
theorem dJ18_compareTo_5 : decode cJ18_compareTo 5 = .ok (.invokevirtual 1084, 3) := dk_182 4 60 (dk_at dksJ18_compareTo_0 5 rfl rfl)
theorem dJ18_compareTo_8 : decode cJ18_compareTo 8 = .ok (.ireturn, 1) := dk_172 (dk_at dksJ18_compareTo_0 8 rfl rfl)
abbrev cJ18_compareTo_2 : ByteArray := prog_33_method_71_code
def yJ18_compareTo_2 : MethodName := ⟨RJ18, "compareTo", "(Ljava/lang/String;)I"⟩
def dkwJ18_compareTo_2_2 : List UInt8 := [154, 0, 11, 44, 45, 184, 2, 79, 167, 0, 8, 44, 45, 184, 2, 82, 172]
abbrev dktJ18_compareTo_2_2 : List UInt8 := dkwJ18_compareTo_2_2 ++ []
def dkwJ18_compareTo_2_1 : List UInt8 := [160, 0, 22, 21, 4, 154, 0, 11, 44, 45, 184, 2, 74, 167, 0, 8, 44, 45, 184, 2, 78, 172, 21, 4]
abbrev dktJ18_compareTo_2_1 : List UInt8 := dkwJ18_compareTo_2_1 ++ dktJ18_compareTo_2_2
def dkwJ18_compareTo_2_0 : List UInt8 := [42, 180, 0, 9, 77, 43, 180, 0, 9, 78, 42, 182, 1, 79, 54, 4, 21, 4, 43, 182, 1, 79]
abbrev dktJ18_compareTo_2_0 : List UInt8 := dkwJ18_compareTo_2_0 ++ dktJ18_compareTo_2_1
theorem dksJ18_compareTo_2_0 : cJ18_compareTo_2.data.toList.drop 0 = dktJ18_compareTo_2_0 := by decide +kernel
theorem dksJ18_compareTo_2_1 : cJ18_compareTo_2.data.toList.drop 22 = dktJ18_compareTo_2_1 := dk_seg dksJ18_compareTo_2_0 22 rfl rfl
theorem dksJ18_compareTo_2_2 : cJ18_compareTo_2.data.toList.drop 46 = dktJ18_compareTo_2_2 := dk_seg dksJ18_compareTo_2_1 24 rfl rfl
theorem dJ18_compareTo_2_0 : decode cJ18_compareTo_2 0 = .ok (.aload_n 0, 1) := dk_42 (dk_at dksJ18_compareTo_2_0 0 rfl rfl)
theorem dJ18_compareTo_2_1 : decode cJ18_compareTo_2 1 = .ok (.getfield 9, 3) := dk_180 0 9 (dk_at dksJ18_compareTo_2_0 1 rfl rfl)
theorem dJ18_compareTo_2_4 : decode cJ18_compareTo_2 4 = .ok (.astore_n 2, 1) := dk_77 (dk_at dksJ18_compareTo_2_0 4 rfl rfl)
theorem dJ18_compareTo_2_5 : decode cJ18_compareTo_2 5 = .ok (.aload_n 1, 1) := dk_43 (dk_at dksJ18_compareTo_2_0 5 rfl rfl)
theorem dJ18_compareTo_2_6 : decode cJ18_compareTo_2 6 = .ok (.getfield 9, 3) := dk_180 0 9 (dk_at dksJ18_compareTo_2_0 6 rfl rfl)
theorem dJ18_compareTo_2_9 : decode cJ18_compareTo_2 9 = .ok (.astore_n 3, 1) := dk_78 (dk_at dksJ18_compareTo_2_0 9 rfl rfl)
theorem dJ18_compareTo_2_10 : decode cJ18_compareTo_2 10 = .ok (.aload_n 0, 1) := dk_42 (dk_at dksJ18_compareTo_2_0 10 rfl rfl)
theorem dJ18_compareTo_2_11 : decode cJ18_compareTo_2 11 = .ok (.invokevirtual 335, 3) := dk_182 1 79 (dk_at dksJ18_compareTo_2_0 11 rfl rfl)
theorem dJ18_compareTo_2_14 : decode cJ18_compareTo_2 14 = .ok (.istore 4, 2) := dk_54 4 (dk_at dksJ18_compareTo_2_0 14 rfl rfl)
theorem dJ18_compareTo_2_16 : decode cJ18_compareTo_2 16 = .ok (.iload 4, 2) := dk_21 4 (dk_at dksJ18_compareTo_2_0 16 rfl rfl)
theorem dJ18_compareTo_2_18 : decode cJ18_compareTo_2 18 = .ok (.aload_n 1, 1) := dk_43 (dk_at dksJ18_compareTo_2_0 18 rfl rfl)
theorem dJ18_compareTo_2_19 : decode cJ18_compareTo_2 19 = .ok (.invokevirtual 335, 3) := dk_182 1 79 (dk_at dksJ18_compareTo_2_0 19 rfl rfl)
theorem dJ18_compareTo_2_22 : decode cJ18_compareTo_2 22 = .ok (.if_icmp .ne 22, 3) := dk_160 0 22 (dk_at dksJ18_compareTo_2_1 0 rfl rfl)
theorem dJ18_compareTo_2_25 : decode cJ18_compareTo_2 25 = .ok (.iload 4, 2) := dk_21 4 (dk_at dksJ18_compareTo_2_1 3 rfl rfl)
theorem dJ18_compareTo_2_27 : decode cJ18_compareTo_2 27 = .ok (.ifCond .ne 11, 3) := dk_154 0 11 (dk_at dksJ18_compareTo_2_1 5 rfl rfl)
theorem dJ18_compareTo_2_30 : decode cJ18_compareTo_2 30 = .ok (.aload_n 2, 1) := dk_44 (dk_at dksJ18_compareTo_2_1 8 rfl rfl)
theorem dJ18_compareTo_2_31 : decode cJ18_compareTo_2 31 = .ok (.aload_n 3, 1) := dk_45 (dk_at dksJ18_compareTo_2_1 9 rfl rfl)
theorem dJ18_compareTo_2_32 : decode cJ18_compareTo_2 32 = .ok (.invokestatic 586, 3) := dk_184 2 74 (dk_at dksJ18_compareTo_2_1 10 rfl rfl)
theorem dJ18_compareTo_2_35 : decode cJ18_compareTo_2 35 = .ok (.goto 8, 3) := dk_167 0 8 (dk_at dksJ18_compareTo_2_1 13 rfl rfl)
theorem dJ18_compareTo_2_38 : decode cJ18_compareTo_2 38 = .ok (.aload_n 2, 1) := dk_44 (dk_at dksJ18_compareTo_2_1 16 rfl rfl)
theorem dJ18_compareTo_2_39 : decode cJ18_compareTo_2 39 = .ok (.aload_n 3, 1) := dk_45 (dk_at dksJ18_compareTo_2_1 17 rfl rfl)
theorem dJ18_compareTo_2_40 : decode cJ18_compareTo_2 40 = .ok (.invokestatic 590, 3) := dk_184 2 78 (dk_at dksJ18_compareTo_2_1 18 rfl rfl)
theorem dJ18_compareTo_2_43 : decode cJ18_compareTo_2 43 = .ok (.ireturn, 1) := dk_172 (dk_at dksJ18_compareTo_2_1 21 rfl rfl)
theorem dJ18_compareTo_2_44 : decode cJ18_compareTo_2 44 = .ok (.iload 4, 2) := dk_21 4 (dk_at dksJ18_compareTo_2_1 22 rfl rfl)
theorem dJ18_compareTo_2_46 : decode cJ18_compareTo_2 46 = .ok (.ifCond .ne 11, 3) := dk_154 0 11 (dk_at dksJ18_compareTo_2_2 0 rfl rfl)
theorem dJ18_compareTo_2_49 : decode cJ18_compareTo_2 49 = .ok (.aload_n 2, 1) := dk_44 (dk_at dksJ18_compareTo_2_2 3 rfl rfl)
theorem dJ18_compareTo_2_50 : decode cJ18_compareTo_2 50 = .ok (.aload_n 3, 1) := dk_45 (dk_at dksJ18_compareTo_2_2 4 rfl rfl)
theorem dJ18_compareTo_2_51 : decode cJ18_compareTo_2 51 = .ok (.invokestatic 591, 3) := dk_184 2 79 (dk_at dksJ18_compareTo_2_2 5 rfl rfl)
theorem dJ18_compareTo_2_54 : decode cJ18_compareTo_2 54 = .ok (.goto 8, 3) := dk_167 0 8 (dk_at dksJ18_compareTo_2_2 8 rfl rfl)
theorem dJ18_compareTo_2_57 : decode cJ18_compareTo_2 57 = .ok (.aload_n 2, 1) := dk_44 (dk_at dksJ18_compareTo_2_2 11 rfl rfl)
theorem dJ18_compareTo_2_58 : decode cJ18_compareTo_2 58 = .ok (.aload_n 3, 1) := dk_45 (dk_at dksJ18_compareTo_2_2 12 rfl rfl)
theorem dJ18_compareTo_2_59 : decode cJ18_compareTo_2 59 = .ok (.invokestatic 594, 3) := dk_184 2 82 (dk_at dksJ18_compareTo_2_2 13 rfl rfl)
theorem dJ18_compareTo_2_62 : decode cJ18_compareTo_2 62 = .ok (.ireturn, 1) := dk_172 (dk_at dksJ18_compareTo_2_2 16 rfl rfl)
abbrev cJ18_coder : ByteArray := prog_33_method_152_code
def yJ18_coder : MethodName := ⟨RJ18, "coder", "()B"⟩
def dkwJ18_coder_0 : List UInt8 := [178, 0, 38, 153, 0, 10, 42, 180, 0, 15, 167, 0, 4, 4, 172]
abbrev dktJ18_coder_0 : List UInt8 := dkwJ18_coder_0 ++ []
theorem dksJ18_coder_0 : cJ18_coder.data.toList.drop 0 = dktJ18_coder_0 := by decide +kernel
theorem dJ18_coder_0 : decode cJ18_coder 0 = .ok (.getstatic 38, 3) := dk_178 0 38 (dk_at dksJ18_coder_0 0 rfl rfl)
theorem dJ18_coder_3 : decode cJ18_coder 3 = .ok (.ifCond .eq 10, 3) := dk_153 0 10 (dk_at dksJ18_coder_0 3 rfl rfl)
theorem dJ18_coder_6 : decode cJ18_coder 6 = .ok (.aload_n 0, 1) := dk_42 (dk_at dksJ18_coder_0 6 rfl rfl)
theorem dJ18_coder_7 : decode cJ18_coder 7 = .ok (.getfield 15, 3) := dk_180 0 15 (dk_at dksJ18_coder_0 7 rfl rfl)
theorem dJ18_coder_10 : decode cJ18_coder 10 = .ok (.goto 4, 3) := dk_167 0 4 (dk_at dksJ18_coder_0 10 rfl rfl)
theorem dJ18_coder_13 : decode cJ18_coder 13 = .ok (.iconst 1, 1) := dk_4 (dk_at dksJ18_coder_0 13 rfl rfl)
theorem dJ18_coder_14 : decode cJ18_coder 14 = .ok (.ireturn, 1) := dk_172 (dk_at dksJ18_coder_0 14 rfl rfl)
abbrev cJ18_checkOffset : ByteArray := prog_33_method_156_code
def yJ18_checkOffset : MethodName := ⟨RJ18, "checkOffset", "(II)V"⟩
def dkwJ18_checkOffset_0 : List UInt8 := [26, 27, 27, 178, 4, 29, 184, 4, 38, 87, 177]
abbrev dktJ18_checkOffset_0 : List UInt8 := dkwJ18_checkOffset_0 ++ []
theorem dksJ18_checkOffset_0 : cJ18_checkOffset.data.toList.drop 0 = dktJ18_checkOffset_0 := by decide +kernel
theorem dJ18_checkOffset_0 : decode cJ18_checkOffset 0 = .ok (.iload_n 0, 1) := dk_26 (dk_at dksJ18_checkOffset_0 0 rfl rfl)
theorem dJ18_checkOffset_1 : decode cJ18_checkOffset 1 = .ok (.iload_n 1, 1) := dk_27 (dk_at dksJ18_checkOffset_0 1 rfl rfl)
theorem dJ18_checkOffset_2 : decode cJ18_checkOffset 2 = .ok (.iload_n 1, 1) := dk_27 (dk_at dksJ18_checkOffset_0 2 rfl rfl)
theorem dJ18_checkOffset_3 : decode cJ18_checkOffset 3 = .ok (.getstatic 1053, 3) := dk_178 4 29 (dk_at dksJ18_checkOffset_0 3 rfl rfl)
theorem dJ18_checkOffset_6 : decode cJ18_checkOffset 6 = .ok (.invokestatic 1062, 3) := dk_184 4 38 (dk_at dksJ18_checkOffset_0 6 rfl rfl)
theorem dJ18_checkOffset_9 : decode cJ18_checkOffset 9 = .ok (.pop, 1) := dk_87 (dk_at dksJ18_checkOffset_0 9 rfl rfl)
theorem dJ18_checkOffset_10 : decode cJ18_checkOffset 10 = .ok (.return_, 1) := dk_177 (dk_at dksJ18_checkOffset_0 10 rfl rfl)
abbrev cJ18_checkBoundsBeginEnd : ByteArray := prog_33_method_158_code
def yJ18_checkBoundsBeginEnd : MethodName := ⟨RJ18, "checkBoundsBeginEnd", "(III)V"⟩
def dkwJ18_checkBoundsBeginEnd_0 : List UInt8 := [26, 27, 28, 178, 4, 29, 184, 4, 38, 87, 177]
abbrev dktJ18_checkBoundsBeginEnd_0 : List UInt8 := dkwJ18_checkBoundsBeginEnd_0 ++ []
theorem dksJ18_checkBoundsBeginEnd_0 : cJ18_checkBoundsBeginEnd.data.toList.drop 0 = dktJ18_checkBoundsBeginEnd_0 := by decide +kernel
theorem dJ18_checkBoundsBeginEnd_0 : decode cJ18_checkBoundsBeginEnd 0 = .ok (.iload_n 0, 1) := dk_26 (dk_at dksJ18_checkBoundsBeginEnd_0 0 rfl rfl)
theorem dJ18_checkBoundsBeginEnd_1 : decode cJ18_checkBoundsBeginEnd 1 = .ok (.iload_n 1, 1) := dk_27 (dk_at dksJ18_checkBoundsBeginEnd_0 1 rfl rfl)
theorem dJ18_checkBoundsBeginEnd_2 : decode cJ18_checkBoundsBeginEnd 2 = .ok (.iload_n 2, 1) := dk_28 (dk_at dksJ18_checkBoundsBeginEnd_0 2 rfl rfl)
theorem dJ18_checkBoundsBeginEnd_3 : decode cJ18_checkBoundsBeginEnd 3 = .ok (.getstatic 1053, 3) := dk_178 4 29 (dk_at dksJ18_checkBoundsBeginEnd_0 3 rfl rfl)
theorem dJ18_checkBoundsBeginEnd_6 : decode cJ18_checkBoundsBeginEnd 6 = .ok (.invokestatic 1062, 3) := dk_184 4 38 (dk_at dksJ18_checkBoundsBeginEnd_0 6 rfl rfl)
theorem dJ18_checkBoundsBeginEnd_9 : decode cJ18_checkBoundsBeginEnd 9 = .ok (.pop, 1) := dk_87 (dk_at dksJ18_checkBoundsBeginEnd_0 9 rfl rfl)
theorem dJ18_checkBoundsBeginEnd_10 : decode cJ18_checkBoundsBeginEnd 10 = .ok (.return_, 1) := dk_177 (dk_at dksJ18_checkBoundsBeginEnd_0 10 rfl rfl)
abbrev cJ18_length : ByteArray := prog_33_method_54_code
def yJ18_length : MethodName := ⟨RJ18, "length", "()I"⟩
def dkwJ18_length_0 : List UInt8 := [42, 180, 0, 9, 190, 42, 182, 1, 79, 122, 172]
abbrev dktJ18_length_0 : List UInt8 := dkwJ18_length_0 ++ []
theorem dksJ18_length_0 : cJ18_length.data.toList.drop 0 = dktJ18_length_0 := by decide +kernel
theorem dJ18_length_0 : decode cJ18_length 0 = .ok (.aload_n 0, 1) := dk_42 (dk_at dksJ18_length_0 0 rfl rfl)
theorem dJ18_length_1 : decode cJ18_length 1 = .ok (.getfield 9, 3) := dk_180 0 9 (dk_at dksJ18_length_0 1 rfl rfl)
theorem dJ18_length_4 : decode cJ18_length 4 = .ok (.arraylength, 1) := dk_190 (dk_at dksJ18_length_0 4 rfl rfl)
theorem dJ18_length_5 : decode cJ18_length 5 = .ok (.aload_n 0, 1) := dk_42 (dk_at dksJ18_length_0 5 rfl rfl)
theorem dJ18_length_6 : decode cJ18_length 6 = .ok (.invokevirtual 335, 3) := dk_182 1 79 (dk_at dksJ18_length_0 6 rfl rfl)
theorem dJ18_length_9 : decode cJ18_length 9 = .ok (.ishr, 1) := dk_122 (dk_at dksJ18_length_0 9 rfl rfl)
theorem dJ18_length_10 : decode cJ18_length 10 = .ok (.ireturn, 1) := dk_172 (dk_at dksJ18_length_0 10 rfl rfl)
abbrev cJ18_checkBoundsOffCount : ByteArray := prog_33_method_157_code
def yJ18_checkBoundsOffCount : MethodName := ⟨RJ18, "checkBoundsOffCount", "(III)I"⟩
def dkwJ18_checkBoundsOffCount_0 : List UInt8 := [26, 27, 28, 178, 4, 29, 184, 4, 41, 172]
abbrev dktJ18_checkBoundsOffCount_0 : List UInt8 := dkwJ18_checkBoundsOffCount_0 ++ []
theorem dksJ18_checkBoundsOffCount_0 : cJ18_checkBoundsOffCount.data.toList.drop 0 = dktJ18_checkBoundsOffCount_0 := by decide +kernel
theorem dJ18_checkBoundsOffCount_0 : decode cJ18_checkBoundsOffCount 0 = .ok (.iload_n 0, 1) := dk_26 (dk_at dksJ18_checkBoundsOffCount_0 0 rfl rfl)
theorem dJ18_checkBoundsOffCount_1 : decode cJ18_checkBoundsOffCount 1 = .ok (.iload_n 1, 1) := dk_27 (dk_at dksJ18_checkBoundsOffCount_0 1 rfl rfl)
theorem dJ18_checkBoundsOffCount_2 : decode cJ18_checkBoundsOffCount 2 = .ok (.iload_n 2, 1) := dk_28 (dk_at dksJ18_checkBoundsOffCount_0 2 rfl rfl)
theorem dJ18_checkBoundsOffCount_3 : decode cJ18_checkBoundsOffCount 3 = .ok (.getstatic 1053, 3) := dk_178 4 29 (dk_at dksJ18_checkBoundsOffCount_0 3 rfl rfl)
theorem dJ18_checkBoundsOffCount_6 : decode cJ18_checkBoundsOffCount 6 = .ok (.invokestatic 1065, 3) := dk_184 4 41 (dk_at dksJ18_checkBoundsOffCount_0 6 rfl rfl)
theorem dJ18_checkBoundsOffCount_9 : decode cJ18_checkBoundsOffCount 9 = .ok (.ireturn, 1) := dk_172 (dk_at dksJ18_checkBoundsOffCount_0 9 rfl rfl)
abbrev cJ18_getBytes : ByteArray := prog_33_method_147_code
def yJ18_getBytes : MethodName := ⟨RJ18, "getBytes", "([BIB)V"⟩
def dkwJ18_getBytes_1 : List UInt8 := [184, 0, 212, 167, 0, 18, 42, 180, 0, 9, 3, 43, 28, 42, 180, 0, 9, 190, 184, 0, 106, 177]
abbrev dktJ18_getBytes_1 : List UInt8 := dkwJ18_getBytes_1 ++ []
def dkwJ18_getBytes_0 : List UInt8 := [42, 182, 1, 79, 29, 160, 0, 23, 42, 180, 0, 9, 3, 43, 28, 29, 120, 42, 180, 0, 9, 190]
abbrev dktJ18_getBytes_0 : List UInt8 := dkwJ18_getBytes_0 ++ dktJ18_getBytes_1
theorem dksJ18_getBytes_0 : cJ18_getBytes.data.toList.drop 0 = dktJ18_getBytes_0 := by decide +kernel
theorem dksJ18_getBytes_1 : cJ18_getBytes.data.toList.drop 22 = dktJ18_getBytes_1 := dk_seg dksJ18_getBytes_0 22 rfl rfl
theorem dJ18_getBytes_0 : decode cJ18_getBytes 0 = .ok (.aload_n 0, 1) := dk_42 (dk_at dksJ18_getBytes_0 0 rfl rfl)
theorem dJ18_getBytes_1 : decode cJ18_getBytes 1 = .ok (.invokevirtual 335, 3) := dk_182 1 79 (dk_at dksJ18_getBytes_0 1 rfl rfl)
theorem dJ18_getBytes_4 : decode cJ18_getBytes 4 = .ok (.iload_n 3, 1) := dk_29 (dk_at dksJ18_getBytes_0 4 rfl rfl)
theorem dJ18_getBytes_5 : decode cJ18_getBytes 5 = .ok (.if_icmp .ne 23, 3) := dk_160 0 23 (dk_at dksJ18_getBytes_0 5 rfl rfl)
theorem dJ18_getBytes_8 : decode cJ18_getBytes 8 = .ok (.aload_n 0, 1) := dk_42 (dk_at dksJ18_getBytes_0 8 rfl rfl)
theorem dJ18_getBytes_9 : decode cJ18_getBytes 9 = .ok (.getfield 9, 3) := dk_180 0 9 (dk_at dksJ18_getBytes_0 9 rfl rfl)
theorem dJ18_getBytes_12 : decode cJ18_getBytes 12 = .ok (.iconst 0, 1) := dk_3 (dk_at dksJ18_getBytes_0 12 rfl rfl)
theorem dJ18_getBytes_13 : decode cJ18_getBytes 13 = .ok (.aload_n 1, 1) := dk_43 (dk_at dksJ18_getBytes_0 13 rfl rfl)
theorem dJ18_getBytes_14 : decode cJ18_getBytes 14 = .ok (.iload_n 2, 1) := dk_28 (dk_at dksJ18_getBytes_0 14 rfl rfl)
theorem dJ18_getBytes_15 : decode cJ18_getBytes 15 = .ok (.iload_n 3, 1) := dk_29 (dk_at dksJ18_getBytes_0 15 rfl rfl)
theorem dJ18_getBytes_16 : decode cJ18_getBytes 16 = .ok (.ishl, 1) := dk_120 (dk_at dksJ18_getBytes_0 16 rfl rfl)
theorem dJ18_getBytes_17 : decode cJ18_getBytes 17 = .ok (.aload_n 0, 1) := dk_42 (dk_at dksJ18_getBytes_0 17 rfl rfl)
theorem dJ18_getBytes_18 : decode cJ18_getBytes 18 = .ok (.getfield 9, 3) := dk_180 0 9 (dk_at dksJ18_getBytes_0 18 rfl rfl)
theorem dJ18_getBytes_21 : decode cJ18_getBytes 21 = .ok (.arraylength, 1) := dk_190 (dk_at dksJ18_getBytes_0 21 rfl rfl)
theorem dJ18_getBytes_22 : decode cJ18_getBytes 22 = .ok (.invokestatic 212, 3) := dk_184 0 212 (dk_at dksJ18_getBytes_1 0 rfl rfl)
theorem dJ18_getBytes_25 : decode cJ18_getBytes 25 = .ok (.goto 18, 3) := dk_167 0 18 (dk_at dksJ18_getBytes_1 3 rfl rfl)
theorem dJ18_getBytes_28 : decode cJ18_getBytes 28 = .ok (.aload_n 0, 1) := dk_42 (dk_at dksJ18_getBytes_1 6 rfl rfl)
theorem dJ18_getBytes_29 : decode cJ18_getBytes 29 = .ok (.getfield 9, 3) := dk_180 0 9 (dk_at dksJ18_getBytes_1 7 rfl rfl)
theorem dJ18_getBytes_32 : decode cJ18_getBytes 32 = .ok (.iconst 0, 1) := dk_3 (dk_at dksJ18_getBytes_1 10 rfl rfl)
theorem dJ18_getBytes_33 : decode cJ18_getBytes 33 = .ok (.aload_n 1, 1) := dk_43 (dk_at dksJ18_getBytes_1 11 rfl rfl)
theorem dJ18_getBytes_34 : decode cJ18_getBytes 34 = .ok (.iload_n 2, 1) := dk_28 (dk_at dksJ18_getBytes_1 12 rfl rfl)
theorem dJ18_getBytes_35 : decode cJ18_getBytes 35 = .ok (.aload_n 0, 1) := dk_42 (dk_at dksJ18_getBytes_1 13 rfl rfl)
theorem dJ18_getBytes_36 : decode cJ18_getBytes 36 = .ok (.getfield 9, 3) := dk_180 0 9 (dk_at dksJ18_getBytes_1 14 rfl rfl)
theorem dJ18_getBytes_39 : decode cJ18_getBytes 39 = .ok (.arraylength, 1) := dk_190 (dk_at dksJ18_getBytes_1 17 rfl rfl)
theorem dJ18_getBytes_40 : decode cJ18_getBytes 40 = .ok (.invokestatic 106, 3) := dk_184 0 106 (dk_at dksJ18_getBytes_1 18 rfl rfl)
theorem dJ18_getBytes_43 : decode cJ18_getBytes 43 = .ok (.return_, 1) := dk_177 (dk_at dksJ18_getBytes_1 21 rfl rfl)
abbrev cJ18_init : ByteArray := prog_33_method_53_code
def yJ18_init : MethodName := ⟨RJ18, "<init>", "(Ljava/lang/StringBuilder;)V"⟩
def dkwJ18_init_0 : List UInt8 := [42, 43, 1, 183, 1, 233, 177]
abbrev dktJ18_init_0 : List UInt8 := dkwJ18_init_0 ++ []
theorem dksJ18_init_0 : cJ18_init.data.toList.drop 0 = dktJ18_init_0 := by decide +kernel
theorem dJ18_init_0 : decode cJ18_init 0 = .ok (.aload_n 0, 1) := dk_42 (dk_at dksJ18_init_0 0 rfl rfl)
theorem dJ18_init_1 : decode cJ18_init 1 = .ok (.aload_n 1, 1) := dk_43 (dk_at dksJ18_init_0 1 rfl rfl)
theorem dJ18_init_2 : decode cJ18_init 2 = .ok (.aconst_null, 1) := dk_1 (dk_at dksJ18_init_0 2 rfl rfl)
theorem dJ18_init_3 : decode cJ18_init 3 = .ok (.invokespecial 489, 3) := dk_183 1 233 (dk_at dksJ18_init_0 3 rfl rfl)
theorem dJ18_init_6 : decode cJ18_init 6 = .ok (.return_, 1) := dk_177 (dk_at dksJ18_init_0 6 rfl rfl)
abbrev cJ18_init_2 : ByteArray := prog_33_method_150_code
def yJ18_init_2 : MethodName := ⟨RJ18, "<init>", "(Ljava/lang/AbstractStringBuilder;Ljava/lang/Void;)V"⟩
def dkwJ18_init_2_4 : List UInt8 := [181, 0, 9, 177]
abbrev dktJ18_init_2_4 : List UInt8 := dkwJ18_init_2_4 ++ []
def dkwJ18_init_2_3 : List UInt8 := [184, 0, 47, 181, 0, 15, 177, 42, 4, 181, 0, 15, 42, 45, 3, 21, 4, 4, 120, 184, 0, 54]
abbrev dktJ18_init_2_3 : List UInt8 := dkwJ18_init_2_3 ++ dktJ18_init_2_4
def dkwJ18_init_2_2 : List UInt8 := [180, 4, 24, 153, 0, 28, 42, 45, 3, 21, 4, 184, 4, 27, 181, 0, 9, 42, 42, 180, 0, 9, 21, 4]
abbrev dktJ18_init_2_2 : List UInt8 := dkwJ18_init_2_2 ++ dktJ18_init_2_3
def dkwJ18_init_2_1 : List UInt8 := [181, 0, 15, 42, 45, 3, 21, 4, 184, 0, 54, 181, 0, 9, 167, 0, 59, 178, 0, 38, 153, 0, 35, 43]
abbrev dktJ18_init_2_1 : List UInt8 := dkwJ18_init_2_1 ++ dktJ18_init_2_2
def dkwJ18_init_2_0 : List UInt8 := [42, 183, 0, 1, 43, 182, 2, 40, 78, 43, 182, 2, 37, 54, 4, 43, 182, 4, 23, 153, 0, 22, 42, 3]
abbrev dktJ18_init_2_0 : List UInt8 := dkwJ18_init_2_0 ++ dktJ18_init_2_1
theorem dksJ18_init_2_0 : cJ18_init_2.data.toList.drop 0 = dktJ18_init_2_0 := by decide +kernel
theorem dksJ18_init_2_1 : cJ18_init_2.data.toList.drop 24 = dktJ18_init_2_1 := dk_seg dksJ18_init_2_0 24 rfl rfl
theorem dksJ18_init_2_2 : cJ18_init_2.data.toList.drop 48 = dktJ18_init_2_2 := dk_seg dksJ18_init_2_1 24 rfl rfl
theorem dksJ18_init_2_3 : cJ18_init_2.data.toList.drop 72 = dktJ18_init_2_3 := dk_seg dksJ18_init_2_2 24 rfl rfl
theorem dksJ18_init_2_4 : cJ18_init_2.data.toList.drop 94 = dktJ18_init_2_4 := dk_seg dksJ18_init_2_3 22 rfl rfl
theorem dJ18_init_2_0 : decode cJ18_init_2 0 = .ok (.aload_n 0, 1) := dk_42 (dk_at dksJ18_init_2_0 0 rfl rfl)
theorem dJ18_init_2_1 : decode cJ18_init_2 1 = .ok (.invokespecial 1, 3) := dk_183 0 1 (dk_at dksJ18_init_2_0 1 rfl rfl)
theorem dJ18_init_2_4 : decode cJ18_init_2 4 = .ok (.aload_n 1, 1) := dk_43 (dk_at dksJ18_init_2_0 4 rfl rfl)
theorem dJ18_init_2_5 : decode cJ18_init_2 5 = .ok (.invokevirtual 552, 3) := dk_182 2 40 (dk_at dksJ18_init_2_0 5 rfl rfl)
theorem dJ18_init_2_8 : decode cJ18_init_2 8 = .ok (.astore_n 3, 1) := dk_78 (dk_at dksJ18_init_2_0 8 rfl rfl)
theorem dJ18_init_2_9 : decode cJ18_init_2 9 = .ok (.aload_n 1, 1) := dk_43 (dk_at dksJ18_init_2_0 9 rfl rfl)
theorem dJ18_init_2_10 : decode cJ18_init_2 10 = .ok (.invokevirtual 549, 3) := dk_182 2 37 (dk_at dksJ18_init_2_0 10 rfl rfl)
theorem dJ18_init_2_13 : decode cJ18_init_2 13 = .ok (.istore 4, 2) := dk_54 4 (dk_at dksJ18_init_2_0 13 rfl rfl)
theorem dJ18_init_2_15 : decode cJ18_init_2 15 = .ok (.aload_n 1, 1) := dk_43 (dk_at dksJ18_init_2_0 15 rfl rfl)
theorem dJ18_init_2_16 : decode cJ18_init_2 16 = .ok (.invokevirtual 1047, 3) := dk_182 4 23 (dk_at dksJ18_init_2_0 16 rfl rfl)
theorem dJ18_init_2_19 : decode cJ18_init_2 19 = .ok (.ifCond .eq 22, 3) := dk_153 0 22 (dk_at dksJ18_init_2_0 19 rfl rfl)
theorem dJ18_init_2_22 : decode cJ18_init_2 22 = .ok (.aload_n 0, 1) := dk_42 (dk_at dksJ18_init_2_0 22 rfl rfl)
theorem dJ18_init_2_23 : decode cJ18_init_2 23 = .ok (.iconst 0, 1) := dk_3 (dk_at dksJ18_init_2_0 23 rfl rfl)
theorem dJ18_init_2_24 : decode cJ18_init_2 24 = .ok (.putfield 15, 3) := dk_181 0 15 (dk_at dksJ18_init_2_1 0 rfl rfl)
theorem dJ18_init_2_27 : decode cJ18_init_2 27 = .ok (.aload_n 0, 1) := dk_42 (dk_at dksJ18_init_2_1 3 rfl rfl)
theorem dJ18_init_2_28 : decode cJ18_init_2 28 = .ok (.aload_n 3, 1) := dk_45 (dk_at dksJ18_init_2_1 4 rfl rfl)
theorem dJ18_init_2_29 : decode cJ18_init_2 29 = .ok (.iconst 0, 1) := dk_3 (dk_at dksJ18_init_2_1 5 rfl rfl)
theorem dJ18_init_2_30 : decode cJ18_init_2 30 = .ok (.iload 4, 2) := dk_21 4 (dk_at dksJ18_init_2_1 6 rfl rfl)
theorem dJ18_init_2_32 : decode cJ18_init_2 32 = .ok (.invokestatic 54, 3) := dk_184 0 54 (dk_at dksJ18_init_2_1 8 rfl rfl)
theorem dJ18_init_2_35 : decode cJ18_init_2 35 = .ok (.putfield 9, 3) := dk_181 0 9 (dk_at dksJ18_init_2_1 11 rfl rfl)
theorem dJ18_init_2_38 : decode cJ18_init_2 38 = .ok (.goto 59, 3) := dk_167 0 59 (dk_at dksJ18_init_2_1 14 rfl rfl)
theorem dJ18_init_2_41 : decode cJ18_init_2 41 = .ok (.getstatic 38, 3) := dk_178 0 38 (dk_at dksJ18_init_2_1 17 rfl rfl)
theorem dJ18_init_2_44 : decode cJ18_init_2 44 = .ok (.ifCond .eq 35, 3) := dk_153 0 35 (dk_at dksJ18_init_2_1 20 rfl rfl)
theorem dJ18_init_2_47 : decode cJ18_init_2 47 = .ok (.aload_n 1, 1) := dk_43 (dk_at dksJ18_init_2_1 23 rfl rfl)
theorem dJ18_init_2_48 : decode cJ18_init_2 48 = .ok (.getfield 1048, 3) := dk_180 4 24 (dk_at dksJ18_init_2_2 0 rfl rfl)
theorem dJ18_init_2_51 : decode cJ18_init_2 51 = .ok (.ifCond .eq 28, 3) := dk_153 0 28 (dk_at dksJ18_init_2_2 3 rfl rfl)
theorem dJ18_init_2_54 : decode cJ18_init_2 54 = .ok (.aload_n 0, 1) := dk_42 (dk_at dksJ18_init_2_2 6 rfl rfl)
theorem dJ18_init_2_55 : decode cJ18_init_2 55 = .ok (.aload_n 3, 1) := dk_45 (dk_at dksJ18_init_2_2 7 rfl rfl)
theorem dJ18_init_2_56 : decode cJ18_init_2 56 = .ok (.iconst 0, 1) := dk_3 (dk_at dksJ18_init_2_2 8 rfl rfl)
theorem dJ18_init_2_57 : decode cJ18_init_2 57 = .ok (.iload 4, 2) := dk_21 4 (dk_at dksJ18_init_2_2 9 rfl rfl)
theorem dJ18_init_2_59 : decode cJ18_init_2 59 = .ok (.invokestatic 1051, 3) := dk_184 4 27 (dk_at dksJ18_init_2_2 11 rfl rfl)
theorem dJ18_init_2_62 : decode cJ18_init_2 62 = .ok (.putfield 9, 3) := dk_181 0 9 (dk_at dksJ18_init_2_2 14 rfl rfl)
theorem dJ18_init_2_65 : decode cJ18_init_2 65 = .ok (.aload_n 0, 1) := dk_42 (dk_at dksJ18_init_2_2 17 rfl rfl)
theorem dJ18_init_2_66 : decode cJ18_init_2 66 = .ok (.aload_n 0, 1) := dk_42 (dk_at dksJ18_init_2_2 18 rfl rfl)
theorem dJ18_init_2_67 : decode cJ18_init_2 67 = .ok (.getfield 9, 3) := dk_180 0 9 (dk_at dksJ18_init_2_2 19 rfl rfl)
theorem dJ18_init_2_70 : decode cJ18_init_2 70 = .ok (.iload 4, 2) := dk_21 4 (dk_at dksJ18_init_2_2 22 rfl rfl)
theorem dJ18_init_2_72 : decode cJ18_init_2 72 = .ok (.invokestatic 47, 3) := dk_184 0 47 (dk_at dksJ18_init_2_3 0 rfl rfl)
theorem dJ18_init_2_75 : decode cJ18_init_2 75 = .ok (.putfield 15, 3) := dk_181 0 15 (dk_at dksJ18_init_2_3 3 rfl rfl)
theorem dJ18_init_2_78 : decode cJ18_init_2 78 = .ok (.return_, 1) := dk_177 (dk_at dksJ18_init_2_3 6 rfl rfl)
theorem dJ18_init_2_79 : decode cJ18_init_2 79 = .ok (.aload_n 0, 1) := dk_42 (dk_at dksJ18_init_2_3 7 rfl rfl)
theorem dJ18_init_2_80 : decode cJ18_init_2 80 = .ok (.iconst 1, 1) := dk_4 (dk_at dksJ18_init_2_3 8 rfl rfl)
theorem dJ18_init_2_81 : decode cJ18_init_2 81 = .ok (.putfield 15, 3) := dk_181 0 15 (dk_at dksJ18_init_2_3 9 rfl rfl)
theorem dJ18_init_2_84 : decode cJ18_init_2 84 = .ok (.aload_n 0, 1) := dk_42 (dk_at dksJ18_init_2_3 12 rfl rfl)
theorem dJ18_init_2_85 : decode cJ18_init_2 85 = .ok (.aload_n 3, 1) := dk_45 (dk_at dksJ18_init_2_3 13 rfl rfl)
theorem dJ18_init_2_86 : decode cJ18_init_2 86 = .ok (.iconst 0, 1) := dk_3 (dk_at dksJ18_init_2_3 14 rfl rfl)
theorem dJ18_init_2_87 : decode cJ18_init_2 87 = .ok (.iload 4, 2) := dk_21 4 (dk_at dksJ18_init_2_3 15 rfl rfl)
theorem dJ18_init_2_89 : decode cJ18_init_2 89 = .ok (.iconst 1, 1) := dk_4 (dk_at dksJ18_init_2_3 17 rfl rfl)
theorem dJ18_init_2_90 : decode cJ18_init_2 90 = .ok (.ishl, 1) := dk_120 (dk_at dksJ18_init_2_3 18 rfl rfl)
theorem dJ18_init_2_91 : decode cJ18_init_2 91 = .ok (.invokestatic 54, 3) := dk_184 0 54 (dk_at dksJ18_init_2_3 19 rfl rfl)
theorem dJ18_init_2_94 : decode cJ18_init_2 94 = .ok (.putfield 9, 3) := dk_181 0 9 (dk_at dksJ18_init_2_4 0 rfl rfl)
theorem dJ18_init_2_97 : decode cJ18_init_2 97 = .ok (.return_, 1) := dk_177 (dk_at dksJ18_init_2_4 3 rfl rfl)
abbrev cJ18_equals : ByteArray := prog_33_method_66_code
def yJ18_equals : MethodName := ⟨RJ18, "equals", "(Ljava/lang/Object;)Z"⟩
def dkwJ18_equals_2 : List UInt8 := [184, 2, 29, 153, 0, 7, 4, 167, 0, 4, 3, 172]
abbrev dktJ18_equals_2 : List UInt8 := dkwJ18_equals_2 ++ []
def dkwJ18_equals_1 : List UInt8 := [153, 0, 14, 42, 180, 0, 15, 44, 180, 0, 15, 160, 0, 21, 42, 180, 0, 9, 44, 180, 0, 9]
abbrev dktJ18_equals_1 : List UInt8 := dkwJ18_equals_1 ++ dktJ18_equals_2
def dkwJ18_equals_0 : List UInt8 := [42, 43, 166, 0, 5, 4, 172, 43, 193, 0, 10, 153, 0, 43, 43, 192, 0, 10, 77, 178, 0, 38]
abbrev dktJ18_equals_0 : List UInt8 := dkwJ18_equals_0 ++ dktJ18_equals_1
theorem dksJ18_equals_0 : cJ18_equals.data.toList.drop 0 = dktJ18_equals_0 := by decide +kernel
theorem dksJ18_equals_1 : cJ18_equals.data.toList.drop 22 = dktJ18_equals_1 := dk_seg dksJ18_equals_0 22 rfl rfl
theorem dksJ18_equals_2 : cJ18_equals.data.toList.drop 44 = dktJ18_equals_2 := dk_seg dksJ18_equals_1 22 rfl rfl
theorem dJ18_equals_0 : decode cJ18_equals 0 = .ok (.aload_n 0, 1) := dk_42 (dk_at dksJ18_equals_0 0 rfl rfl)
theorem dJ18_equals_1 : decode cJ18_equals 1 = .ok (.aload_n 1, 1) := dk_43 (dk_at dksJ18_equals_0 1 rfl rfl)
theorem dJ18_equals_2 : decode cJ18_equals 2 = .ok (.if_acmp .ne 5, 3) := dk_166 0 5 (dk_at dksJ18_equals_0 2 rfl rfl)
theorem dJ18_equals_5 : decode cJ18_equals 5 = .ok (.iconst 1, 1) := dk_4 (dk_at dksJ18_equals_0 5 rfl rfl)
theorem dJ18_equals_6 : decode cJ18_equals 6 = .ok (.ireturn, 1) := dk_172 (dk_at dksJ18_equals_0 6 rfl rfl)
theorem dJ18_equals_7 : decode cJ18_equals 7 = .ok (.aload_n 1, 1) := dk_43 (dk_at dksJ18_equals_0 7 rfl rfl)
theorem dJ18_equals_8 : decode cJ18_equals 8 = .ok (.instanceof 10, 3) := dk_193 0 10 (dk_at dksJ18_equals_0 8 rfl rfl)
theorem dJ18_equals_11 : decode cJ18_equals 11 = .ok (.ifCond .eq 43, 3) := dk_153 0 43 (dk_at dksJ18_equals_0 11 rfl rfl)
theorem dJ18_equals_14 : decode cJ18_equals 14 = .ok (.aload_n 1, 1) := dk_43 (dk_at dksJ18_equals_0 14 rfl rfl)
theorem dJ18_equals_15 : decode cJ18_equals 15 = .ok (.checkcast 10, 3) := dk_192 0 10 (dk_at dksJ18_equals_0 15 rfl rfl)
theorem dJ18_equals_18 : decode cJ18_equals 18 = .ok (.astore_n 2, 1) := dk_77 (dk_at dksJ18_equals_0 18 rfl rfl)
theorem dJ18_equals_19 : decode cJ18_equals 19 = .ok (.getstatic 38, 3) := dk_178 0 38 (dk_at dksJ18_equals_0 19 rfl rfl)
theorem dJ18_equals_22 : decode cJ18_equals 22 = .ok (.ifCond .eq 14, 3) := dk_153 0 14 (dk_at dksJ18_equals_1 0 rfl rfl)
theorem dJ18_equals_25 : decode cJ18_equals 25 = .ok (.aload_n 0, 1) := dk_42 (dk_at dksJ18_equals_1 3 rfl rfl)
theorem dJ18_equals_26 : decode cJ18_equals 26 = .ok (.getfield 15, 3) := dk_180 0 15 (dk_at dksJ18_equals_1 4 rfl rfl)
theorem dJ18_equals_29 : decode cJ18_equals 29 = .ok (.aload_n 2, 1) := dk_44 (dk_at dksJ18_equals_1 7 rfl rfl)
theorem dJ18_equals_30 : decode cJ18_equals 30 = .ok (.getfield 15, 3) := dk_180 0 15 (dk_at dksJ18_equals_1 8 rfl rfl)
theorem dJ18_equals_33 : decode cJ18_equals 33 = .ok (.if_icmp .ne 21, 3) := dk_160 0 21 (dk_at dksJ18_equals_1 11 rfl rfl)
theorem dJ18_equals_36 : decode cJ18_equals 36 = .ok (.aload_n 0, 1) := dk_42 (dk_at dksJ18_equals_1 14 rfl rfl)
theorem dJ18_equals_37 : decode cJ18_equals 37 = .ok (.getfield 9, 3) := dk_180 0 9 (dk_at dksJ18_equals_1 15 rfl rfl)
theorem dJ18_equals_40 : decode cJ18_equals 40 = .ok (.aload_n 2, 1) := dk_44 (dk_at dksJ18_equals_1 18 rfl rfl)
theorem dJ18_equals_41 : decode cJ18_equals 41 = .ok (.getfield 9, 3) := dk_180 0 9 (dk_at dksJ18_equals_1 19 rfl rfl)
theorem dJ18_equals_44 : decode cJ18_equals 44 = .ok (.invokestatic 541, 3) := dk_184 2 29 (dk_at dksJ18_equals_2 0 rfl rfl)
theorem dJ18_equals_47 : decode cJ18_equals 47 = .ok (.ifCond .eq 7, 3) := dk_153 0 7 (dk_at dksJ18_equals_2 3 rfl rfl)
theorem dJ18_equals_50 : decode cJ18_equals 50 = .ok (.iconst 1, 1) := dk_4 (dk_at dksJ18_equals_2 6 rfl rfl)
theorem dJ18_equals_51 : decode cJ18_equals 51 = .ok (.goto 4, 3) := dk_167 0 4 (dk_at dksJ18_equals_2 7 rfl rfl)
theorem dJ18_equals_54 : decode cJ18_equals 54 = .ok (.iconst 0, 1) := dk_3 (dk_at dksJ18_equals_2 10 rfl rfl)
theorem dJ18_equals_55 : decode cJ18_equals 55 = .ok (.ireturn, 1) := dk_172 (dk_at dksJ18_equals_2 11 rfl rfl)
abbrev cJ18_checkIndex : ByteArray := prog_33_method_155_code
def yJ18_checkIndex : MethodName := ⟨RJ18, "checkIndex", "(II)V"⟩
def dkwJ18_checkIndex_0 : List UInt8 := [26, 27, 178, 4, 29, 184, 4, 35, 87, 177]
abbrev dktJ18_checkIndex_0 : List UInt8 := dkwJ18_checkIndex_0 ++ []
theorem dksJ18_checkIndex_0 : cJ18_checkIndex.data.toList.drop 0 = dktJ18_checkIndex_0 := by decide +kernel
theorem dJ18_checkIndex_0 : decode cJ18_checkIndex 0 = .ok (.iload_n 0, 1) := dk_26 (dk_at dksJ18_checkIndex_0 0 rfl rfl)
theorem dJ18_checkIndex_1 : decode cJ18_checkIndex 1 = .ok (.iload_n 1, 1) := dk_27 (dk_at dksJ18_checkIndex_0 1 rfl rfl)
theorem dJ18_checkIndex_2 : decode cJ18_checkIndex 2 = .ok (.getstatic 1053, 3) := dk_178 4 29 (dk_at dksJ18_checkIndex_0 2 rfl rfl)
theorem dJ18_checkIndex_5 : decode cJ18_checkIndex 5 = .ok (.invokestatic 1059, 3) := dk_184 4 35 (dk_at dksJ18_checkIndex_0 5 rfl rfl)
theorem dJ18_checkIndex_8 : decode cJ18_checkIndex 8 = .ok (.pop, 1) := dk_87 (dk_at dksJ18_checkIndex_0 8 rfl rfl)
theorem dJ18_checkIndex_9 : decode cJ18_checkIndex 9 = .ok (.return_, 1) := dk_177 (dk_at dksJ18_checkIndex_0 9 rfl rfl)
abbrev cJ18_startsWith : ByteArray := prog_33_method_76_code
def yJ18_startsWith : MethodName := ⟨RJ18, "startsWith", "(Ljava/lang/String;)Z"⟩
def dkwJ18_startsWith_0 : List UInt8 := [42, 43, 3, 182, 2, 112, 172]
abbrev dktJ18_startsWith_0 : List UInt8 := dkwJ18_startsWith_0 ++ []
theorem dksJ18_startsWith_0 : cJ18_startsWith.data.toList.drop 0 = dktJ18_startsWith_0 := by decide +kernel
theorem dJ18_startsWith_0 : decode cJ18_startsWith 0 = .ok (.aload_n 0, 1) := dk_42 (dk_at dksJ18_startsWith_0 0 rfl rfl)
theorem dJ18_startsWith_1 : decode cJ18_startsWith 1 = .ok (.aload_n 1, 1) := dk_43 (dk_at dksJ18_startsWith_0 1 rfl rfl)
theorem dJ18_startsWith_2 : decode cJ18_startsWith 2 = .ok (.iconst 0, 1) := dk_3 (dk_at dksJ18_startsWith_0 2 rfl rfl)
theorem dJ18_startsWith_3 : decode cJ18_startsWith 3 = .ok (.invokevirtual 624, 3) := dk_182 2 112 (dk_at dksJ18_startsWith_0 3 rfl rfl)
theorem dJ18_startsWith_6 : decode cJ18_startsWith 6 = .ok (.ireturn, 1) := dk_172 (dk_at dksJ18_startsWith_0 6 rfl rfl)
abbrev cJ18_startsWith_2 : ByteArray := prog_33_method_75_code
def yJ18_startsWith_2 : MethodName := ⟨RJ18, "startsWith", "(Ljava/lang/String;I)Z"⟩
def dkwJ18_startsWith_2_5 : List UInt8 := [159, 255, 229, 3, 172, 4, 172]
abbrev dktJ18_startsWith_2_5 : List UInt8 := dkwJ18_startsWith_2_5 ++ []
def dkwJ18_startsWith_2_4 : List UInt8 := [162, 0, 28, 45, 28, 132, 2, 1, 184, 1, 104, 25, 4, 21, 5, 132, 5, 1, 51, 17, 0, 255, 126]
abbrev dktJ18_startsWith_2_4 : List UInt8 := dkwJ18_startsWith_2_4 ++ dktJ18_startsWith_2_5
def dkwJ18_startsWith_2_3 : List UInt8 := [184, 2, 95, 156, 0, 7, 4, 167, 0, 4, 3, 172, 21, 7, 154, 0, 5, 3, 172, 21, 5, 21, 6]
abbrev dktJ18_startsWith_2_3 : List UInt8 := dkwJ18_startsWith_2_3 ++ dktJ18_startsWith_2_4
def dkwJ18_startsWith_2_2 : List UInt8 := [182, 1, 79, 160, 0, 32, 21, 7, 4, 160, 0, 7, 28, 4, 120, 61, 45, 28, 25, 4, 3, 21, 6]
abbrev dktJ18_startsWith_2_2 : List UInt8 := dkwJ18_startsWith_2_2 ++ dktJ18_startsWith_2_3
def dkwJ18_startsWith_2_1 : List UInt8 := [43, 180, 0, 9, 58, 4, 3, 54, 5, 25, 4, 190, 54, 6, 42, 182, 1, 79, 54, 7, 21, 7, 43]
abbrev dktJ18_startsWith_2_1 : List UInt8 := dkwJ18_startsWith_2_1 ++ dktJ18_startsWith_2_2
def dkwJ18_startsWith_2_0 : List UInt8 := [28, 155, 0, 16, 28, 42, 182, 1, 249, 43, 182, 1, 249, 100, 164, 0, 5, 3, 172, 42, 180, 0, 9, 78]
abbrev dktJ18_startsWith_2_0 : List UInt8 := dkwJ18_startsWith_2_0 ++ dktJ18_startsWith_2_1
theorem dksJ18_startsWith_2_0 : cJ18_startsWith_2.data.toList.drop 0 = dktJ18_startsWith_2_0 := by decide +kernel
theorem dksJ18_startsWith_2_1 : cJ18_startsWith_2.data.toList.drop 24 = dktJ18_startsWith_2_1 := dk_seg dksJ18_startsWith_2_0 24 rfl rfl
theorem dksJ18_startsWith_2_2 : cJ18_startsWith_2.data.toList.drop 47 = dktJ18_startsWith_2_2 := dk_seg dksJ18_startsWith_2_1 23 rfl rfl
theorem dksJ18_startsWith_2_3 : cJ18_startsWith_2.data.toList.drop 70 = dktJ18_startsWith_2_3 := dk_seg dksJ18_startsWith_2_2 23 rfl rfl
theorem dksJ18_startsWith_2_4 : cJ18_startsWith_2.data.toList.drop 93 = dktJ18_startsWith_2_4 := dk_seg dksJ18_startsWith_2_3 23 rfl rfl
theorem dksJ18_startsWith_2_5 : cJ18_startsWith_2.data.toList.drop 116 = dktJ18_startsWith_2_5 := dk_seg dksJ18_startsWith_2_4 23 rfl rfl
theorem dJ18_startsWith_2_0 : decode cJ18_startsWith_2 0 = .ok (.iload_n 2, 1) := dk_28 (dk_at dksJ18_startsWith_2_0 0 rfl rfl)
theorem dJ18_startsWith_2_1 : decode cJ18_startsWith_2 1 = .ok (.ifCond .lt 16, 3) := dk_155 0 16 (dk_at dksJ18_startsWith_2_0 1 rfl rfl)
theorem dJ18_startsWith_2_4 : decode cJ18_startsWith_2 4 = .ok (.iload_n 2, 1) := dk_28 (dk_at dksJ18_startsWith_2_0 4 rfl rfl)
theorem dJ18_startsWith_2_5 : decode cJ18_startsWith_2 5 = .ok (.aload_n 0, 1) := dk_42 (dk_at dksJ18_startsWith_2_0 5 rfl rfl)
theorem dJ18_startsWith_2_6 : decode cJ18_startsWith_2 6 = .ok (.invokevirtual 505, 3) := dk_182 1 249 (dk_at dksJ18_startsWith_2_0 6 rfl rfl)
theorem dJ18_startsWith_2_9 : decode cJ18_startsWith_2 9 = .ok (.aload_n 1, 1) := dk_43 (dk_at dksJ18_startsWith_2_0 9 rfl rfl)
theorem dJ18_startsWith_2_10 : decode cJ18_startsWith_2 10 = .ok (.invokevirtual 505, 3) := dk_182 1 249 (dk_at dksJ18_startsWith_2_0 10 rfl rfl)
theorem dJ18_startsWith_2_13 : decode cJ18_startsWith_2 13 = .ok (.isub, 1) := dk_100 (dk_at dksJ18_startsWith_2_0 13 rfl rfl)
theorem dJ18_startsWith_2_14 : decode cJ18_startsWith_2 14 = .ok (.if_icmp .le 5, 3) := dk_164 0 5 (dk_at dksJ18_startsWith_2_0 14 rfl rfl)
theorem dJ18_startsWith_2_17 : decode cJ18_startsWith_2 17 = .ok (.iconst 0, 1) := dk_3 (dk_at dksJ18_startsWith_2_0 17 rfl rfl)
theorem dJ18_startsWith_2_18 : decode cJ18_startsWith_2 18 = .ok (.ireturn, 1) := dk_172 (dk_at dksJ18_startsWith_2_0 18 rfl rfl)
theorem dJ18_startsWith_2_19 : decode cJ18_startsWith_2 19 = .ok (.aload_n 0, 1) := dk_42 (dk_at dksJ18_startsWith_2_0 19 rfl rfl)
theorem dJ18_startsWith_2_20 : decode cJ18_startsWith_2 20 = .ok (.getfield 9, 3) := dk_180 0 9 (dk_at dksJ18_startsWith_2_0 20 rfl rfl)
theorem dJ18_startsWith_2_23 : decode cJ18_startsWith_2 23 = .ok (.astore_n 3, 1) := dk_78 (dk_at dksJ18_startsWith_2_0 23 rfl rfl)
theorem dJ18_startsWith_2_24 : decode cJ18_startsWith_2 24 = .ok (.aload_n 1, 1) := dk_43 (dk_at dksJ18_startsWith_2_1 0 rfl rfl)
theorem dJ18_startsWith_2_25 : decode cJ18_startsWith_2 25 = .ok (.getfield 9, 3) := dk_180 0 9 (dk_at dksJ18_startsWith_2_1 1 rfl rfl)
theorem dJ18_startsWith_2_28 : decode cJ18_startsWith_2 28 = .ok (.astore 4, 2) := dk_58 4 (dk_at dksJ18_startsWith_2_1 4 rfl rfl)
theorem dJ18_startsWith_2_30 : decode cJ18_startsWith_2 30 = .ok (.iconst 0, 1) := dk_3 (dk_at dksJ18_startsWith_2_1 6 rfl rfl)
theorem dJ18_startsWith_2_31 : decode cJ18_startsWith_2 31 = .ok (.istore 5, 2) := dk_54 5 (dk_at dksJ18_startsWith_2_1 7 rfl rfl)
theorem dJ18_startsWith_2_33 : decode cJ18_startsWith_2 33 = .ok (.aload 4, 2) := dk_25 4 (dk_at dksJ18_startsWith_2_1 9 rfl rfl)
theorem dJ18_startsWith_2_35 : decode cJ18_startsWith_2 35 = .ok (.arraylength, 1) := dk_190 (dk_at dksJ18_startsWith_2_1 11 rfl rfl)
theorem dJ18_startsWith_2_36 : decode cJ18_startsWith_2 36 = .ok (.istore 6, 2) := dk_54 6 (dk_at dksJ18_startsWith_2_1 12 rfl rfl)
theorem dJ18_startsWith_2_38 : decode cJ18_startsWith_2 38 = .ok (.aload_n 0, 1) := dk_42 (dk_at dksJ18_startsWith_2_1 14 rfl rfl)
theorem dJ18_startsWith_2_39 : decode cJ18_startsWith_2 39 = .ok (.invokevirtual 335, 3) := dk_182 1 79 (dk_at dksJ18_startsWith_2_1 15 rfl rfl)
theorem dJ18_startsWith_2_42 : decode cJ18_startsWith_2 42 = .ok (.istore 7, 2) := dk_54 7 (dk_at dksJ18_startsWith_2_1 18 rfl rfl)
theorem dJ18_startsWith_2_44 : decode cJ18_startsWith_2 44 = .ok (.iload 7, 2) := dk_21 7 (dk_at dksJ18_startsWith_2_1 20 rfl rfl)
theorem dJ18_startsWith_2_46 : decode cJ18_startsWith_2 46 = .ok (.aload_n 1, 1) := dk_43 (dk_at dksJ18_startsWith_2_1 22 rfl rfl)
theorem dJ18_startsWith_2_47 : decode cJ18_startsWith_2 47 = .ok (.invokevirtual 335, 3) := dk_182 1 79 (dk_at dksJ18_startsWith_2_2 0 rfl rfl)
theorem dJ18_startsWith_2_50 : decode cJ18_startsWith_2 50 = .ok (.if_icmp .ne 32, 3) := dk_160 0 32 (dk_at dksJ18_startsWith_2_2 3 rfl rfl)
theorem dJ18_startsWith_2_53 : decode cJ18_startsWith_2 53 = .ok (.iload 7, 2) := dk_21 7 (dk_at dksJ18_startsWith_2_2 6 rfl rfl)
theorem dJ18_startsWith_2_55 : decode cJ18_startsWith_2 55 = .ok (.iconst 1, 1) := dk_4 (dk_at dksJ18_startsWith_2_2 8 rfl rfl)
theorem dJ18_startsWith_2_56 : decode cJ18_startsWith_2 56 = .ok (.if_icmp .ne 7, 3) := dk_160 0 7 (dk_at dksJ18_startsWith_2_2 9 rfl rfl)
theorem dJ18_startsWith_2_59 : decode cJ18_startsWith_2 59 = .ok (.iload_n 2, 1) := dk_28 (dk_at dksJ18_startsWith_2_2 12 rfl rfl)
theorem dJ18_startsWith_2_60 : decode cJ18_startsWith_2 60 = .ok (.iconst 1, 1) := dk_4 (dk_at dksJ18_startsWith_2_2 13 rfl rfl)
theorem dJ18_startsWith_2_61 : decode cJ18_startsWith_2 61 = .ok (.ishl, 1) := dk_120 (dk_at dksJ18_startsWith_2_2 14 rfl rfl)
theorem dJ18_startsWith_2_62 : decode cJ18_startsWith_2 62 = .ok (.istore_n 2, 1) := dk_61 (dk_at dksJ18_startsWith_2_2 15 rfl rfl)
theorem dJ18_startsWith_2_63 : decode cJ18_startsWith_2 63 = .ok (.aload_n 3, 1) := dk_45 (dk_at dksJ18_startsWith_2_2 16 rfl rfl)
theorem dJ18_startsWith_2_64 : decode cJ18_startsWith_2 64 = .ok (.iload_n 2, 1) := dk_28 (dk_at dksJ18_startsWith_2_2 17 rfl rfl)
theorem dJ18_startsWith_2_65 : decode cJ18_startsWith_2 65 = .ok (.aload 4, 2) := dk_25 4 (dk_at dksJ18_startsWith_2_2 18 rfl rfl)
theorem dJ18_startsWith_2_67 : decode cJ18_startsWith_2 67 = .ok (.iconst 0, 1) := dk_3 (dk_at dksJ18_startsWith_2_2 20 rfl rfl)
theorem dJ18_startsWith_2_68 : decode cJ18_startsWith_2 68 = .ok (.iload 6, 2) := dk_21 6 (dk_at dksJ18_startsWith_2_2 21 rfl rfl)
theorem dJ18_startsWith_2_70 : decode cJ18_startsWith_2 70 = .ok (.invokestatic 607, 3) := dk_184 2 95 (dk_at dksJ18_startsWith_2_3 0 rfl rfl)
theorem dJ18_startsWith_2_73 : decode cJ18_startsWith_2 73 = .ok (.ifCond .ge 7, 3) := dk_156 0 7 (dk_at dksJ18_startsWith_2_3 3 rfl rfl)
theorem dJ18_startsWith_2_76 : decode cJ18_startsWith_2 76 = .ok (.iconst 1, 1) := dk_4 (dk_at dksJ18_startsWith_2_3 6 rfl rfl)
theorem dJ18_startsWith_2_77 : decode cJ18_startsWith_2 77 = .ok (.goto 4, 3) := dk_167 0 4 (dk_at dksJ18_startsWith_2_3 7 rfl rfl)
theorem dJ18_startsWith_2_80 : decode cJ18_startsWith_2 80 = .ok (.iconst 0, 1) := dk_3 (dk_at dksJ18_startsWith_2_3 10 rfl rfl)
theorem dJ18_startsWith_2_81 : decode cJ18_startsWith_2 81 = .ok (.ireturn, 1) := dk_172 (dk_at dksJ18_startsWith_2_3 11 rfl rfl)
theorem dJ18_startsWith_2_82 : decode cJ18_startsWith_2 82 = .ok (.iload 7, 2) := dk_21 7 (dk_at dksJ18_startsWith_2_3 12 rfl rfl)
theorem dJ18_startsWith_2_84 : decode cJ18_startsWith_2 84 = .ok (.ifCond .ne 5, 3) := dk_154 0 5 (dk_at dksJ18_startsWith_2_3 14 rfl rfl)
theorem dJ18_startsWith_2_87 : decode cJ18_startsWith_2 87 = .ok (.iconst 0, 1) := dk_3 (dk_at dksJ18_startsWith_2_3 17 rfl rfl)
theorem dJ18_startsWith_2_88 : decode cJ18_startsWith_2 88 = .ok (.ireturn, 1) := dk_172 (dk_at dksJ18_startsWith_2_3 18 rfl rfl)
theorem dJ18_startsWith_2_89 : decode cJ18_startsWith_2 89 = .ok (.iload 5, 2) := dk_21 5 (dk_at dksJ18_startsWith_2_3 19 rfl rfl)
theorem dJ18_startsWith_2_91 : decode cJ18_startsWith_2 91 = .ok (.iload 6, 2) := dk_21 6 (dk_at dksJ18_startsWith_2_3 21 rfl rfl)
theorem dJ18_startsWith_2_93 : decode cJ18_startsWith_2 93 = .ok (.if_icmp .ge 28, 3) := dk_162 0 28 (dk_at dksJ18_startsWith_2_4 0 rfl rfl)
theorem dJ18_startsWith_2_96 : decode cJ18_startsWith_2 96 = .ok (.aload_n 3, 1) := dk_45 (dk_at dksJ18_startsWith_2_4 3 rfl rfl)
theorem dJ18_startsWith_2_97 : decode cJ18_startsWith_2 97 = .ok (.iload_n 2, 1) := dk_28 (dk_at dksJ18_startsWith_2_4 4 rfl rfl)
theorem dJ18_startsWith_2_98 : decode cJ18_startsWith_2 98 = .ok (.iinc 2 1, 3) := dk_132 2 1 (dk_at dksJ18_startsWith_2_4 5 rfl rfl)
theorem dJ18_startsWith_2_101 : decode cJ18_startsWith_2 101 = .ok (.invokestatic 360, 3) := dk_184 1 104 (dk_at dksJ18_startsWith_2_4 8 rfl rfl)
theorem dJ18_startsWith_2_104 : decode cJ18_startsWith_2 104 = .ok (.aload 4, 2) := dk_25 4 (dk_at dksJ18_startsWith_2_4 11 rfl rfl)
theorem dJ18_startsWith_2_106 : decode cJ18_startsWith_2 106 = .ok (.iload 5, 2) := dk_21 5 (dk_at dksJ18_startsWith_2_4 13 rfl rfl)
theorem dJ18_startsWith_2_108 : decode cJ18_startsWith_2 108 = .ok (.iinc 5 1, 3) := dk_132 5 1 (dk_at dksJ18_startsWith_2_4 15 rfl rfl)
theorem dJ18_startsWith_2_111 : decode cJ18_startsWith_2 111 = .ok (.baload, 1) := dk_51 (dk_at dksJ18_startsWith_2_4 18 rfl rfl)
theorem dJ18_startsWith_2_112 : decode cJ18_startsWith_2 112 = .ok (.sipush 255, 3) := dk_17 0 255 (dk_at dksJ18_startsWith_2_4 19 rfl rfl)
theorem dJ18_startsWith_2_115 : decode cJ18_startsWith_2 115 = .ok (.iand, 1) := dk_126 (dk_at dksJ18_startsWith_2_4 22 rfl rfl)
theorem dJ18_startsWith_2_116 : decode cJ18_startsWith_2 116 = .ok (.if_icmp .eq (-27), 3) := dk_159 255 229 (dk_at dksJ18_startsWith_2_5 0 rfl rfl)
theorem dJ18_startsWith_2_119 : decode cJ18_startsWith_2 119 = .ok (.iconst 0, 1) := dk_3 (dk_at dksJ18_startsWith_2_5 3 rfl rfl)
theorem dJ18_startsWith_2_120 : decode cJ18_startsWith_2 120 = .ok (.ireturn, 1) := dk_172 (dk_at dksJ18_startsWith_2_5 4 rfl rfl)
theorem dJ18_startsWith_2_121 : decode cJ18_startsWith_2 121 = .ok (.iconst 1, 1) := dk_4 (dk_at dksJ18_startsWith_2_5 5 rfl rfl)
theorem dJ18_startsWith_2_122 : decode cJ18_startsWith_2 122 = .ok (.ireturn, 1) := dk_172 (dk_at dksJ18_startsWith_2_5 6 rfl rfl)
abbrev cJ18_hashCode : ByteArray := prog_33_method_78_code
def yJ18_hashCode : MethodName := ⟨RJ18, "hashCode", "()I"⟩
def dkwJ18_hashCode_2 : List UInt8 := [181, 0, 23, 167, 0, 8, 42, 27, 181, 0, 19, 27, 172]
abbrev dktJ18_hashCode_2 : List UInt8 := dkwJ18_hashCode_2 ++ []
def dkwJ18_hashCode_1 : List UInt8 := [180, 0, 9, 184, 2, 116, 167, 0, 10, 42, 180, 0, 9, 184, 2, 120, 60, 27, 154, 0, 11, 42, 4]
abbrev dktJ18_hashCode_1 : List UInt8 := dkwJ18_hashCode_1 ++ dktJ18_hashCode_2
def dkwJ18_hashCode_0 : List UInt8 := [42, 180, 0, 19, 60, 27, 154, 0, 52, 42, 180, 0, 23, 154, 0, 45, 42, 182, 1, 236, 153, 0, 13, 42]
abbrev dktJ18_hashCode_0 : List UInt8 := dkwJ18_hashCode_0 ++ dktJ18_hashCode_1
theorem dksJ18_hashCode_0 : cJ18_hashCode.data.toList.drop 0 = dktJ18_hashCode_0 := by decide +kernel
theorem dksJ18_hashCode_1 : cJ18_hashCode.data.toList.drop 24 = dktJ18_hashCode_1 := dk_seg dksJ18_hashCode_0 24 rfl rfl
theorem dksJ18_hashCode_2 : cJ18_hashCode.data.toList.drop 47 = dktJ18_hashCode_2 := dk_seg dksJ18_hashCode_1 23 rfl rfl
theorem dJ18_hashCode_0 : decode cJ18_hashCode 0 = .ok (.aload_n 0, 1) := dk_42 (dk_at dksJ18_hashCode_0 0 rfl rfl)
theorem dJ18_hashCode_1 : decode cJ18_hashCode 1 = .ok (.getfield 19, 3) := dk_180 0 19 (dk_at dksJ18_hashCode_0 1 rfl rfl)
theorem dJ18_hashCode_4 : decode cJ18_hashCode 4 = .ok (.istore_n 1, 1) := dk_60 (dk_at dksJ18_hashCode_0 4 rfl rfl)
theorem dJ18_hashCode_5 : decode cJ18_hashCode 5 = .ok (.iload_n 1, 1) := dk_27 (dk_at dksJ18_hashCode_0 5 rfl rfl)
theorem dJ18_hashCode_6 : decode cJ18_hashCode 6 = .ok (.ifCond .ne 52, 3) := dk_154 0 52 (dk_at dksJ18_hashCode_0 6 rfl rfl)
theorem dJ18_hashCode_9 : decode cJ18_hashCode 9 = .ok (.aload_n 0, 1) := dk_42 (dk_at dksJ18_hashCode_0 9 rfl rfl)
theorem dJ18_hashCode_10 : decode cJ18_hashCode 10 = .ok (.getfield 23, 3) := dk_180 0 23 (dk_at dksJ18_hashCode_0 10 rfl rfl)
theorem dJ18_hashCode_13 : decode cJ18_hashCode 13 = .ok (.ifCond .ne 45, 3) := dk_154 0 45 (dk_at dksJ18_hashCode_0 13 rfl rfl)
theorem dJ18_hashCode_16 : decode cJ18_hashCode 16 = .ok (.aload_n 0, 1) := dk_42 (dk_at dksJ18_hashCode_0 16 rfl rfl)
theorem dJ18_hashCode_17 : decode cJ18_hashCode 17 = .ok (.invokevirtual 492, 3) := dk_182 1 236 (dk_at dksJ18_hashCode_0 17 rfl rfl)
theorem dJ18_hashCode_20 : decode cJ18_hashCode 20 = .ok (.ifCond .eq 13, 3) := dk_153 0 13 (dk_at dksJ18_hashCode_0 20 rfl rfl)
theorem dJ18_hashCode_23 : decode cJ18_hashCode 23 = .ok (.aload_n 0, 1) := dk_42 (dk_at dksJ18_hashCode_0 23 rfl rfl)
theorem dJ18_hashCode_24 : decode cJ18_hashCode 24 = .ok (.getfield 9, 3) := dk_180 0 9 (dk_at dksJ18_hashCode_1 0 rfl rfl)
theorem dJ18_hashCode_27 : decode cJ18_hashCode 27 = .ok (.invokestatic 628, 3) := dk_184 2 116 (dk_at dksJ18_hashCode_1 3 rfl rfl)
theorem dJ18_hashCode_30 : decode cJ18_hashCode 30 = .ok (.goto 10, 3) := dk_167 0 10 (dk_at dksJ18_hashCode_1 6 rfl rfl)
theorem dJ18_hashCode_33 : decode cJ18_hashCode 33 = .ok (.aload_n 0, 1) := dk_42 (dk_at dksJ18_hashCode_1 9 rfl rfl)
theorem dJ18_hashCode_34 : decode cJ18_hashCode 34 = .ok (.getfield 9, 3) := dk_180 0 9 (dk_at dksJ18_hashCode_1 10 rfl rfl)
theorem dJ18_hashCode_37 : decode cJ18_hashCode 37 = .ok (.invokestatic 632, 3) := dk_184 2 120 (dk_at dksJ18_hashCode_1 13 rfl rfl)
theorem dJ18_hashCode_40 : decode cJ18_hashCode 40 = .ok (.istore_n 1, 1) := dk_60 (dk_at dksJ18_hashCode_1 16 rfl rfl)
theorem dJ18_hashCode_41 : decode cJ18_hashCode 41 = .ok (.iload_n 1, 1) := dk_27 (dk_at dksJ18_hashCode_1 17 rfl rfl)
theorem dJ18_hashCode_42 : decode cJ18_hashCode 42 = .ok (.ifCond .ne 11, 3) := dk_154 0 11 (dk_at dksJ18_hashCode_1 18 rfl rfl)
theorem dJ18_hashCode_45 : decode cJ18_hashCode 45 = .ok (.aload_n 0, 1) := dk_42 (dk_at dksJ18_hashCode_1 21 rfl rfl)
theorem dJ18_hashCode_46 : decode cJ18_hashCode 46 = .ok (.iconst 1, 1) := dk_4 (dk_at dksJ18_hashCode_1 22 rfl rfl)
theorem dJ18_hashCode_47 : decode cJ18_hashCode 47 = .ok (.putfield 23, 3) := dk_181 0 23 (dk_at dksJ18_hashCode_2 0 rfl rfl)
theorem dJ18_hashCode_50 : decode cJ18_hashCode 50 = .ok (.goto 8, 3) := dk_167 0 8 (dk_at dksJ18_hashCode_2 3 rfl rfl)
theorem dJ18_hashCode_53 : decode cJ18_hashCode 53 = .ok (.aload_n 0, 1) := dk_42 (dk_at dksJ18_hashCode_2 6 rfl rfl)
theorem dJ18_hashCode_54 : decode cJ18_hashCode 54 = .ok (.iload_n 1, 1) := dk_27 (dk_at dksJ18_hashCode_2 7 rfl rfl)
theorem dJ18_hashCode_55 : decode cJ18_hashCode 55 = .ok (.putfield 19, 3) := dk_181 0 19 (dk_at dksJ18_hashCode_2 8 rfl rfl)
theorem dJ18_hashCode_58 : decode cJ18_hashCode 58 = .ok (.iload_n 1, 1) := dk_27 (dk_at dksJ18_hashCode_2 11 rfl rfl)
theorem dJ18_hashCode_59 : decode cJ18_hashCode 59 = .ok (.ireturn, 1) := dk_172 (dk_at dksJ18_hashCode_2 12 rfl rfl)
abbrev cJ18_isLatin1 : ByteArray := prog_33_method_154_code
def yJ18_isLatin1 : MethodName := ⟨RJ18, "isLatin1", "()Z"⟩
def dkwJ18_isLatin1_0 : List UInt8 := [178, 0, 38, 153, 0, 14, 42, 180, 0, 15, 154, 0, 7, 4, 167, 0, 4, 3, 172]
abbrev dktJ18_isLatin1_0 : List UInt8 := dkwJ18_isLatin1_0 ++ []
theorem dksJ18_isLatin1_0 : cJ18_isLatin1.data.toList.drop 0 = dktJ18_isLatin1_0 := by decide +kernel
theorem dJ18_isLatin1_0 : decode cJ18_isLatin1 0 = .ok (.getstatic 38, 3) := dk_178 0 38 (dk_at dksJ18_isLatin1_0 0 rfl rfl)
theorem dJ18_isLatin1_3 : decode cJ18_isLatin1 3 = .ok (.ifCond .eq 14, 3) := dk_153 0 14 (dk_at dksJ18_isLatin1_0 3 rfl rfl)
theorem dJ18_isLatin1_6 : decode cJ18_isLatin1 6 = .ok (.aload_n 0, 1) := dk_42 (dk_at dksJ18_isLatin1_0 6 rfl rfl)
theorem dJ18_isLatin1_7 : decode cJ18_isLatin1 7 = .ok (.getfield 15, 3) := dk_180 0 15 (dk_at dksJ18_isLatin1_0 7 rfl rfl)
theorem dJ18_isLatin1_10 : decode cJ18_isLatin1 10 = .ok (.ifCond .ne 7, 3) := dk_154 0 7 (dk_at dksJ18_isLatin1_0 10 rfl rfl)
theorem dJ18_isLatin1_13 : decode cJ18_isLatin1 13 = .ok (.iconst 1, 1) := dk_4 (dk_at dksJ18_isLatin1_0 13 rfl rfl)
theorem dJ18_isLatin1_14 : decode cJ18_isLatin1 14 = .ok (.goto 4, 3) := dk_167 0 4 (dk_at dksJ18_isLatin1_0 14 rfl rfl)
theorem dJ18_isLatin1_17 : decode cJ18_isLatin1 17 = .ok (.iconst 0, 1) := dk_3 (dk_at dksJ18_isLatin1_0 17 rfl rfl)
theorem dJ18_isLatin1_18 : decode cJ18_isLatin1 18 = .ok (.ireturn, 1) := dk_172 (dk_at dksJ18_isLatin1_0 18 rfl rfl)
theorem q102 : (Jvm.Cond.initialized "java/lang/String") ∈ lw_all := lw_g (lw_at lw_m1 26 rfl) rfl
theorem q461 : (Jvm.Cond.selects "java/lang/String" ({ cls := "java/lang/Object", name := "getClass", desc := "()Ljava/lang/Class;" } : Jvm.MethodName) ({ cls := "java/lang/Object", name := "getClass", desc := "()Ljava/lang/Class;" } : Jvm.MethodName)) ∈ lw_all := lw_g (lw_at lw_m2 145 rfl) rfl
theorem q659 : (Jvm.Cond.castable "java/lang/String" "java/lang/Comparable") ∈ lw_tbl := lw_at lw_m3 103 rfl
theorem q660 : (Jvm.Cond.selects "java/lang/String" ({ cls := "java/lang/Comparable", name := "compareTo", desc := "(Ljava/lang/Object;)I" } : Jvm.MethodName) ({ cls := "java/lang/String", name := "compareTo", desc := "(Ljava/lang/Object;)I" } : Jvm.MethodName)) ∈ lw_all := lw_g (lw_at lw_m3 104 rfl) rfl
theorem q661 : (Jvm.Cond.unhidden "java/lang/String" "compareTo" "(Ljava/lang/Object;)I") ∈ lw_tbl := lw_at lw_m3 105 rfl
theorem q662 : (Jvm.Cond.instanceMethod ({ cls := "java/lang/String", name := "compareTo", desc := "(Ljava/lang/Object;)I" } : Jvm.MethodName)) ∈ lw_all := lw_g (lw_at lw_m3 106 rfl) rfl
theorem q663 : (Jvm.Cond.publicMethod ({ cls := "java/lang/String", name := "compareTo", desc := "(Ljava/lang/Object;)I" } : Jvm.MethodName)) ∈ lw_tbl := lw_at lw_m3 107 rfl
theorem q664 : (Jvm.Cond.code ({ cls := "java/lang/String", name := "compareTo", desc := "(Ljava/lang/Object;)I" } : Jvm.MethodName) prog_33_method_162_code (2 : Nat) (Option.some Jvm.ClassFile.FieldType.int)) ∈ lw_all := lw_g (lw_at lw_m3 108 rfl) rfl
theorem q665 : (Jvm.Cond.classLink "java/lang/String" (10 : Nat) "java/lang/String") ∈ lw_all := lw_g (lw_at lw_m3 109 rfl) rfl
theorem q666 : (Jvm.Cond.methodLink "java/lang/String" (1084 : Nat) ({ cls := "java/lang/String", name := "compareTo", desc := "(Ljava/lang/String;)I" } : Jvm.MethodName)) ∈ lw_all := lw_g (lw_at lw_m3 110 rfl) rfl
theorem q667 : (Jvm.Cond.instanceMethod ({ cls := "java/lang/String", name := "compareTo", desc := "(Ljava/lang/String;)I" } : Jvm.MethodName)) ∈ lw_all := lw_g (lw_at lw_m3 111 rfl) rfl
theorem q668 : (Jvm.Cond.selects "java/lang/String" ({ cls := "java/lang/String", name := "compareTo", desc := "(Ljava/lang/String;)I" } : Jvm.MethodName) ({ cls := "java/lang/String", name := "compareTo", desc := "(Ljava/lang/String;)I" } : Jvm.MethodName)) ∈ lw_all := lw_g (lw_at lw_m3 112 rfl) rfl
theorem q669 : (Jvm.Cond.code ({ cls := "java/lang/String", name := "compareTo", desc := "(Ljava/lang/String;)I" } : Jvm.MethodName) prog_33_method_71_code (5 : Nat) (Option.some Jvm.ClassFile.FieldType.int)) ∈ lw_all := lw_g (lw_at lw_m3 113 rfl) rfl
theorem q670 : (Jvm.Cond.methodLink "java/lang/String" (335 : Nat) ({ cls := "java/lang/String", name := "coder", desc := "()B" } : Jvm.MethodName)) ∈ lw_all := lw_g (lw_at lw_m3 114 rfl) rfl
theorem q671 : (Jvm.Cond.instanceMethod ({ cls := "java/lang/String", name := "coder", desc := "()B" } : Jvm.MethodName)) ∈ lw_all := lw_g (lw_at lw_m3 115 rfl) rfl
theorem q672 : (Jvm.Cond.selects "java/lang/String" ({ cls := "java/lang/String", name := "coder", desc := "()B" } : Jvm.MethodName) ({ cls := "java/lang/String", name := "coder", desc := "()B" } : Jvm.MethodName)) ∈ lw_all := lw_g (lw_at lw_m3 116 rfl) rfl
theorem q673 : (Jvm.Cond.code ({ cls := "java/lang/String", name := "coder", desc := "()B" } : Jvm.MethodName) prog_33_method_152_code (1 : Nat) (Option.some Jvm.ClassFile.FieldType.byte)) ∈ lw_all := lw_g (lw_at lw_m3 117 rfl) rfl
theorem q674 : (Jvm.Cond.fieldLink "java/lang/String" (38 : Nat) "java/lang/String" "COMPACT_STRINGS" "Z") ∈ lw_all := lw_g (lw_at lw_m3 118 rfl) rfl
theorem q675 : (Jvm.Cond.laysStatic "java/lang/String" "COMPACT_STRINGS" "Z") ∈ lw_tbl := lw_at lw_m3 119 rfl
theorem q676 : (Jvm.Cond.methodLink "java/lang/String" (586 : Nat) ({ cls := "java/lang/StringLatin1", name := "compareTo", desc := "([B[B)I" } : Jvm.MethodName)) ∈ lw_all := lw_g (lw_at lw_m3 120 rfl) rfl
theorem q790 : (Jvm.Cond.methodLink "java/lang/String" (590 : Nat) ({ cls := "java/lang/StringUTF16", name := "compareTo", desc := "([B[B)I" } : Jvm.MethodName)) ∈ lw_all := lw_g (lw_at lw_m3 234 rfl) rfl
theorem q809 : (Jvm.Cond.methodLink "java/lang/String" (591 : Nat) ({ cls := "java/lang/StringLatin1", name := "compareToUTF16", desc := "([B[B)I" } : Jvm.MethodName)) ∈ lw_all := lw_g (lw_at lw_m4 13 rfl) rfl
theorem q820 : (Jvm.Cond.methodLink "java/lang/String" (594 : Nat) ({ cls := "java/lang/StringUTF16", name := "compareToLatin1", desc := "([B[B)I" } : Jvm.MethodName)) ∈ lw_all := lw_g (lw_at lw_m4 24 rfl) rfl
theorem q853 : (Jvm.Cond.static ({ cls := "java/lang/String", name := "checkOffset", desc := "(II)V" } : Jvm.MethodName)) ∈ lw_all := lw_g (lw_at lw_m4 57 rfl) rfl
theorem q854 : (Jvm.Cond.code ({ cls := "java/lang/String", name := "checkOffset", desc := "(II)V" } : Jvm.MethodName) prog_33_method_156_code (2 : Nat) (Option.none : Option Jvm.ClassFile.FieldType)) ∈ lw_all := lw_g (lw_at lw_m4 58 rfl) rfl
theorem q855 : (Jvm.Cond.fieldLink "java/lang/String" (1053 : Nat) "jdk/internal/util/Preconditions" "SIOOBE_FORMATTER" "Ljava/util/function/BiFunction;") ∈ lw_all := lw_g (lw_at lw_m4 59 rfl) rfl
theorem q857 : (Jvm.Cond.methodLink "java/lang/String" (1062 : Nat) ({ cls := "jdk/internal/util/Preconditions", name := "checkFromToIndex", desc := "(IIILjava/util/function/BiFunction;)I" } : Jvm.MethodName)) ∈ lw_all := lw_g (lw_at lw_m4 61 rfl) rfl
theorem q983 : (Jvm.Cond.fieldLink "java/lang/String" (1048 : Nat) "java/lang/AbstractStringBuilder" "maybeLatin1" "Z") ∈ lw_all := lw_g (lw_at lw_m4 187 rfl) rfl
theorem q1241 : (Jvm.Cond.static ({ cls := "java/lang/String", name := "checkBoundsBeginEnd", desc := "(III)V" } : Jvm.MethodName)) ∈ lw_all := lw_g (lw_at lw_m5 205 rfl) rfl
theorem q1242 : (Jvm.Cond.code ({ cls := "java/lang/String", name := "checkBoundsBeginEnd", desc := "(III)V" } : Jvm.MethodName) prog_33_method_158_code (3 : Nat) (Option.none : Option Jvm.ClassFile.FieldType)) ∈ lw_all := lw_g (lw_at lw_m5 206 rfl) rfl
theorem q1247 : (Jvm.Cond.instanceMethod ({ cls := "java/lang/String", name := "length", desc := "()I" } : Jvm.MethodName)) ∈ lw_all := lw_g (lw_at lw_m5 211 rfl) rfl
theorem q1248 : (Jvm.Cond.selects "java/lang/String" ({ cls := "java/lang/String", name := "length", desc := "()I" } : Jvm.MethodName) ({ cls := "java/lang/String", name := "length", desc := "()I" } : Jvm.MethodName)) ∈ lw_all := lw_g (lw_at lw_m5 212 rfl) rfl
theorem q1249 : (Jvm.Cond.code ({ cls := "java/lang/String", name := "length", desc := "()I" } : Jvm.MethodName) prog_33_method_54_code (1 : Nat) (Option.some Jvm.ClassFile.FieldType.int)) ∈ lw_all := lw_g (lw_at lw_m5 213 rfl) rfl
theorem q1273 : (Jvm.Cond.static ({ cls := "java/lang/String", name := "checkBoundsOffCount", desc := "(III)I" } : Jvm.MethodName)) ∈ lw_all := lw_g (lw_at lw_m5 237 rfl) rfl
theorem q1274 : (Jvm.Cond.code ({ cls := "java/lang/String", name := "checkBoundsOffCount", desc := "(III)I" } : Jvm.MethodName) prog_33_method_157_code (3 : Nat) (Option.some Jvm.ClassFile.FieldType.int)) ∈ lw_all := lw_g (lw_at lw_m5 238 rfl) rfl
theorem q1275 : (Jvm.Cond.methodLink "java/lang/String" (1065 : Nat) ({ cls := "jdk/internal/util/Preconditions", name := "checkFromIndexSize", desc := "(IIILjava/util/function/BiFunction;)I" } : Jvm.MethodName)) ∈ lw_all := lw_g (lw_at lw_m5 239 rfl) rfl
theorem q1279 : (Jvm.Cond.instanceMethod ({ cls := "java/lang/String", name := "getBytes", desc := "([BIB)V" } : Jvm.MethodName)) ∈ lw_all := lw_g (lw_at lw_m6 3 rfl) rfl
theorem q1280 : (Jvm.Cond.selects "java/lang/String" ({ cls := "java/lang/String", name := "getBytes", desc := "([BIB)V" } : Jvm.MethodName) ({ cls := "java/lang/String", name := "getBytes", desc := "([BIB)V" } : Jvm.MethodName)) ∈ lw_all := lw_g (lw_at lw_m6 4 rfl) rfl
theorem q1281 : (Jvm.Cond.code ({ cls := "java/lang/String", name := "getBytes", desc := "([BIB)V" } : Jvm.MethodName) prog_33_method_147_code (4 : Nat) (Option.none : Option Jvm.ClassFile.FieldType)) ∈ lw_all := lw_g (lw_at lw_m6 5 rfl) rfl
theorem q1282 : (Jvm.Cond.methodLink "java/lang/String" (212 : Nat) ({ cls := "java/lang/System", name := "arraycopy", desc := "(Ljava/lang/Object;ILjava/lang/Object;II)V" } : Jvm.MethodName)) ∈ lw_all := lw_g (lw_at lw_m6 6 rfl) rfl
theorem q1283 : (Jvm.Cond.methodLink "java/lang/String" (106 : Nat) ({ cls := "java/lang/StringLatin1", name := "inflate", desc := "([BI[BII)V" } : Jvm.MethodName)) ∈ lw_all := lw_g (lw_at lw_m6 7 rfl) rfl
theorem q1314 : (Jvm.Cond.instantiable "java/lang/String" (4 : Nat)) ∈ lw_all := lw_g (lw_at lw_m6 38 rfl) rfl
theorem q1316 : (Jvm.Cond.instanceMethod ({ cls := "java/lang/String", name := "<init>", desc := "(Ljava/lang/StringBuilder;)V" } : Jvm.MethodName)) ∈ lw_all := lw_g (lw_at lw_m6 40 rfl) rfl
theorem q1317 : (Jvm.Cond.code ({ cls := "java/lang/String", name := "<init>", desc := "(Ljava/lang/StringBuilder;)V" } : Jvm.MethodName) prog_33_method_53_code (2 : Nat) (Option.none : Option Jvm.ClassFile.FieldType)) ∈ lw_all := lw_g (lw_at lw_m6 41 rfl) rfl
theorem q1318 : (Jvm.Cond.methodLink "java/lang/String" (489 : Nat) ({ cls := "java/lang/String", name := "<init>", desc := "(Ljava/lang/AbstractStringBuilder;Ljava/lang/Void;)V" } : Jvm.MethodName)) ∈ lw_all := lw_g (lw_at lw_m6 42 rfl) rfl
theorem q1319 : (Jvm.Cond.instanceMethod ({ cls := "java/lang/String", name := "<init>", desc := "(Ljava/lang/AbstractStringBuilder;Ljava/lang/Void;)V" } : Jvm.MethodName)) ∈ lw_all := lw_g (lw_at lw_m6 43 rfl) rfl
theorem q1320 : (Jvm.Cond.code ({ cls := "java/lang/String", name := "<init>", desc := "(Ljava/lang/AbstractStringBuilder;Ljava/lang/Void;)V" } : Jvm.MethodName) prog_33_method_150_code (5 : Nat) (Option.none : Option Jvm.ClassFile.FieldType)) ∈ lw_all := lw_g (lw_at lw_m6 44 rfl) rfl
theorem q1321 : (Jvm.Cond.methodLink "java/lang/String" (1 : Nat) ({ cls := "java/lang/Object", name := "<init>", desc := "()V" } : Jvm.MethodName)) ∈ lw_all := lw_g (lw_at lw_m6 45 rfl) rfl
theorem q1322 : (Jvm.Cond.methodLink "java/lang/String" (552 : Nat) ({ cls := "java/lang/AbstractStringBuilder", name := "getValue", desc := "()[B" } : Jvm.MethodName)) ∈ lw_all := lw_g (lw_at lw_m6 46 rfl) rfl
theorem q1327 : (Jvm.Cond.methodLink "java/lang/String" (549 : Nat) ({ cls := "java/lang/AbstractStringBuilder", name := "length", desc := "()I" } : Jvm.MethodName)) ∈ lw_all := lw_g (lw_at lw_m6 51 rfl) rfl
theorem q1328 : (Jvm.Cond.methodLink "java/lang/String" (1047 : Nat) ({ cls := "java/lang/AbstractStringBuilder", name := "isLatin1", desc := "()Z" } : Jvm.MethodName)) ∈ lw_all := lw_g (lw_at lw_m6 52 rfl) rfl
theorem q1329 : (Jvm.Cond.methodLink "java/lang/String" (54 : Nat) ({ cls := "java/util/Arrays", name := "copyOfRange", desc := "([BII)[B" } : Jvm.MethodName)) ∈ lw_all := lw_g (lw_at lw_m6 53 rfl) rfl
theorem q1357 : (Jvm.Cond.methodLink "java/lang/String" (1051 : Nat) ({ cls := "java/lang/StringUTF16", name := "compress", desc := "([BII)[B" } : Jvm.MethodName)) ∈ lw_all := lw_g (lw_at lw_m6 81 rfl) rfl
theorem q1364 : (Jvm.Cond.methodLink "java/lang/String" (47 : Nat) ({ cls := "java/lang/StringUTF16", name := "coderFromArrayLen", desc := "([BI)B" } : Jvm.MethodName)) ∈ lw_all := lw_g (lw_at lw_m6 88 rfl) rfl
theorem q1367 : (Jvm.Cond.fieldLink "java/lang/String" (9 : Nat) "java/lang/String" "value" "[B") ∈ lw_all := lw_g (lw_at lw_m6 91 rfl) rfl
theorem q1368 : (Jvm.Cond.fieldLink "java/lang/String" (15 : Nat) "java/lang/String" "coder" "B") ∈ lw_all := lw_g (lw_at lw_m6 92 rfl) rfl
theorem q1369 : (Jvm.Cond.fieldLink "java/lang/String" (19 : Nat) "java/lang/String" "hash" "I") ∈ lw_all := lw_g (lw_at lw_m6 93 rfl) rfl
theorem q1370 : (Jvm.Cond.fieldLink "java/lang/String" (23 : Nat) "java/lang/String" "hashIsZero" "Z") ∈ lw_all := lw_g (lw_at lw_m6 94 rfl) rfl
theorem q1371 : (Jvm.Cond.laysFinal "java/lang/String" "java/lang/String" "value" "[B") ∈ lw_all := lw_g (lw_at lw_m6 95 rfl) rfl
theorem q1372 : (Jvm.Cond.soleField "java/lang/String" "value") ∈ lw_all := lw_g (lw_at lw_m6 96 rfl) rfl
theorem q1373 : (Jvm.Cond.laysFinal "java/lang/String" "java/lang/String" "coder" "B") ∈ lw_all := lw_g (lw_at lw_m6 97 rfl) rfl
theorem q1374 : (Jvm.Cond.soleField "java/lang/String" "coder") ∈ lw_all := lw_g (lw_at lw_m6 98 rfl) rfl
theorem q1375 : (Jvm.Cond.lays "java/lang/String" "java/lang/String" "hash" "I") ∈ lw_all := lw_g (lw_at lw_m6 99 rfl) rfl
theorem q1376 : (Jvm.Cond.soleField "java/lang/String" "hash") ∈ lw_all := lw_g (lw_at lw_m6 100 rfl) rfl
theorem q1377 : (Jvm.Cond.lays "java/lang/String" "java/lang/String" "hashIsZero" "Z") ∈ lw_all := lw_g (lw_at lw_m6 101 rfl) rfl
theorem q1378 : (Jvm.Cond.soleField "java/lang/String" "hashIsZero") ∈ lw_all := lw_g (lw_at lw_m6 102 rfl) rfl
theorem q1379 : (Jvm.Cond.superclass "java/lang/String" "java/lang/Object") ∈ lw_all := lw_g (lw_at lw_m6 103 rfl) rfl
theorem q1475 : (Jvm.Cond.instanceMethod ({ cls := "java/lang/String", name := "equals", desc := "(Ljava/lang/Object;)Z" } : Jvm.MethodName)) ∈ lw_all := lw_g (lw_at lw_m6 199 rfl) rfl
theorem q1476 : (Jvm.Cond.selects "java/lang/String" ({ cls := "java/lang/String", name := "equals", desc := "(Ljava/lang/Object;)Z" } : Jvm.MethodName) ({ cls := "java/lang/String", name := "equals", desc := "(Ljava/lang/Object;)Z" } : Jvm.MethodName)) ∈ lw_all := lw_g (lw_at lw_m6 200 rfl) rfl
theorem q1477 : (Jvm.Cond.code ({ cls := "java/lang/String", name := "equals", desc := "(Ljava/lang/Object;)Z" } : Jvm.MethodName) prog_33_method_66_code (3 : Nat) (Option.some Jvm.ClassFile.FieldType.boolean)) ∈ lw_all := lw_g (lw_at lw_m6 201 rfl) rfl
theorem q1478 : (Jvm.Cond.methodLink "java/lang/String" (541 : Nat) ({ cls := "java/lang/StringLatin1", name := "equals", desc := "([B[B)Z" } : Jvm.MethodName)) ∈ lw_all := lw_g (lw_at lw_m6 202 rfl) rfl
theorem q1491 : (Jvm.Cond.static ({ cls := "java/lang/String", name := "checkIndex", desc := "(II)V" } : Jvm.MethodName)) ∈ lw_all := lw_g (lw_at lw_m6 215 rfl) rfl
theorem q1492 : (Jvm.Cond.code ({ cls := "java/lang/String", name := "checkIndex", desc := "(II)V" } : Jvm.MethodName) prog_33_method_155_code (2 : Nat) (Option.none : Option Jvm.ClassFile.FieldType)) ∈ lw_all := lw_g (lw_at lw_m6 216 rfl) rfl
theorem q1493 : (Jvm.Cond.methodLink "java/lang/String" (1059 : Nat) ({ cls := "jdk/internal/util/Preconditions", name := "checkIndex", desc := "(IILjava/util/function/BiFunction;)I" } : Jvm.MethodName)) ∈ lw_all := lw_g (lw_at lw_m6 217 rfl) rfl
theorem q1517 : (Jvm.Cond.instanceMethod ({ cls := "java/lang/String", name := "startsWith", desc := "(Ljava/lang/String;)Z" } : Jvm.MethodName)) ∈ lw_all := lw_g (lw_at lw_m7 1 rfl) rfl
theorem q1518 : (Jvm.Cond.selects "java/lang/String" ({ cls := "java/lang/String", name := "startsWith", desc := "(Ljava/lang/String;)Z" } : Jvm.MethodName) ({ cls := "java/lang/String", name := "startsWith", desc := "(Ljava/lang/String;)Z" } : Jvm.MethodName)) ∈ lw_all := lw_g (lw_at lw_m7 2 rfl) rfl
theorem q1519 : (Jvm.Cond.code ({ cls := "java/lang/String", name := "startsWith", desc := "(Ljava/lang/String;)Z" } : Jvm.MethodName) prog_33_method_76_code (2 : Nat) (Option.some Jvm.ClassFile.FieldType.boolean)) ∈ lw_all := lw_g (lw_at lw_m7 3 rfl) rfl
theorem q1520 : (Jvm.Cond.methodLink "java/lang/String" (624 : Nat) ({ cls := "java/lang/String", name := "startsWith", desc := "(Ljava/lang/String;I)Z" } : Jvm.MethodName)) ∈ lw_all := lw_g (lw_at lw_m7 4 rfl) rfl
theorem q1521 : (Jvm.Cond.instanceMethod ({ cls := "java/lang/String", name := "startsWith", desc := "(Ljava/lang/String;I)Z" } : Jvm.MethodName)) ∈ lw_all := lw_g (lw_at lw_m7 5 rfl) rfl
theorem q1522 : (Jvm.Cond.selects "java/lang/String" ({ cls := "java/lang/String", name := "startsWith", desc := "(Ljava/lang/String;I)Z" } : Jvm.MethodName) ({ cls := "java/lang/String", name := "startsWith", desc := "(Ljava/lang/String;I)Z" } : Jvm.MethodName)) ∈ lw_all := lw_g (lw_at lw_m7 6 rfl) rfl
theorem q1523 : (Jvm.Cond.code ({ cls := "java/lang/String", name := "startsWith", desc := "(Ljava/lang/String;I)Z" } : Jvm.MethodName) prog_33_method_75_code (8 : Nat) (Option.some Jvm.ClassFile.FieldType.boolean)) ∈ lw_all := lw_g (lw_at lw_m7 7 rfl) rfl
theorem q1524 : (Jvm.Cond.methodLink "java/lang/String" (505 : Nat) ({ cls := "java/lang/String", name := "length", desc := "()I" } : Jvm.MethodName)) ∈ lw_all := lw_g (lw_at lw_m7 8 rfl) rfl
theorem q1525 : (Jvm.Cond.methodLink "java/lang/String" (607 : Nat) ({ cls := "jdk/internal/util/ArraysSupport", name := "mismatch", desc := "([BI[BII)I" } : Jvm.MethodName)) ∈ lw_all := lw_g (lw_at lw_m7 9 rfl) rfl
theorem q1528 : (Jvm.Cond.methodLink "java/lang/String" (360 : Nat) ({ cls := "java/lang/StringUTF16", name := "getChar", desc := "([BI)C" } : Jvm.MethodName)) ∈ lw_all := lw_g (lw_at lw_m7 12 rfl) rfl
theorem q1534 : (Jvm.Cond.instanceMethod ({ cls := "java/lang/String", name := "hashCode", desc := "()I" } : Jvm.MethodName)) ∈ lw_all := lw_g (lw_at lw_m7 18 rfl) rfl
theorem q1535 : (Jvm.Cond.selects "java/lang/String" ({ cls := "java/lang/String", name := "hashCode", desc := "()I" } : Jvm.MethodName) ({ cls := "java/lang/String", name := "hashCode", desc := "()I" } : Jvm.MethodName)) ∈ lw_all := lw_g (lw_at lw_m7 19 rfl) rfl
theorem q1536 : (Jvm.Cond.code ({ cls := "java/lang/String", name := "hashCode", desc := "()I" } : Jvm.MethodName) prog_33_method_78_code (2 : Nat) (Option.some Jvm.ClassFile.FieldType.int)) ∈ lw_all := lw_g (lw_at lw_m7 20 rfl) rfl
theorem q1537 : (Jvm.Cond.methodLink "java/lang/String" (492 : Nat) ({ cls := "java/lang/String", name := "isLatin1", desc := "()Z" } : Jvm.MethodName)) ∈ lw_all := lw_g (lw_at lw_m7 21 rfl) rfl
theorem q1538 : (Jvm.Cond.instanceMethod ({ cls := "java/lang/String", name := "isLatin1", desc := "()Z" } : Jvm.MethodName)) ∈ lw_all := lw_g (lw_at lw_m7 22 rfl) rfl
theorem q1539 : (Jvm.Cond.selects "java/lang/String" ({ cls := "java/lang/String", name := "isLatin1", desc := "()Z" } : Jvm.MethodName) ({ cls := "java/lang/String", name := "isLatin1", desc := "()Z" } : Jvm.MethodName)) ∈ lw_all := lw_g (lw_at lw_m7 23 rfl) rfl
theorem q1540 : (Jvm.Cond.code ({ cls := "java/lang/String", name := "isLatin1", desc := "()Z" } : Jvm.MethodName) prog_33_method_154_code (1 : Nat) (Option.some Jvm.ClassFile.FieldType.boolean)) ∈ lw_all := lw_g (lw_at lw_m7 24 rfl) rfl
theorem q1541 : (Jvm.Cond.methodLink "java/lang/String" (628 : Nat) ({ cls := "java/lang/StringLatin1", name := "hashCode", desc := "([B)I" } : Jvm.MethodName)) ∈ lw_all := lw_g (lw_at lw_m7 25 rfl) rfl
theorem q1590 : (Jvm.Cond.methodLink "java/lang/String" (632 : Nat) ({ cls := "java/lang/StringUTF16", name := "hashCode", desc := "([B)I" } : Jvm.MethodName)) ∈ lw_all := lw_g (lw_at lw_m7 74 rfl) rfl
theorem q2125 : (Jvm.Cond.selects "java/lang/String" ({ cls := "java/lang/Object", name := "equals", desc := "(Ljava/lang/Object;)Z" } : Jvm.MethodName) ({ cls := "java/lang/String", name := "equals", desc := "(Ljava/lang/Object;)Z" } : Jvm.MethodName)) ∈ lw_all := lw_g (lw_at lw_m9 129 rfl) rfl
theorem q2992 : (Jvm.Cond.castable "java/lang/String" "java/lang/Object") ∈ lw_tbl := lw_at lw_m13 36 rfl
theorem in_J18 : ∀ w ∈ wsJ180, w ∈ lw_all := lw_in wsJ180 [1371, 1373, 1375, 1377] (by decide +kernel) (by decide +kernel)

/-! java/lang/StringLatin1 -/
set_option maxRecDepth 100000
def RJ19 : String := "java/lang/StringLatin1"
abbrev cJ19_compareTo : ByteArray := prog_36_method_14_code
def yJ19_compareTo : MethodName := ⟨RJ19, "compareTo", "([B[B)I"⟩
def dkwJ19_compareTo_0 : List UInt8 := [42, 190, 61, 43, 190, 62, 42, 43, 28, 29, 184, 0, 34, 172]
abbrev dktJ19_compareTo_0 : List UInt8 := dkwJ19_compareTo_0 ++ []
theorem dksJ19_compareTo_0 : cJ19_compareTo.data.toList.drop 0 = dktJ19_compareTo_0 := by decide +kernel
theorem dJ19_compareTo_0 : decode cJ19_compareTo 0 = .ok (.aload_n 0, 1) := dk_42 (dk_at dksJ19_compareTo_0 0 rfl rfl)
theorem dJ19_compareTo_1 : decode cJ19_compareTo 1 = .ok (.arraylength, 1) := dk_190 (dk_at dksJ19_compareTo_0 1 rfl rfl)
theorem dJ19_compareTo_2 : decode cJ19_compareTo 2 = .ok (.istore_n 2, 1) := dk_61 (dk_at dksJ19_compareTo_0 2 rfl rfl)
theorem dJ19_compareTo_3 : decode cJ19_compareTo 3 = .ok (.aload_n 1, 1) := dk_43 (dk_at dksJ19_compareTo_0 3 rfl rfl)
theorem dJ19_compareTo_4 : decode cJ19_compareTo 4 = .ok (.arraylength, 1) := dk_190 (dk_at dksJ19_compareTo_0 4 rfl rfl)
theorem dJ19_compareTo_5 : decode cJ19_compareTo 5 = .ok (.istore_n 3, 1) := dk_62 (dk_at dksJ19_compareTo_0 5 rfl rfl)
theorem dJ19_compareTo_6 : decode cJ19_compareTo 6 = .ok (.aload_n 0, 1) := dk_42 (dk_at dksJ19_compareTo_0 6 rfl rfl)
theorem dJ19_compareTo_7 : decode cJ19_compareTo 7 = .ok (.aload_n 1, 1) := dk_43 (dk_at dksJ19_compareTo_0 7 rfl rfl)
theorem dJ19_compareTo_8 : decode cJ19_compareTo 8 = .ok (.iload_n 2, 1) := dk_28 (dk_at dksJ19_compareTo_0 8 rfl rfl)
theorem dJ19_compareTo_9 : decode cJ19_compareTo 9 = .ok (.iload_n 3, 1) := dk_29 (dk_at dksJ19_compareTo_0 9 rfl rfl)
theorem dJ19_compareTo_10 : decode cJ19_compareTo 10 = .ok (.invokestatic 34, 3) := dk_184 0 34 (dk_at dksJ19_compareTo_0 10 rfl rfl)
theorem dJ19_compareTo_13 : decode cJ19_compareTo 13 = .ok (.ireturn, 1) := dk_172 (dk_at dksJ19_compareTo_0 13 rfl rfl)
abbrev cJ19_compareTo_2 : ByteArray := prog_36_method_15_code
def yJ19_compareTo_2 : MethodName := ⟨RJ19, "compareTo", "([B[BII)I"⟩
def dkwJ19_compareTo_2_1 : List UInt8 := [167, 0, 16, 42, 21, 5, 184, 0, 50, 43, 21, 5, 184, 0, 50, 100, 172]
abbrev dktJ19_compareTo_2_1 : List UInt8 := dkwJ19_compareTo_2_1 ++ []
def dkwJ19_compareTo_2_0 : List UInt8 := [28, 29, 184, 0, 38, 54, 4, 42, 43, 21, 4, 184, 0, 44, 54, 5, 21, 5, 156, 0, 9, 28, 29, 100]
abbrev dktJ19_compareTo_2_0 : List UInt8 := dkwJ19_compareTo_2_0 ++ dktJ19_compareTo_2_1
theorem dksJ19_compareTo_2_0 : cJ19_compareTo_2.data.toList.drop 0 = dktJ19_compareTo_2_0 := by decide +kernel
theorem dksJ19_compareTo_2_1 : cJ19_compareTo_2.data.toList.drop 24 = dktJ19_compareTo_2_1 := dk_seg dksJ19_compareTo_2_0 24 rfl rfl
theorem dJ19_compareTo_2_0 : decode cJ19_compareTo_2 0 = .ok (.iload_n 2, 1) := dk_28 (dk_at dksJ19_compareTo_2_0 0 rfl rfl)
theorem dJ19_compareTo_2_1 : decode cJ19_compareTo_2 1 = .ok (.iload_n 3, 1) := dk_29 (dk_at dksJ19_compareTo_2_0 1 rfl rfl)
theorem dJ19_compareTo_2_2 : decode cJ19_compareTo_2 2 = .ok (.invokestatic 38, 3) := dk_184 0 38 (dk_at dksJ19_compareTo_2_0 2 rfl rfl)
theorem dJ19_compareTo_2_5 : decode cJ19_compareTo_2 5 = .ok (.istore 4, 2) := dk_54 4 (dk_at dksJ19_compareTo_2_0 5 rfl rfl)
theorem dJ19_compareTo_2_7 : decode cJ19_compareTo_2 7 = .ok (.aload_n 0, 1) := dk_42 (dk_at dksJ19_compareTo_2_0 7 rfl rfl)
theorem dJ19_compareTo_2_8 : decode cJ19_compareTo_2 8 = .ok (.aload_n 1, 1) := dk_43 (dk_at dksJ19_compareTo_2_0 8 rfl rfl)
theorem dJ19_compareTo_2_9 : decode cJ19_compareTo_2 9 = .ok (.iload 4, 2) := dk_21 4 (dk_at dksJ19_compareTo_2_0 9 rfl rfl)
theorem dJ19_compareTo_2_11 : decode cJ19_compareTo_2 11 = .ok (.invokestatic 44, 3) := dk_184 0 44 (dk_at dksJ19_compareTo_2_0 11 rfl rfl)
theorem dJ19_compareTo_2_14 : decode cJ19_compareTo_2 14 = .ok (.istore 5, 2) := dk_54 5 (dk_at dksJ19_compareTo_2_0 14 rfl rfl)
theorem dJ19_compareTo_2_16 : decode cJ19_compareTo_2 16 = .ok (.iload 5, 2) := dk_21 5 (dk_at dksJ19_compareTo_2_0 16 rfl rfl)
theorem dJ19_compareTo_2_18 : decode cJ19_compareTo_2 18 = .ok (.ifCond .ge 9, 3) := dk_156 0 9 (dk_at dksJ19_compareTo_2_0 18 rfl rfl)
theorem dJ19_compareTo_2_21 : decode cJ19_compareTo_2 21 = .ok (.iload_n 2, 1) := dk_28 (dk_at dksJ19_compareTo_2_0 21 rfl rfl)
theorem dJ19_compareTo_2_22 : decode cJ19_compareTo_2 22 = .ok (.iload_n 3, 1) := dk_29 (dk_at dksJ19_compareTo_2_0 22 rfl rfl)
theorem dJ19_compareTo_2_23 : decode cJ19_compareTo_2 23 = .ok (.isub, 1) := dk_100 (dk_at dksJ19_compareTo_2_0 23 rfl rfl)
theorem dJ19_compareTo_2_24 : decode cJ19_compareTo_2 24 = .ok (.goto 16, 3) := dk_167 0 16 (dk_at dksJ19_compareTo_2_1 0 rfl rfl)
theorem dJ19_compareTo_2_27 : decode cJ19_compareTo_2 27 = .ok (.aload_n 0, 1) := dk_42 (dk_at dksJ19_compareTo_2_1 3 rfl rfl)
theorem dJ19_compareTo_2_28 : decode cJ19_compareTo_2 28 = .ok (.iload 5, 2) := dk_21 5 (dk_at dksJ19_compareTo_2_1 4 rfl rfl)
theorem dJ19_compareTo_2_30 : decode cJ19_compareTo_2 30 = .ok (.invokestatic 50, 3) := dk_184 0 50 (dk_at dksJ19_compareTo_2_1 6 rfl rfl)
theorem dJ19_compareTo_2_33 : decode cJ19_compareTo_2 33 = .ok (.aload_n 1, 1) := dk_43 (dk_at dksJ19_compareTo_2_1 9 rfl rfl)
theorem dJ19_compareTo_2_34 : decode cJ19_compareTo_2 34 = .ok (.iload 5, 2) := dk_21 5 (dk_at dksJ19_compareTo_2_1 10 rfl rfl)
theorem dJ19_compareTo_2_36 : decode cJ19_compareTo_2 36 = .ok (.invokestatic 50, 3) := dk_184 0 50 (dk_at dksJ19_compareTo_2_1 12 rfl rfl)
theorem dJ19_compareTo_2_39 : decode cJ19_compareTo_2 39 = .ok (.isub, 1) := dk_100 (dk_at dksJ19_compareTo_2_1 15 rfl rfl)
theorem dJ19_compareTo_2_40 : decode cJ19_compareTo_2 40 = .ok (.ireturn, 1) := dk_172 (dk_at dksJ19_compareTo_2_1 16 rfl rfl)
abbrev cJ19_getChar : ByteArray := prog_36_method_44_code
def yJ19_getChar : MethodName := ⟨RJ19, "getChar", "([BI)C"⟩
def dkwJ19_getChar_0 : List UInt8 := [42, 27, 51, 17, 0, 255, 126, 146, 172]
abbrev dktJ19_getChar_0 : List UInt8 := dkwJ19_getChar_0 ++ []
theorem dksJ19_getChar_0 : cJ19_getChar.data.toList.drop 0 = dktJ19_getChar_0 := by decide +kernel
theorem dJ19_getChar_0 : decode cJ19_getChar 0 = .ok (.aload_n 0, 1) := dk_42 (dk_at dksJ19_getChar_0 0 rfl rfl)
theorem dJ19_getChar_1 : decode cJ19_getChar 1 = .ok (.iload_n 1, 1) := dk_27 (dk_at dksJ19_getChar_0 1 rfl rfl)
theorem dJ19_getChar_2 : decode cJ19_getChar 2 = .ok (.baload, 1) := dk_51 (dk_at dksJ19_getChar_0 2 rfl rfl)
theorem dJ19_getChar_3 : decode cJ19_getChar 3 = .ok (.sipush 255, 3) := dk_17 0 255 (dk_at dksJ19_getChar_0 3 rfl rfl)
theorem dJ19_getChar_6 : decode cJ19_getChar 6 = .ok (.iand, 1) := dk_126 (dk_at dksJ19_getChar_0 6 rfl rfl)
theorem dJ19_getChar_7 : decode cJ19_getChar 7 = .ok (.i2c, 1) := dk_146 (dk_at dksJ19_getChar_0 7 rfl rfl)
theorem dJ19_getChar_8 : decode cJ19_getChar 8 = .ok (.ireturn, 1) := dk_172 (dk_at dksJ19_getChar_0 8 rfl rfl)
abbrev cJ19_compareToUTF16 : ByteArray := prog_36_method_16_code
def yJ19_compareToUTF16 : MethodName := ⟨RJ19, "compareToUTF16", "([B[B)I"⟩
def dkwJ19_compareToUTF16_0 : List UInt8 := [42, 184, 0, 54, 61, 43, 184, 0, 58, 62, 42, 43, 28, 29, 184, 0, 59, 172]
abbrev dktJ19_compareToUTF16_0 : List UInt8 := dkwJ19_compareToUTF16_0 ++ []
theorem dksJ19_compareToUTF16_0 : cJ19_compareToUTF16.data.toList.drop 0 = dktJ19_compareToUTF16_0 := by decide +kernel
theorem dJ19_compareToUTF16_0 : decode cJ19_compareToUTF16 0 = .ok (.aload_n 0, 1) := dk_42 (dk_at dksJ19_compareToUTF16_0 0 rfl rfl)
theorem dJ19_compareToUTF16_1 : decode cJ19_compareToUTF16 1 = .ok (.invokestatic 54, 3) := dk_184 0 54 (dk_at dksJ19_compareToUTF16_0 1 rfl rfl)
theorem dJ19_compareToUTF16_4 : decode cJ19_compareToUTF16 4 = .ok (.istore_n 2, 1) := dk_61 (dk_at dksJ19_compareToUTF16_0 4 rfl rfl)
theorem dJ19_compareToUTF16_5 : decode cJ19_compareToUTF16 5 = .ok (.aload_n 1, 1) := dk_43 (dk_at dksJ19_compareToUTF16_0 5 rfl rfl)
theorem dJ19_compareToUTF16_6 : decode cJ19_compareToUTF16 6 = .ok (.invokestatic 58, 3) := dk_184 0 58 (dk_at dksJ19_compareToUTF16_0 6 rfl rfl)
theorem dJ19_compareToUTF16_9 : decode cJ19_compareToUTF16 9 = .ok (.istore_n 3, 1) := dk_62 (dk_at dksJ19_compareToUTF16_0 9 rfl rfl)
theorem dJ19_compareToUTF16_10 : decode cJ19_compareToUTF16 10 = .ok (.aload_n 0, 1) := dk_42 (dk_at dksJ19_compareToUTF16_0 10 rfl rfl)
theorem dJ19_compareToUTF16_11 : decode cJ19_compareToUTF16 11 = .ok (.aload_n 1, 1) := dk_43 (dk_at dksJ19_compareToUTF16_0 11 rfl rfl)
theorem dJ19_compareToUTF16_12 : decode cJ19_compareToUTF16 12 = .ok (.iload_n 2, 1) := dk_28 (dk_at dksJ19_compareToUTF16_0 12 rfl rfl)
theorem dJ19_compareToUTF16_13 : decode cJ19_compareToUTF16 13 = .ok (.iload_n 3, 1) := dk_29 (dk_at dksJ19_compareToUTF16_0 13 rfl rfl)
theorem dJ19_compareToUTF16_14 : decode cJ19_compareToUTF16 14 = .ok (.invokestatic 59, 3) := dk_184 0 59 (dk_at dksJ19_compareToUTF16_0 14 rfl rfl)
theorem dJ19_compareToUTF16_17 : decode cJ19_compareToUTF16 17 = .ok (.ireturn, 1) := dk_172 (dk_at dksJ19_compareToUTF16_0 17 rfl rfl)
abbrev cJ19_length : ByteArray := prog_36_method_5_code
def yJ19_length : MethodName := ⟨RJ19, "length", "([B)I"⟩
theorem dJ19_length_0 : decode cJ19_length 0 = .ok (.aload_n 0, 1) := by decide +kernel
theorem dJ19_length_1 : decode cJ19_length 1 = .ok (.arraylength, 1) := by decide +kernel
theorem dJ19_length_2 : decode cJ19_length 2 = .ok (.ireturn, 1) := by decide +kernel
abbrev cJ19_compareToUTF16Values : ByteArray := prog_36_method_18_code
def yJ19_compareToUTF16Values : MethodName := ⟨RJ19, "compareToUTF16Values", "([B[BII)I"⟩
def dkwJ19_compareToUTF16Values_2 : List UInt8 := [132, 5, 1, 167, 255, 217, 28, 29, 100, 172]
abbrev dktJ19_compareToUTF16Values_2 : List UInt8 := dkwJ19_compareToUTF16Values_2 ++ []
def dkwJ19_compareToUTF16Values_1 : List UInt8 := [54, 6, 43, 21, 5, 184, 0, 65, 54, 7, 21, 6, 21, 7, 159, 0, 9, 21, 6, 21, 7, 100, 172]
abbrev dktJ19_compareToUTF16Values_1 : List UInt8 := dkwJ19_compareToUTF16Values_1 ++ dktJ19_compareToUTF16Values_2
def dkwJ19_compareToUTF16Values_0 : List UInt8 := [28, 29, 184, 0, 38, 54, 4, 3, 54, 5, 21, 5, 21, 4, 162, 0, 38, 42, 21, 5, 184, 0, 50]
abbrev dktJ19_compareToUTF16Values_0 : List UInt8 := dkwJ19_compareToUTF16Values_0 ++ dktJ19_compareToUTF16Values_1
theorem dksJ19_compareToUTF16Values_0 : cJ19_compareToUTF16Values.data.toList.drop 0 = dktJ19_compareToUTF16Values_0 := by decide +kernel
theorem dksJ19_compareToUTF16Values_1 : cJ19_compareToUTF16Values.data.toList.drop 23 = dktJ19_compareToUTF16Values_1 := dk_seg dksJ19_compareToUTF16Values_0 23 rfl rfl
theorem dksJ19_compareToUTF16Values_2 : cJ19_compareToUTF16Values.data.toList.drop 46 = dktJ19_compareToUTF16Values_2 := dk_seg dksJ19_compareToUTF16Values_1 23 rfl rfl
theorem dJ19_compareToUTF16Values_0 : decode cJ19_compareToUTF16Values 0 = .ok (.iload_n 2, 1) := dk_28 (dk_at dksJ19_compareToUTF16Values_0 0 rfl rfl)
theorem dJ19_compareToUTF16Values_1 : decode cJ19_compareToUTF16Values 1 = .ok (.iload_n 3, 1) := dk_29 (dk_at dksJ19_compareToUTF16Values_0 1 rfl rfl)
theorem dJ19_compareToUTF16Values_2 : decode cJ19_compareToUTF16Values 2 = .ok (.invokestatic 38, 3) := dk_184 0 38 (dk_at dksJ19_compareToUTF16Values_0 2 rfl rfl)
theorem dJ19_compareToUTF16Values_5 : decode cJ19_compareToUTF16Values 5 = .ok (.istore 4, 2) := dk_54 4 (dk_at dksJ19_compareToUTF16Values_0 5 rfl rfl)
theorem dJ19_compareToUTF16Values_7 : decode cJ19_compareToUTF16Values 7 = .ok (.iconst 0, 1) := dk_3 (dk_at dksJ19_compareToUTF16Values_0 7 rfl rfl)
theorem dJ19_compareToUTF16Values_8 : decode cJ19_compareToUTF16Values 8 = .ok (.istore 5, 2) := dk_54 5 (dk_at dksJ19_compareToUTF16Values_0 8 rfl rfl)
theorem dJ19_compareToUTF16Values_10 : decode cJ19_compareToUTF16Values 10 = .ok (.iload 5, 2) := dk_21 5 (dk_at dksJ19_compareToUTF16Values_0 10 rfl rfl)
theorem dJ19_compareToUTF16Values_12 : decode cJ19_compareToUTF16Values 12 = .ok (.iload 4, 2) := dk_21 4 (dk_at dksJ19_compareToUTF16Values_0 12 rfl rfl)
theorem dJ19_compareToUTF16Values_14 : decode cJ19_compareToUTF16Values 14 = .ok (.if_icmp .ge 38, 3) := dk_162 0 38 (dk_at dksJ19_compareToUTF16Values_0 14 rfl rfl)
theorem dJ19_compareToUTF16Values_17 : decode cJ19_compareToUTF16Values 17 = .ok (.aload_n 0, 1) := dk_42 (dk_at dksJ19_compareToUTF16Values_0 17 rfl rfl)
theorem dJ19_compareToUTF16Values_18 : decode cJ19_compareToUTF16Values 18 = .ok (.iload 5, 2) := dk_21 5 (dk_at dksJ19_compareToUTF16Values_0 18 rfl rfl)
theorem dJ19_compareToUTF16Values_20 : decode cJ19_compareToUTF16Values 20 = .ok (.invokestatic 50, 3) := dk_184 0 50 (dk_at dksJ19_compareToUTF16Values_0 20 rfl rfl)
theorem dJ19_compareToUTF16Values_23 : decode cJ19_compareToUTF16Values 23 = .ok (.istore 6, 2) := dk_54 6 (dk_at dksJ19_compareToUTF16Values_1 0 rfl rfl)
theorem dJ19_compareToUTF16Values_25 : decode cJ19_compareToUTF16Values 25 = .ok (.aload_n 1, 1) := dk_43 (dk_at dksJ19_compareToUTF16Values_1 2 rfl rfl)
theorem dJ19_compareToUTF16Values_26 : decode cJ19_compareToUTF16Values 26 = .ok (.iload 5, 2) := dk_21 5 (dk_at dksJ19_compareToUTF16Values_1 3 rfl rfl)
theorem dJ19_compareToUTF16Values_28 : decode cJ19_compareToUTF16Values 28 = .ok (.invokestatic 65, 3) := dk_184 0 65 (dk_at dksJ19_compareToUTF16Values_1 5 rfl rfl)
theorem dJ19_compareToUTF16Values_31 : decode cJ19_compareToUTF16Values 31 = .ok (.istore 7, 2) := dk_54 7 (dk_at dksJ19_compareToUTF16Values_1 8 rfl rfl)
theorem dJ19_compareToUTF16Values_33 : decode cJ19_compareToUTF16Values 33 = .ok (.iload 6, 2) := dk_21 6 (dk_at dksJ19_compareToUTF16Values_1 10 rfl rfl)
theorem dJ19_compareToUTF16Values_35 : decode cJ19_compareToUTF16Values 35 = .ok (.iload 7, 2) := dk_21 7 (dk_at dksJ19_compareToUTF16Values_1 12 rfl rfl)
theorem dJ19_compareToUTF16Values_37 : decode cJ19_compareToUTF16Values 37 = .ok (.if_icmp .eq 9, 3) := dk_159 0 9 (dk_at dksJ19_compareToUTF16Values_1 14 rfl rfl)
theorem dJ19_compareToUTF16Values_40 : decode cJ19_compareToUTF16Values 40 = .ok (.iload 6, 2) := dk_21 6 (dk_at dksJ19_compareToUTF16Values_1 17 rfl rfl)
theorem dJ19_compareToUTF16Values_42 : decode cJ19_compareToUTF16Values 42 = .ok (.iload 7, 2) := dk_21 7 (dk_at dksJ19_compareToUTF16Values_1 19 rfl rfl)
theorem dJ19_compareToUTF16Values_44 : decode cJ19_compareToUTF16Values 44 = .ok (.isub, 1) := dk_100 (dk_at dksJ19_compareToUTF16Values_1 21 rfl rfl)
theorem dJ19_compareToUTF16Values_45 : decode cJ19_compareToUTF16Values 45 = .ok (.ireturn, 1) := dk_172 (dk_at dksJ19_compareToUTF16Values_1 22 rfl rfl)
theorem dJ19_compareToUTF16Values_46 : decode cJ19_compareToUTF16Values 46 = .ok (.iinc 5 1, 3) := dk_132 5 1 (dk_at dksJ19_compareToUTF16Values_2 0 rfl rfl)
theorem dJ19_compareToUTF16Values_49 : decode cJ19_compareToUTF16Values 49 = .ok (.goto (-39), 3) := dk_167 255 217 (dk_at dksJ19_compareToUTF16Values_2 3 rfl rfl)
theorem dJ19_compareToUTF16Values_52 : decode cJ19_compareToUTF16Values 52 = .ok (.iload_n 2, 1) := dk_28 (dk_at dksJ19_compareToUTF16Values_2 6 rfl rfl)
theorem dJ19_compareToUTF16Values_53 : decode cJ19_compareToUTF16Values 53 = .ok (.iload_n 3, 1) := dk_29 (dk_at dksJ19_compareToUTF16Values_2 7 rfl rfl)
theorem dJ19_compareToUTF16Values_54 : decode cJ19_compareToUTF16Values 54 = .ok (.isub, 1) := dk_100 (dk_at dksJ19_compareToUTF16Values_2 8 rfl rfl)
theorem dJ19_compareToUTF16Values_55 : decode cJ19_compareToUTF16Values 55 = .ok (.ireturn, 1) := dk_172 (dk_at dksJ19_compareToUTF16Values_2 9 rfl rfl)
abbrev cJ19_compareToUTF16_2 : ByteArray := prog_36_method_17_code
def yJ19_compareToUTF16_2 : MethodName := ⟨RJ19, "compareToUTF16", "([B[BII)I"⟩
def dkwJ19_compareToUTF16_2_0 : List UInt8 := [28, 42, 184, 0, 54, 184, 0, 62, 29, 43, 184, 0, 58, 184, 0, 62, 42, 43, 28, 29, 184, 0, 59, 172]
abbrev dktJ19_compareToUTF16_2_0 : List UInt8 := dkwJ19_compareToUTF16_2_0 ++ []
theorem dksJ19_compareToUTF16_2_0 : cJ19_compareToUTF16_2.data.toList.drop 0 = dktJ19_compareToUTF16_2_0 := by decide +kernel
theorem dJ19_compareToUTF16_2_0 : decode cJ19_compareToUTF16_2 0 = .ok (.iload_n 2, 1) := dk_28 (dk_at dksJ19_compareToUTF16_2_0 0 rfl rfl)
theorem dJ19_compareToUTF16_2_1 : decode cJ19_compareToUTF16_2 1 = .ok (.aload_n 0, 1) := dk_42 (dk_at dksJ19_compareToUTF16_2_0 1 rfl rfl)
theorem dJ19_compareToUTF16_2_2 : decode cJ19_compareToUTF16_2 2 = .ok (.invokestatic 54, 3) := dk_184 0 54 (dk_at dksJ19_compareToUTF16_2_0 2 rfl rfl)
theorem dJ19_compareToUTF16_2_5 : decode cJ19_compareToUTF16_2 5 = .ok (.invokestatic 62, 3) := dk_184 0 62 (dk_at dksJ19_compareToUTF16_2_0 5 rfl rfl)
theorem dJ19_compareToUTF16_2_8 : decode cJ19_compareToUTF16_2 8 = .ok (.iload_n 3, 1) := dk_29 (dk_at dksJ19_compareToUTF16_2_0 8 rfl rfl)
theorem dJ19_compareToUTF16_2_9 : decode cJ19_compareToUTF16_2 9 = .ok (.aload_n 1, 1) := dk_43 (dk_at dksJ19_compareToUTF16_2_0 9 rfl rfl)
theorem dJ19_compareToUTF16_2_10 : decode cJ19_compareToUTF16_2 10 = .ok (.invokestatic 58, 3) := dk_184 0 58 (dk_at dksJ19_compareToUTF16_2_0 10 rfl rfl)
theorem dJ19_compareToUTF16_2_13 : decode cJ19_compareToUTF16_2 13 = .ok (.invokestatic 62, 3) := dk_184 0 62 (dk_at dksJ19_compareToUTF16_2_0 13 rfl rfl)
theorem dJ19_compareToUTF16_2_16 : decode cJ19_compareToUTF16_2 16 = .ok (.aload_n 0, 1) := dk_42 (dk_at dksJ19_compareToUTF16_2_0 16 rfl rfl)
theorem dJ19_compareToUTF16_2_17 : decode cJ19_compareToUTF16_2 17 = .ok (.aload_n 1, 1) := dk_43 (dk_at dksJ19_compareToUTF16_2_0 17 rfl rfl)
theorem dJ19_compareToUTF16_2_18 : decode cJ19_compareToUTF16_2 18 = .ok (.iload_n 2, 1) := dk_28 (dk_at dksJ19_compareToUTF16_2_0 18 rfl rfl)
theorem dJ19_compareToUTF16_2_19 : decode cJ19_compareToUTF16_2 19 = .ok (.iload_n 3, 1) := dk_29 (dk_at dksJ19_compareToUTF16_2_0 19 rfl rfl)
theorem dJ19_compareToUTF16_2_20 : decode cJ19_compareToUTF16_2 20 = .ok (.invokestatic 59, 3) := dk_184 0 59 (dk_at dksJ19_compareToUTF16_2_0 20 rfl rfl)
theorem dJ19_compareToUTF16_2_23 : decode cJ19_compareToUTF16_2 23 = .ok (.ireturn, 1) := dk_172 (dk_at dksJ19_compareToUTF16_2_0 23 rfl rfl)
abbrev cJ19_inflate : ByteArray := prog_36_method_50_code
def yJ19_inflate : MethodName := ⟨RJ19, "inflate", "([BI[BII)V"⟩
def dkwJ19_inflate_0 : List UInt8 := [42, 27, 44, 29, 21, 4, 184, 0, 240, 177]
abbrev dktJ19_inflate_0 : List UInt8 := dkwJ19_inflate_0 ++ []
theorem dksJ19_inflate_0 : cJ19_inflate.data.toList.drop 0 = dktJ19_inflate_0 := by decide +kernel
theorem dJ19_inflate_0 : decode cJ19_inflate 0 = .ok (.aload_n 0, 1) := dk_42 (dk_at dksJ19_inflate_0 0 rfl rfl)
theorem dJ19_inflate_1 : decode cJ19_inflate 1 = .ok (.iload_n 1, 1) := dk_27 (dk_at dksJ19_inflate_0 1 rfl rfl)
theorem dJ19_inflate_2 : decode cJ19_inflate 2 = .ok (.aload_n 2, 1) := dk_44 (dk_at dksJ19_inflate_0 2 rfl rfl)
theorem dJ19_inflate_3 : decode cJ19_inflate 3 = .ok (.iload_n 3, 1) := dk_29 (dk_at dksJ19_inflate_0 3 rfl rfl)
theorem dJ19_inflate_4 : decode cJ19_inflate 4 = .ok (.iload 4, 2) := dk_21 4 (dk_at dksJ19_inflate_0 4 rfl rfl)
theorem dJ19_inflate_6 : decode cJ19_inflate 6 = .ok (.invokestatic 240, 3) := dk_184 0 240 (dk_at dksJ19_inflate_0 6 rfl rfl)
theorem dJ19_inflate_9 : decode cJ19_inflate 9 = .ok (.return_, 1) := dk_177 (dk_at dksJ19_inflate_0 9 rfl rfl)
abbrev cJ19_fillNull : ByteArray := prog_36_method_48_code
def yJ19_fillNull : MethodName := ⟨RJ19, "fillNull", "([BII)V"⟩
def dkwJ19_fillNull_0 : List UInt8 := [42, 27, 28, 3, 184, 0, 236, 177]
abbrev dktJ19_fillNull_0 : List UInt8 := dkwJ19_fillNull_0 ++ []
theorem dksJ19_fillNull_0 : cJ19_fillNull.data.toList.drop 0 = dktJ19_fillNull_0 := by decide +kernel
theorem dJ19_fillNull_0 : decode cJ19_fillNull 0 = .ok (.aload_n 0, 1) := dk_42 (dk_at dksJ19_fillNull_0 0 rfl rfl)
theorem dJ19_fillNull_1 : decode cJ19_fillNull 1 = .ok (.iload_n 1, 1) := dk_27 (dk_at dksJ19_fillNull_0 1 rfl rfl)
theorem dJ19_fillNull_2 : decode cJ19_fillNull 2 = .ok (.iload_n 2, 1) := dk_28 (dk_at dksJ19_fillNull_0 2 rfl rfl)
theorem dJ19_fillNull_3 : decode cJ19_fillNull 3 = .ok (.iconst 0, 1) := dk_3 (dk_at dksJ19_fillNull_0 3 rfl rfl)
theorem dJ19_fillNull_4 : decode cJ19_fillNull 4 = .ok (.invokestatic 236, 3) := dk_184 0 236 (dk_at dksJ19_fillNull_0 4 rfl rfl)
theorem dJ19_fillNull_7 : decode cJ19_fillNull 7 = .ok (.return_, 1) := dk_177 (dk_at dksJ19_fillNull_0 7 rfl rfl)
abbrev cJ19_equals : ByteArray := prog_36_method_13_code
def yJ19_equals : MethodName := ⟨RJ19, "equals", "([B[B)Z"⟩
def dkwJ19_equals_1 : List UInt8 := [3, 172, 132, 2, 1, 167, 255, 236, 4, 172, 3, 172]
abbrev dktJ19_equals_1 : List UInt8 := dkwJ19_equals_1 ++ []
def dkwJ19_equals_0 : List UInt8 := [42, 190, 43, 190, 160, 0, 30, 3, 61, 28, 42, 190, 162, 0, 20, 42, 28, 51, 43, 28, 51, 159, 0, 5]
abbrev dktJ19_equals_0 : List UInt8 := dkwJ19_equals_0 ++ dktJ19_equals_1
theorem dksJ19_equals_0 : cJ19_equals.data.toList.drop 0 = dktJ19_equals_0 := by decide +kernel
theorem dksJ19_equals_1 : cJ19_equals.data.toList.drop 24 = dktJ19_equals_1 := dk_seg dksJ19_equals_0 24 rfl rfl
theorem dJ19_equals_0 : decode cJ19_equals 0 = .ok (.aload_n 0, 1) := dk_42 (dk_at dksJ19_equals_0 0 rfl rfl)
theorem dJ19_equals_1 : decode cJ19_equals 1 = .ok (.arraylength, 1) := dk_190 (dk_at dksJ19_equals_0 1 rfl rfl)
theorem dJ19_equals_2 : decode cJ19_equals 2 = .ok (.aload_n 1, 1) := dk_43 (dk_at dksJ19_equals_0 2 rfl rfl)
theorem dJ19_equals_3 : decode cJ19_equals 3 = .ok (.arraylength, 1) := dk_190 (dk_at dksJ19_equals_0 3 rfl rfl)
theorem dJ19_equals_4 : decode cJ19_equals 4 = .ok (.if_icmp .ne 30, 3) := dk_160 0 30 (dk_at dksJ19_equals_0 4 rfl rfl)
theorem dJ19_equals_7 : decode cJ19_equals 7 = .ok (.iconst 0, 1) := dk_3 (dk_at dksJ19_equals_0 7 rfl rfl)
theorem dJ19_equals_8 : decode cJ19_equals 8 = .ok (.istore_n 2, 1) := dk_61 (dk_at dksJ19_equals_0 8 rfl rfl)
theorem dJ19_equals_9 : decode cJ19_equals 9 = .ok (.iload_n 2, 1) := dk_28 (dk_at dksJ19_equals_0 9 rfl rfl)
theorem dJ19_equals_10 : decode cJ19_equals 10 = .ok (.aload_n 0, 1) := dk_42 (dk_at dksJ19_equals_0 10 rfl rfl)
theorem dJ19_equals_11 : decode cJ19_equals 11 = .ok (.arraylength, 1) := dk_190 (dk_at dksJ19_equals_0 11 rfl rfl)
theorem dJ19_equals_12 : decode cJ19_equals 12 = .ok (.if_icmp .ge 20, 3) := dk_162 0 20 (dk_at dksJ19_equals_0 12 rfl rfl)
theorem dJ19_equals_15 : decode cJ19_equals 15 = .ok (.aload_n 0, 1) := dk_42 (dk_at dksJ19_equals_0 15 rfl rfl)
theorem dJ19_equals_16 : decode cJ19_equals 16 = .ok (.iload_n 2, 1) := dk_28 (dk_at dksJ19_equals_0 16 rfl rfl)
theorem dJ19_equals_17 : decode cJ19_equals 17 = .ok (.baload, 1) := dk_51 (dk_at dksJ19_equals_0 17 rfl rfl)
theorem dJ19_equals_18 : decode cJ19_equals 18 = .ok (.aload_n 1, 1) := dk_43 (dk_at dksJ19_equals_0 18 rfl rfl)
theorem dJ19_equals_19 : decode cJ19_equals 19 = .ok (.iload_n 2, 1) := dk_28 (dk_at dksJ19_equals_0 19 rfl rfl)
theorem dJ19_equals_20 : decode cJ19_equals 20 = .ok (.baload, 1) := dk_51 (dk_at dksJ19_equals_0 20 rfl rfl)
theorem dJ19_equals_21 : decode cJ19_equals 21 = .ok (.if_icmp .eq 5, 3) := dk_159 0 5 (dk_at dksJ19_equals_0 21 rfl rfl)
theorem dJ19_equals_24 : decode cJ19_equals 24 = .ok (.iconst 0, 1) := dk_3 (dk_at dksJ19_equals_1 0 rfl rfl)
theorem dJ19_equals_25 : decode cJ19_equals 25 = .ok (.ireturn, 1) := dk_172 (dk_at dksJ19_equals_1 1 rfl rfl)
theorem dJ19_equals_26 : decode cJ19_equals 26 = .ok (.iinc 2 1, 3) := dk_132 2 1 (dk_at dksJ19_equals_1 2 rfl rfl)
theorem dJ19_equals_29 : decode cJ19_equals 29 = .ok (.goto (-20), 3) := dk_167 255 236 (dk_at dksJ19_equals_1 5 rfl rfl)
theorem dJ19_equals_32 : decode cJ19_equals 32 = .ok (.iconst 1, 1) := dk_4 (dk_at dksJ19_equals_1 8 rfl rfl)
theorem dJ19_equals_33 : decode cJ19_equals 33 = .ok (.ireturn, 1) := dk_172 (dk_at dksJ19_equals_1 9 rfl rfl)
theorem dJ19_equals_34 : decode cJ19_equals 34 = .ok (.iconst 0, 1) := dk_3 (dk_at dksJ19_equals_1 10 rfl rfl)
theorem dJ19_equals_35 : decode cJ19_equals 35 = .ok (.ireturn, 1) := dk_172 (dk_at dksJ19_equals_1 11 rfl rfl)
abbrev cJ19_canEncode : ByteArray := prog_36_method_3_code
def yJ19_canEncode : MethodName := ⟨RJ19, "canEncode", "(C)Z"⟩
def dkwJ19_canEncode_0 : List UInt8 := [26, 17, 0, 255, 163, 0, 7, 4, 167, 0, 4, 3, 172]
abbrev dktJ19_canEncode_0 : List UInt8 := dkwJ19_canEncode_0 ++ []
theorem dksJ19_canEncode_0 : cJ19_canEncode.data.toList.drop 0 = dktJ19_canEncode_0 := by decide +kernel
theorem dJ19_canEncode_0 : decode cJ19_canEncode 0 = .ok (.iload_n 0, 1) := dk_26 (dk_at dksJ19_canEncode_0 0 rfl rfl)
theorem dJ19_canEncode_1 : decode cJ19_canEncode 1 = .ok (.sipush 255, 3) := dk_17 0 255 (dk_at dksJ19_canEncode_0 1 rfl rfl)
theorem dJ19_canEncode_4 : decode cJ19_canEncode 4 = .ok (.if_icmp .gt 7, 3) := dk_163 0 7 (dk_at dksJ19_canEncode_0 4 rfl rfl)
theorem dJ19_canEncode_7 : decode cJ19_canEncode 7 = .ok (.iconst 1, 1) := dk_4 (dk_at dksJ19_canEncode_0 7 rfl rfl)
theorem dJ19_canEncode_8 : decode cJ19_canEncode 8 = .ok (.goto 4, 3) := dk_167 0 4 (dk_at dksJ19_canEncode_0 8 rfl rfl)
theorem dJ19_canEncode_11 : decode cJ19_canEncode 11 = .ok (.iconst 0, 1) := dk_3 (dk_at dksJ19_canEncode_0 11 rfl rfl)
theorem dJ19_canEncode_12 : decode cJ19_canEncode 12 = .ok (.ireturn, 1) := dk_172 (dk_at dksJ19_canEncode_0 12 rfl rfl)
abbrev cJ19_hashCode : ByteArray := prog_36_method_21_code
def yJ19_hashCode : MethodName := ⟨RJ19, "hashCode", "([B)I"⟩
def dkwJ19_hashCode_2 : List UInt8 := [3, 167, 0, 22, 42, 3, 51, 17, 0, 255, 126, 167, 0, 12, 42, 3, 42, 190, 3, 7, 184, 0, 84, 172]
abbrev dktJ19_hashCode_2 : List UInt8 := dkwJ19_hashCode_2 ++ []
def dkwJ19_hashCode_1 : List UInt8 := [171, 0, 0, 0, 0, 40, 0, 0, 0, 2, 0, 0, 0, 0, 0, 0, 0, 26, 0, 0, 0, 1, 0, 0, 0, 30]
abbrev dktJ19_hashCode_1 : List UInt8 := dkwJ19_hashCode_1 ++ dktJ19_hashCode_2
def dkwJ19_hashCode_0 : List UInt8 := [42, 190]
abbrev dktJ19_hashCode_0 : List UInt8 := dkwJ19_hashCode_0 ++ dktJ19_hashCode_1
theorem dksJ19_hashCode_0 : cJ19_hashCode.data.toList.drop 0 = dktJ19_hashCode_0 := by decide +kernel
theorem dksJ19_hashCode_1 : cJ19_hashCode.data.toList.drop 2 = dktJ19_hashCode_1 := dk_seg dksJ19_hashCode_0 2 rfl rfl
theorem dksJ19_hashCode_2 : cJ19_hashCode.data.toList.drop 28 = dktJ19_hashCode_2 := dk_seg dksJ19_hashCode_1 26 rfl rfl
theorem dJ19_hashCode_0 : decode cJ19_hashCode 0 = .ok (.aload_n 0, 1) := dk_42 (dk_at dksJ19_hashCode_0 0 rfl rfl)
theorem dJ19_hashCode_1 : decode cJ19_hashCode 1 = .ok (.arraylength, 1) := dk_190 (dk_at dksJ19_hashCode_0 1 rfl rfl)
theorem dJ19_hashCode_2 : decode cJ19_hashCode 2 = .ok (.lookupswitch 40 #[(0, 26), (1, 30)], 26) := by decide +kernel
theorem dJ19_hashCode_28 : decode cJ19_hashCode 28 = .ok (.iconst 0, 1) := dk_3 (dk_at dksJ19_hashCode_2 0 rfl rfl)
theorem dJ19_hashCode_29 : decode cJ19_hashCode 29 = .ok (.goto 22, 3) := dk_167 0 22 (dk_at dksJ19_hashCode_2 1 rfl rfl)
theorem dJ19_hashCode_32 : decode cJ19_hashCode 32 = .ok (.aload_n 0, 1) := dk_42 (dk_at dksJ19_hashCode_2 4 rfl rfl)
theorem dJ19_hashCode_33 : decode cJ19_hashCode 33 = .ok (.iconst 0, 1) := dk_3 (dk_at dksJ19_hashCode_2 5 rfl rfl)
theorem dJ19_hashCode_34 : decode cJ19_hashCode 34 = .ok (.baload, 1) := dk_51 (dk_at dksJ19_hashCode_2 6 rfl rfl)
theorem dJ19_hashCode_35 : decode cJ19_hashCode 35 = .ok (.sipush 255, 3) := dk_17 0 255 (dk_at dksJ19_hashCode_2 7 rfl rfl)
theorem dJ19_hashCode_38 : decode cJ19_hashCode 38 = .ok (.iand, 1) := dk_126 (dk_at dksJ19_hashCode_2 10 rfl rfl)
theorem dJ19_hashCode_39 : decode cJ19_hashCode 39 = .ok (.goto 12, 3) := dk_167 0 12 (dk_at dksJ19_hashCode_2 11 rfl rfl)
theorem dJ19_hashCode_42 : decode cJ19_hashCode 42 = .ok (.aload_n 0, 1) := dk_42 (dk_at dksJ19_hashCode_2 14 rfl rfl)
theorem dJ19_hashCode_43 : decode cJ19_hashCode 43 = .ok (.iconst 0, 1) := dk_3 (dk_at dksJ19_hashCode_2 15 rfl rfl)
theorem dJ19_hashCode_44 : decode cJ19_hashCode 44 = .ok (.aload_n 0, 1) := dk_42 (dk_at dksJ19_hashCode_2 16 rfl rfl)
theorem dJ19_hashCode_45 : decode cJ19_hashCode 45 = .ok (.arraylength, 1) := dk_190 (dk_at dksJ19_hashCode_2 17 rfl rfl)
theorem dJ19_hashCode_46 : decode cJ19_hashCode 46 = .ok (.iconst 0, 1) := dk_3 (dk_at dksJ19_hashCode_2 18 rfl rfl)
theorem dJ19_hashCode_47 : decode cJ19_hashCode 47 = .ok (.iconst 4, 1) := dk_7 (dk_at dksJ19_hashCode_2 19 rfl rfl)
theorem dJ19_hashCode_48 : decode cJ19_hashCode 48 = .ok (.invokestatic 84, 3) := dk_184 0 84 (dk_at dksJ19_hashCode_2 20 rfl rfl)
theorem dJ19_hashCode_51 : decode cJ19_hashCode 51 = .ok (.ireturn, 1) := dk_172 (dk_at dksJ19_hashCode_2 23 rfl rfl)
theorem q103 : (Jvm.Cond.initialized "java/lang/StringLatin1") ∈ lw_all := lw_g (lw_at lw_m1 27 rfl) rfl
theorem q677 : (Jvm.Cond.static ({ cls := "java/lang/StringLatin1", name := "compareTo", desc := "([B[B)I" } : Jvm.MethodName)) ∈ lw_all := lw_g (lw_at lw_m3 121 rfl) rfl
theorem q678 : (Jvm.Cond.code ({ cls := "java/lang/StringLatin1", name := "compareTo", desc := "([B[B)I" } : Jvm.MethodName) prog_36_method_14_code (4 : Nat) (Option.some Jvm.ClassFile.FieldType.int)) ∈ lw_all := lw_g (lw_at lw_m3 122 rfl) rfl
theorem q679 : (Jvm.Cond.methodLink "java/lang/StringLatin1" (34 : Nat) ({ cls := "java/lang/StringLatin1", name := "compareTo", desc := "([B[BII)I" } : Jvm.MethodName)) ∈ lw_all := lw_g (lw_at lw_m3 123 rfl) rfl
theorem q680 : (Jvm.Cond.static ({ cls := "java/lang/StringLatin1", name := "compareTo", desc := "([B[BII)I" } : Jvm.MethodName)) ∈ lw_all := lw_g (lw_at lw_m3 124 rfl) rfl
theorem q681 : (Jvm.Cond.code ({ cls := "java/lang/StringLatin1", name := "compareTo", desc := "([B[BII)I" } : Jvm.MethodName) prog_36_method_15_code (6 : Nat) (Option.some Jvm.ClassFile.FieldType.int)) ∈ lw_all := lw_g (lw_at lw_m3 125 rfl) rfl
theorem q682 : (Jvm.Cond.methodLink "java/lang/StringLatin1" (38 : Nat) ({ cls := "java/lang/Math", name := "min", desc := "(II)I" } : Jvm.MethodName)) ∈ lw_all := lw_g (lw_at lw_m3 126 rfl) rfl
theorem q683 : (Jvm.Cond.methodLink "java/lang/StringLatin1" (44 : Nat) ({ cls := "jdk/internal/util/ArraysSupport", name := "mismatch", desc := "([B[BI)I" } : Jvm.MethodName)) ∈ lw_all := lw_g (lw_at lw_m3 127 rfl) rfl
theorem q787 : (Jvm.Cond.methodLink "java/lang/StringLatin1" (50 : Nat) ({ cls := "java/lang/StringLatin1", name := "getChar", desc := "([BI)C" } : Jvm.MethodName)) ∈ lw_all := lw_g (lw_at lw_m3 231 rfl) rfl
theorem q788 : (Jvm.Cond.static ({ cls := "java/lang/StringLatin1", name := "getChar", desc := "([BI)C" } : Jvm.MethodName)) ∈ lw_all := lw_g (lw_at lw_m3 232 rfl) rfl
theorem q789 : (Jvm.Cond.code ({ cls := "java/lang/StringLatin1", name := "getChar", desc := "([BI)C" } : Jvm.MethodName) prog_36_method_44_code (2 : Nat) (Option.some Jvm.ClassFile.FieldType.char)) ∈ lw_all := lw_g (lw_at lw_m3 233 rfl) rfl
theorem q810 : (Jvm.Cond.static ({ cls := "java/lang/StringLatin1", name := "compareToUTF16", desc := "([B[B)I" } : Jvm.MethodName)) ∈ lw_all := lw_g (lw_at lw_m4 14 rfl) rfl
theorem q811 : (Jvm.Cond.code ({ cls := "java/lang/StringLatin1", name := "compareToUTF16", desc := "([B[B)I" } : Jvm.MethodName) prog_36_method_16_code (4 : Nat) (Option.some Jvm.ClassFile.FieldType.int)) ∈ lw_all := lw_g (lw_at lw_m4 15 rfl) rfl
theorem q812 : (Jvm.Cond.methodLink "java/lang/StringLatin1" (54 : Nat) ({ cls := "java/lang/StringLatin1", name := "length", desc := "([B)I" } : Jvm.MethodName)) ∈ lw_all := lw_g (lw_at lw_m4 16 rfl) rfl
theorem q813 : (Jvm.Cond.static ({ cls := "java/lang/StringLatin1", name := "length", desc := "([B)I" } : Jvm.MethodName)) ∈ lw_all := lw_g (lw_at lw_m4 17 rfl) rfl
theorem q814 : (Jvm.Cond.code ({ cls := "java/lang/StringLatin1", name := "length", desc := "([B)I" } : Jvm.MethodName) prog_36_method_5_code (1 : Nat) (Option.some Jvm.ClassFile.FieldType.int)) ∈ lw_all := lw_g (lw_at lw_m4 18 rfl) rfl
theorem q815 : (Jvm.Cond.methodLink "java/lang/StringLatin1" (58 : Nat) ({ cls := "java/lang/StringUTF16", name := "length", desc := "([B)I" } : Jvm.MethodName)) ∈ lw_all := lw_g (lw_at lw_m4 19 rfl) rfl
theorem q816 : (Jvm.Cond.methodLink "java/lang/StringLatin1" (59 : Nat) ({ cls := "java/lang/StringLatin1", name := "compareToUTF16Values", desc := "([B[BII)I" } : Jvm.MethodName)) ∈ lw_all := lw_g (lw_at lw_m4 20 rfl) rfl
theorem q817 : (Jvm.Cond.static ({ cls := "java/lang/StringLatin1", name := "compareToUTF16Values", desc := "([B[BII)I" } : Jvm.MethodName)) ∈ lw_all := lw_g (lw_at lw_m4 21 rfl) rfl
theorem q818 : (Jvm.Cond.code ({ cls := "java/lang/StringLatin1", name := "compareToUTF16Values", desc := "([B[BII)I" } : Jvm.MethodName) prog_36_method_18_code (8 : Nat) (Option.some Jvm.ClassFile.FieldType.int)) ∈ lw_all := lw_g (lw_at lw_m4 22 rfl) rfl
theorem q819 : (Jvm.Cond.methodLink "java/lang/StringLatin1" (65 : Nat) ({ cls := "java/lang/StringUTF16", name := "getChar", desc := "([BI)C" } : Jvm.MethodName)) ∈ lw_all := lw_g (lw_at lw_m4 23 rfl) rfl
theorem q861 : (Jvm.Cond.static ({ cls := "java/lang/StringLatin1", name := "compareToUTF16", desc := "([B[BII)I" } : Jvm.MethodName)) ∈ lw_all := lw_g (lw_at lw_m4 65 rfl) rfl
theorem q862 : (Jvm.Cond.code ({ cls := "java/lang/StringLatin1", name := "compareToUTF16", desc := "([B[BII)I" } : Jvm.MethodName) prog_36_method_17_code (4 : Nat) (Option.some Jvm.ClassFile.FieldType.int)) ∈ lw_all := lw_g (lw_at lw_m4 66 rfl) rfl
theorem q863 : (Jvm.Cond.methodLink "java/lang/StringLatin1" (62 : Nat) ({ cls := "java/lang/String", name := "checkOffset", desc := "(II)V" } : Jvm.MethodName)) ∈ lw_all := lw_g (lw_at lw_m4 67 rfl) rfl
theorem q1264 : (Jvm.Cond.static ({ cls := "java/lang/StringLatin1", name := "inflate", desc := "([BI[BII)V" } : Jvm.MethodName)) ∈ lw_all := lw_g (lw_at lw_m5 228 rfl) rfl
theorem q1265 : (Jvm.Cond.code ({ cls := "java/lang/StringLatin1", name := "inflate", desc := "([BI[BII)V" } : Jvm.MethodName) prog_36_method_50_code (5 : Nat) (Option.none : Option Jvm.ClassFile.FieldType)) ∈ lw_all := lw_g (lw_at lw_m5 229 rfl) rfl
theorem q1266 : (Jvm.Cond.methodLink "java/lang/StringLatin1" (240 : Nat) ({ cls := "java/lang/StringUTF16", name := "inflate", desc := "([BI[BII)V" } : Jvm.MethodName)) ∈ lw_all := lw_g (lw_at lw_m5 230 rfl) rfl
theorem q1392 : (Jvm.Cond.static ({ cls := "java/lang/StringLatin1", name := "fillNull", desc := "([BII)V" } : Jvm.MethodName)) ∈ lw_all := lw_g (lw_at lw_m6 116 rfl) rfl
theorem q1393 : (Jvm.Cond.code ({ cls := "java/lang/StringLatin1", name := "fillNull", desc := "([BII)V" } : Jvm.MethodName) prog_36_method_48_code (3 : Nat) (Option.none : Option Jvm.ClassFile.FieldType)) ∈ lw_all := lw_g (lw_at lw_m6 117 rfl) rfl
theorem q1394 : (Jvm.Cond.methodLink "java/lang/StringLatin1" (236 : Nat) ({ cls := "java/util/Arrays", name := "fill", desc := "([BIIB)V" } : Jvm.MethodName)) ∈ lw_all := lw_g (lw_at lw_m6 118 rfl) rfl
theorem q1479 : (Jvm.Cond.static ({ cls := "java/lang/StringLatin1", name := "equals", desc := "([B[B)Z" } : Jvm.MethodName)) ∈ lw_all := lw_g (lw_at lw_m6 203 rfl) rfl
theorem q1480 : (Jvm.Cond.code ({ cls := "java/lang/StringLatin1", name := "equals", desc := "([B[B)Z" } : Jvm.MethodName) prog_36_method_13_code (3 : Nat) (Option.some Jvm.ClassFile.FieldType.boolean)) ∈ lw_all := lw_g (lw_at lw_m6 204 rfl) rfl
theorem q1503 : (Jvm.Cond.static ({ cls := "java/lang/StringLatin1", name := "canEncode", desc := "(C)Z" } : Jvm.MethodName)) ∈ lw_all := lw_g (lw_at lw_m6 227 rfl) rfl
theorem q1504 : (Jvm.Cond.code ({ cls := "java/lang/StringLatin1", name := "canEncode", desc := "(C)Z" } : Jvm.MethodName) prog_36_method_3_code (1 : Nat) (Option.some Jvm.ClassFile.FieldType.boolean)) ∈ lw_all := lw_g (lw_at lw_m6 228 rfl) rfl
theorem q1542 : (Jvm.Cond.static ({ cls := "java/lang/StringLatin1", name := "hashCode", desc := "([B)I" } : Jvm.MethodName)) ∈ lw_all := lw_g (lw_at lw_m7 26 rfl) rfl
theorem q1543 : (Jvm.Cond.code ({ cls := "java/lang/StringLatin1", name := "hashCode", desc := "([B)I" } : Jvm.MethodName) prog_36_method_21_code (1 : Nat) (Option.some Jvm.ClassFile.FieldType.int)) ∈ lw_all := lw_g (lw_at lw_m7 27 rfl) rfl
theorem q1544 : (Jvm.Cond.methodLink "java/lang/StringLatin1" (84 : Nat) ({ cls := "jdk/internal/util/ArraysSupport", name := "vectorizedHashCode", desc := "(Ljava/lang/Object;IIII)I" } : Jvm.MethodName)) ∈ lw_all := lw_g (lw_at lw_m7 28 rfl) rfl

/-! java/util/ArrayList -/
set_option maxRecDepth 100000
def RJ2 : String := "java/util/ArrayList"
def TJ2 : u_T := fun k => match k with
  | 0 => ("java/util/AbstractList", "modCount", "I", false)
  | 1 => ("java/util/ArrayList", "elementData", "[Ljava/lang/Object;", false)
  | _ => ("java/util/ArrayList", "size", "I", false)
def tyJ2 : Nat → FieldType := fun k => match k with
  | 0 => .int
  | 1 => .array (.object "java/lang/Object")
  | _ => .int
abbrev wsJ20 : List Cond := u_ws RJ2 TJ2 3
theorem nmJ2 : ∀ a, a < 3 → ∀ b, b < 3 → a ≠ b → (TJ2 a).2.1 ≠ (TJ2 b).2.1 := by decide +kernel
theorem tyJ2_ok : ∀ k, k < 3 → parseFieldDescriptor (TJ2 k).2.2.1 = some (tyJ2 k) := by decide +kernel
abbrev cJ2_init : ByteArray := prog_49_method_2_code
def yJ2_init : MethodName := ⟨RJ2, "<init>", "()V"⟩
def dkwJ2_init_0 : List UInt8 := [42, 183, 0, 1, 42, 178, 0, 39, 181, 0, 9, 177]
abbrev dktJ2_init_0 : List UInt8 := dkwJ2_init_0 ++ []
theorem dksJ2_init_0 : cJ2_init.data.toList.drop 0 = dktJ2_init_0 := by decide +kernel
theorem dJ2_init_0 : decode cJ2_init 0 = .ok (.aload_n 0, 1) := dk_42 (dk_at dksJ2_init_0 0 rfl rfl)
theorem dJ2_init_1 : decode cJ2_init 1 = .ok (.invokespecial 1, 3) := dk_183 0 1 (dk_at dksJ2_init_0 1 rfl rfl)
theorem dJ2_init_4 : decode cJ2_init 4 = .ok (.aload_n 0, 1) := dk_42 (dk_at dksJ2_init_0 4 rfl rfl)
theorem dJ2_init_5 : decode cJ2_init 5 = .ok (.getstatic 39, 3) := dk_178 0 39 (dk_at dksJ2_init_0 5 rfl rfl)
theorem dJ2_init_8 : decode cJ2_init 8 = .ok (.putfield 9, 3) := dk_181 0 9 (dk_at dksJ2_init_0 8 rfl rfl)
theorem dJ2_init_11 : decode cJ2_init 11 = .ok (.return_, 1) := dk_177 (dk_at dksJ2_init_0 11 rfl rfl)
abbrev cJ2_add : ByteArray := prog_49_method_25_code
def yJ2_add : MethodName := ⟨RJ2, "add", "(Ljava/lang/Object;)Z"⟩
def dkwJ2_add_1 : List UInt8 := [172]
abbrev dktJ2_add_1 : List UInt8 := dkwJ2_add_1 ++ []
def dkwJ2_add_0 : List UInt8 := [42, 89, 180, 0, 63, 4, 96, 181, 0, 63, 42, 43, 42, 180, 0, 9, 42, 180, 0, 48, 182, 0, 131, 4]
abbrev dktJ2_add_0 : List UInt8 := dkwJ2_add_0 ++ dktJ2_add_1
theorem dksJ2_add_0 : cJ2_add.data.toList.drop 0 = dktJ2_add_0 := by decide +kernel
theorem dksJ2_add_1 : cJ2_add.data.toList.drop 24 = dktJ2_add_1 := dk_seg dksJ2_add_0 24 rfl rfl
theorem dJ2_add_0 : decode cJ2_add 0 = .ok (.aload_n 0, 1) := dk_42 (dk_at dksJ2_add_0 0 rfl rfl)
theorem dJ2_add_1 : decode cJ2_add 1 = .ok (.dup, 1) := dk_89 (dk_at dksJ2_add_0 1 rfl rfl)
theorem dJ2_add_2 : decode cJ2_add 2 = .ok (.getfield 63, 3) := dk_180 0 63 (dk_at dksJ2_add_0 2 rfl rfl)
theorem dJ2_add_5 : decode cJ2_add 5 = .ok (.iconst 1, 1) := dk_4 (dk_at dksJ2_add_0 5 rfl rfl)
theorem dJ2_add_6 : decode cJ2_add 6 = .ok (.iadd, 1) := dk_96 (dk_at dksJ2_add_0 6 rfl rfl)
theorem dJ2_add_7 : decode cJ2_add 7 = .ok (.putfield 63, 3) := dk_181 0 63 (dk_at dksJ2_add_0 7 rfl rfl)
theorem dJ2_add_10 : decode cJ2_add 10 = .ok (.aload_n 0, 1) := dk_42 (dk_at dksJ2_add_0 10 rfl rfl)
theorem dJ2_add_11 : decode cJ2_add 11 = .ok (.aload_n 1, 1) := dk_43 (dk_at dksJ2_add_0 11 rfl rfl)
theorem dJ2_add_12 : decode cJ2_add 12 = .ok (.aload_n 0, 1) := dk_42 (dk_at dksJ2_add_0 12 rfl rfl)
theorem dJ2_add_13 : decode cJ2_add 13 = .ok (.getfield 9, 3) := dk_180 0 9 (dk_at dksJ2_add_0 13 rfl rfl)
theorem dJ2_add_16 : decode cJ2_add 16 = .ok (.aload_n 0, 1) := dk_42 (dk_at dksJ2_add_0 16 rfl rfl)
theorem dJ2_add_17 : decode cJ2_add 17 = .ok (.getfield 48, 3) := dk_180 0 48 (dk_at dksJ2_add_0 17 rfl rfl)
theorem dJ2_add_20 : decode cJ2_add 20 = .ok (.invokevirtual 131, 3) := dk_182 0 131 (dk_at dksJ2_add_0 20 rfl rfl)
theorem dJ2_add_23 : decode cJ2_add 23 = .ok (.iconst 1, 1) := dk_4 (dk_at dksJ2_add_0 23 rfl rfl)
theorem dJ2_add_24 : decode cJ2_add 24 = .ok (.ireturn, 1) := dk_172 (dk_at dksJ2_add_1 0 rfl rfl)
abbrev cJ2_add_2 : ByteArray := prog_49_method_24_code
def yJ2_add_2 : MethodName := ⟨RJ2, "add", "(Ljava/lang/Object;[Ljava/lang/Object;I)V"⟩
def dkwJ2_add_2_0 : List UInt8 := [29, 44, 190, 160, 0, 8, 42, 182, 0, 129, 77, 44, 29, 43, 83, 42, 29, 4, 96, 181, 0, 48, 177]
abbrev dktJ2_add_2_0 : List UInt8 := dkwJ2_add_2_0 ++ []
theorem dksJ2_add_2_0 : cJ2_add_2.data.toList.drop 0 = dktJ2_add_2_0 := by decide +kernel
theorem dJ2_add_2_0 : decode cJ2_add_2 0 = .ok (.iload_n 3, 1) := dk_29 (dk_at dksJ2_add_2_0 0 rfl rfl)
theorem dJ2_add_2_1 : decode cJ2_add_2 1 = .ok (.aload_n 2, 1) := dk_44 (dk_at dksJ2_add_2_0 1 rfl rfl)
theorem dJ2_add_2_2 : decode cJ2_add_2 2 = .ok (.arraylength, 1) := dk_190 (dk_at dksJ2_add_2_0 2 rfl rfl)
theorem dJ2_add_2_3 : decode cJ2_add_2 3 = .ok (.if_icmp .ne 8, 3) := dk_160 0 8 (dk_at dksJ2_add_2_0 3 rfl rfl)
theorem dJ2_add_2_6 : decode cJ2_add_2 6 = .ok (.aload_n 0, 1) := dk_42 (dk_at dksJ2_add_2_0 6 rfl rfl)
theorem dJ2_add_2_7 : decode cJ2_add_2 7 = .ok (.invokevirtual 129, 3) := dk_182 0 129 (dk_at dksJ2_add_2_0 7 rfl rfl)
theorem dJ2_add_2_10 : decode cJ2_add_2 10 = .ok (.astore_n 2, 1) := dk_77 (dk_at dksJ2_add_2_0 10 rfl rfl)
theorem dJ2_add_2_11 : decode cJ2_add_2 11 = .ok (.aload_n 2, 1) := dk_44 (dk_at dksJ2_add_2_0 11 rfl rfl)
theorem dJ2_add_2_12 : decode cJ2_add_2 12 = .ok (.iload_n 3, 1) := dk_29 (dk_at dksJ2_add_2_0 12 rfl rfl)
theorem dJ2_add_2_13 : decode cJ2_add_2 13 = .ok (.aload_n 1, 1) := dk_43 (dk_at dksJ2_add_2_0 13 rfl rfl)
theorem dJ2_add_2_14 : decode cJ2_add_2 14 = .ok (.aastore, 1) := dk_83 (dk_at dksJ2_add_2_0 14 rfl rfl)
theorem dJ2_add_2_15 : decode cJ2_add_2 15 = .ok (.aload_n 0, 1) := dk_42 (dk_at dksJ2_add_2_0 15 rfl rfl)
theorem dJ2_add_2_16 : decode cJ2_add_2 16 = .ok (.iload_n 3, 1) := dk_29 (dk_at dksJ2_add_2_0 16 rfl rfl)
theorem dJ2_add_2_17 : decode cJ2_add_2 17 = .ok (.iconst 1, 1) := dk_4 (dk_at dksJ2_add_2_0 17 rfl rfl)
theorem dJ2_add_2_18 : decode cJ2_add_2 18 = .ok (.iadd, 1) := dk_96 (dk_at dksJ2_add_2_0 18 rfl rfl)
theorem dJ2_add_2_19 : decode cJ2_add_2 19 = .ok (.putfield 48, 3) := dk_181 0 48 (dk_at dksJ2_add_2_0 19 rfl rfl)
theorem dJ2_add_2_22 : decode cJ2_add_2 22 = .ok (.return_, 1) := dk_177 (dk_at dksJ2_add_2_0 22 rfl rfl)
abbrev cJ2_grow : ByteArray := prog_49_method_7_code
def yJ2_grow : MethodName := ⟨RJ2, "grow", "()[Ljava/lang/Object;"⟩
def dkwJ2_grow_0 : List UInt8 := [42, 42, 180, 0, 48, 4, 96, 182, 0, 69, 176]
abbrev dktJ2_grow_0 : List UInt8 := dkwJ2_grow_0 ++ []
theorem dksJ2_grow_0 : cJ2_grow.data.toList.drop 0 = dktJ2_grow_0 := by decide +kernel
theorem dJ2_grow_0 : decode cJ2_grow 0 = .ok (.aload_n 0, 1) := dk_42 (dk_at dksJ2_grow_0 0 rfl rfl)
theorem dJ2_grow_1 : decode cJ2_grow 1 = .ok (.aload_n 0, 1) := dk_42 (dk_at dksJ2_grow_0 1 rfl rfl)
theorem dJ2_grow_2 : decode cJ2_grow 2 = .ok (.getfield 48, 3) := dk_180 0 48 (dk_at dksJ2_grow_0 2 rfl rfl)
theorem dJ2_grow_5 : decode cJ2_grow 5 = .ok (.iconst 1, 1) := dk_4 (dk_at dksJ2_grow_0 5 rfl rfl)
theorem dJ2_grow_6 : decode cJ2_grow 6 = .ok (.iadd, 1) := dk_96 (dk_at dksJ2_grow_0 6 rfl rfl)
theorem dJ2_grow_7 : decode cJ2_grow 7 = .ok (.invokevirtual 69, 3) := dk_182 0 69 (dk_at dksJ2_grow_0 7 rfl rfl)
theorem dJ2_grow_10 : decode cJ2_grow 10 = .ok (.areturn, 1) := dk_176 (dk_at dksJ2_grow_0 10 rfl rfl)
abbrev cJ2_grow_2 : ByteArray := prog_49_method_6_code
def yJ2_grow_2 : MethodName := ⟨RJ2, "grow", "(I)[Ljava/lang/Object;"⟩
def dkwJ2_grow_2_2 : List UInt8 := [27, 184, 0, 79, 189, 0, 7, 90, 181, 0, 9, 176]
abbrev dktJ2_grow_2_2 : List UInt8 := dkwJ2_grow_2_2 ++ []
def dkwJ2_grow_2_1 : List UInt8 := [28, 4, 122, 184, 0, 73, 62, 42, 42, 180, 0, 9, 29, 184, 0, 66, 90, 181, 0, 9, 176, 42, 16, 10]
abbrev dktJ2_grow_2_1 : List UInt8 := dkwJ2_grow_2_1 ++ dktJ2_grow_2_2
def dkwJ2_grow_2_0 : List UInt8 := [42, 180, 0, 9, 190, 61, 28, 157, 0, 13, 42, 180, 0, 9, 178, 0, 39, 165, 0, 28, 28, 27, 28, 100]
abbrev dktJ2_grow_2_0 : List UInt8 := dkwJ2_grow_2_0 ++ dktJ2_grow_2_1
theorem dksJ2_grow_2_0 : cJ2_grow_2.data.toList.drop 0 = dktJ2_grow_2_0 := by decide +kernel
theorem dksJ2_grow_2_1 : cJ2_grow_2.data.toList.drop 24 = dktJ2_grow_2_1 := dk_seg dksJ2_grow_2_0 24 rfl rfl
theorem dksJ2_grow_2_2 : cJ2_grow_2.data.toList.drop 48 = dktJ2_grow_2_2 := dk_seg dksJ2_grow_2_1 24 rfl rfl
theorem dJ2_grow_2_0 : decode cJ2_grow_2 0 = .ok (.aload_n 0, 1) := dk_42 (dk_at dksJ2_grow_2_0 0 rfl rfl)
theorem dJ2_grow_2_1 : decode cJ2_grow_2 1 = .ok (.getfield 9, 3) := dk_180 0 9 (dk_at dksJ2_grow_2_0 1 rfl rfl)
theorem dJ2_grow_2_4 : decode cJ2_grow_2 4 = .ok (.arraylength, 1) := dk_190 (dk_at dksJ2_grow_2_0 4 rfl rfl)
theorem dJ2_grow_2_5 : decode cJ2_grow_2 5 = .ok (.istore_n 2, 1) := dk_61 (dk_at dksJ2_grow_2_0 5 rfl rfl)
theorem dJ2_grow_2_6 : decode cJ2_grow_2 6 = .ok (.iload_n 2, 1) := dk_28 (dk_at dksJ2_grow_2_0 6 rfl rfl)
theorem dJ2_grow_2_7 : decode cJ2_grow_2 7 = .ok (.ifCond .gt 13, 3) := dk_157 0 13 (dk_at dksJ2_grow_2_0 7 rfl rfl)
theorem dJ2_grow_2_10 : decode cJ2_grow_2 10 = .ok (.aload_n 0, 1) := dk_42 (dk_at dksJ2_grow_2_0 10 rfl rfl)
theorem dJ2_grow_2_11 : decode cJ2_grow_2 11 = .ok (.getfield 9, 3) := dk_180 0 9 (dk_at dksJ2_grow_2_0 11 rfl rfl)
theorem dJ2_grow_2_14 : decode cJ2_grow_2 14 = .ok (.getstatic 39, 3) := dk_178 0 39 (dk_at dksJ2_grow_2_0 14 rfl rfl)
theorem dJ2_grow_2_17 : decode cJ2_grow_2 17 = .ok (.if_acmp .eq 28, 3) := dk_165 0 28 (dk_at dksJ2_grow_2_0 17 rfl rfl)
theorem dJ2_grow_2_20 : decode cJ2_grow_2 20 = .ok (.iload_n 2, 1) := dk_28 (dk_at dksJ2_grow_2_0 20 rfl rfl)
theorem dJ2_grow_2_21 : decode cJ2_grow_2 21 = .ok (.iload_n 1, 1) := dk_27 (dk_at dksJ2_grow_2_0 21 rfl rfl)
theorem dJ2_grow_2_22 : decode cJ2_grow_2 22 = .ok (.iload_n 2, 1) := dk_28 (dk_at dksJ2_grow_2_0 22 rfl rfl)
theorem dJ2_grow_2_23 : decode cJ2_grow_2 23 = .ok (.isub, 1) := dk_100 (dk_at dksJ2_grow_2_0 23 rfl rfl)
theorem dJ2_grow_2_24 : decode cJ2_grow_2 24 = .ok (.iload_n 2, 1) := dk_28 (dk_at dksJ2_grow_2_1 0 rfl rfl)
theorem dJ2_grow_2_25 : decode cJ2_grow_2 25 = .ok (.iconst 1, 1) := dk_4 (dk_at dksJ2_grow_2_1 1 rfl rfl)
theorem dJ2_grow_2_26 : decode cJ2_grow_2 26 = .ok (.ishr, 1) := dk_122 (dk_at dksJ2_grow_2_1 2 rfl rfl)
theorem dJ2_grow_2_27 : decode cJ2_grow_2 27 = .ok (.invokestatic 73, 3) := dk_184 0 73 (dk_at dksJ2_grow_2_1 3 rfl rfl)
theorem dJ2_grow_2_30 : decode cJ2_grow_2 30 = .ok (.istore_n 3, 1) := dk_62 (dk_at dksJ2_grow_2_1 6 rfl rfl)
theorem dJ2_grow_2_31 : decode cJ2_grow_2 31 = .ok (.aload_n 0, 1) := dk_42 (dk_at dksJ2_grow_2_1 7 rfl rfl)
theorem dJ2_grow_2_32 : decode cJ2_grow_2 32 = .ok (.aload_n 0, 1) := dk_42 (dk_at dksJ2_grow_2_1 8 rfl rfl)
theorem dJ2_grow_2_33 : decode cJ2_grow_2 33 = .ok (.getfield 9, 3) := dk_180 0 9 (dk_at dksJ2_grow_2_1 9 rfl rfl)
theorem dJ2_grow_2_36 : decode cJ2_grow_2 36 = .ok (.iload_n 3, 1) := dk_29 (dk_at dksJ2_grow_2_1 12 rfl rfl)
theorem dJ2_grow_2_37 : decode cJ2_grow_2 37 = .ok (.invokestatic 66, 3) := dk_184 0 66 (dk_at dksJ2_grow_2_1 13 rfl rfl)
theorem dJ2_grow_2_40 : decode cJ2_grow_2 40 = .ok (.dup_x1, 1) := dk_90 (dk_at dksJ2_grow_2_1 16 rfl rfl)
theorem dJ2_grow_2_41 : decode cJ2_grow_2 41 = .ok (.putfield 9, 3) := dk_181 0 9 (dk_at dksJ2_grow_2_1 17 rfl rfl)
theorem dJ2_grow_2_44 : decode cJ2_grow_2 44 = .ok (.areturn, 1) := dk_176 (dk_at dksJ2_grow_2_1 20 rfl rfl)
theorem dJ2_grow_2_45 : decode cJ2_grow_2 45 = .ok (.aload_n 0, 1) := dk_42 (dk_at dksJ2_grow_2_1 21 rfl rfl)
theorem dJ2_grow_2_46 : decode cJ2_grow_2 46 = .ok (.bipush 10, 2) := dk_16 10 (dk_at dksJ2_grow_2_1 22 rfl rfl)
theorem dJ2_grow_2_48 : decode cJ2_grow_2 48 = .ok (.iload_n 1, 1) := dk_27 (dk_at dksJ2_grow_2_2 0 rfl rfl)
theorem dJ2_grow_2_49 : decode cJ2_grow_2 49 = .ok (.invokestatic 79, 3) := dk_184 0 79 (dk_at dksJ2_grow_2_2 1 rfl rfl)
theorem dJ2_grow_2_52 : decode cJ2_grow_2 52 = .ok (.anewarray 7, 3) := dk_189 0 7 (dk_at dksJ2_grow_2_2 4 rfl rfl)
theorem dJ2_grow_2_55 : decode cJ2_grow_2 55 = .ok (.dup_x1, 1) := dk_90 (dk_at dksJ2_grow_2_2 7 rfl rfl)
theorem dJ2_grow_2_56 : decode cJ2_grow_2 56 = .ok (.putfield 9, 3) := dk_181 0 9 (dk_at dksJ2_grow_2_2 8 rfl rfl)
theorem dJ2_grow_2_59 : decode cJ2_grow_2 59 = .ok (.areturn, 1) := dk_176 (dk_at dksJ2_grow_2_2 11 rfl rfl)
abbrev cJ2_get : ByteArray := prog_49_method_20_code
def yJ2_get : MethodName := ⟨RJ2, "get", "(I)Ljava/lang/Object;"⟩
def dkwJ2_get_0 : List UInt8 := [27, 42, 180, 0, 48, 184, 0, 118, 87, 42, 27, 182, 0, 123, 176]
abbrev dktJ2_get_0 : List UInt8 := dkwJ2_get_0 ++ []
theorem dksJ2_get_0 : cJ2_get.data.toList.drop 0 = dktJ2_get_0 := by decide +kernel
theorem dJ2_get_0 : decode cJ2_get 0 = .ok (.iload_n 1, 1) := dk_27 (dk_at dksJ2_get_0 0 rfl rfl)
theorem dJ2_get_1 : decode cJ2_get 1 = .ok (.aload_n 0, 1) := dk_42 (dk_at dksJ2_get_0 1 rfl rfl)
theorem dJ2_get_2 : decode cJ2_get 2 = .ok (.getfield 48, 3) := dk_180 0 48 (dk_at dksJ2_get_0 2 rfl rfl)
theorem dJ2_get_5 : decode cJ2_get 5 = .ok (.invokestatic 118, 3) := dk_184 0 118 (dk_at dksJ2_get_0 5 rfl rfl)
theorem dJ2_get_8 : decode cJ2_get 8 = .ok (.pop, 1) := dk_87 (dk_at dksJ2_get_0 8 rfl rfl)
theorem dJ2_get_9 : decode cJ2_get 9 = .ok (.aload_n 0, 1) := dk_42 (dk_at dksJ2_get_0 9 rfl rfl)
theorem dJ2_get_10 : decode cJ2_get 10 = .ok (.iload_n 1, 1) := dk_27 (dk_at dksJ2_get_0 10 rfl rfl)
theorem dJ2_get_11 : decode cJ2_get 11 = .ok (.invokevirtual 123, 3) := dk_182 0 123 (dk_at dksJ2_get_0 11 rfl rfl)
theorem dJ2_get_14 : decode cJ2_get 14 = .ok (.areturn, 1) := dk_176 (dk_at dksJ2_get_0 14 rfl rfl)
abbrev cJ2_elementData : ByteArray := prog_49_method_18_code
def yJ2_elementData : MethodName := ⟨RJ2, "elementData", "(I)Ljava/lang/Object;"⟩
def dkwJ2_elementData_0 : List UInt8 := [42, 180, 0, 9, 27, 50, 176]
abbrev dktJ2_elementData_0 : List UInt8 := dkwJ2_elementData_0 ++ []
theorem dksJ2_elementData_0 : cJ2_elementData.data.toList.drop 0 = dktJ2_elementData_0 := by decide +kernel
theorem dJ2_elementData_0 : decode cJ2_elementData 0 = .ok (.aload_n 0, 1) := dk_42 (dk_at dksJ2_elementData_0 0 rfl rfl)
theorem dJ2_elementData_1 : decode cJ2_elementData 1 = .ok (.getfield 9, 3) := dk_180 0 9 (dk_at dksJ2_elementData_0 1 rfl rfl)
theorem dJ2_elementData_4 : decode cJ2_elementData 4 = .ok (.iload_n 1, 1) := dk_27 (dk_at dksJ2_elementData_0 4 rfl rfl)
theorem dJ2_elementData_5 : decode cJ2_elementData 5 = .ok (.aaload, 1) := dk_50 (dk_at dksJ2_elementData_0 5 rfl rfl)
theorem dJ2_elementData_6 : decode cJ2_elementData 6 = .ok (.areturn, 1) := dk_176 (dk_at dksJ2_elementData_0 6 rfl rfl)
abbrev cJ2_size : ByteArray := prog_49_method_8_code
def yJ2_size : MethodName := ⟨RJ2, "size", "()I"⟩
theorem dJ2_size_0 : decode cJ2_size 0 = .ok (.aload_n 0, 1) := by decide +kernel
theorem dJ2_size_1 : decode cJ2_size 1 = .ok (.getfield 48, 3) := by decide +kernel
theorem dJ2_size_4 : decode cJ2_size 4 = .ok (.ireturn, 1) := by decide +kernel
abbrev cJ2_isEmpty : ByteArray := prog_49_method_9_code
def yJ2_isEmpty : MethodName := ⟨RJ2, "isEmpty", "()Z"⟩
def dkwJ2_isEmpty_0 : List UInt8 := [42, 180, 0, 48, 154, 0, 7, 4, 167, 0, 4, 3, 172]
abbrev dktJ2_isEmpty_0 : List UInt8 := dkwJ2_isEmpty_0 ++ []
theorem dksJ2_isEmpty_0 : cJ2_isEmpty.data.toList.drop 0 = dktJ2_isEmpty_0 := by decide +kernel
theorem dJ2_isEmpty_0 : decode cJ2_isEmpty 0 = .ok (.aload_n 0, 1) := dk_42 (dk_at dksJ2_isEmpty_0 0 rfl rfl)
theorem dJ2_isEmpty_1 : decode cJ2_isEmpty 1 = .ok (.getfield 48, 3) := dk_180 0 48 (dk_at dksJ2_isEmpty_0 1 rfl rfl)
theorem dJ2_isEmpty_4 : decode cJ2_isEmpty 4 = .ok (.ifCond .ne 7, 3) := dk_154 0 7 (dk_at dksJ2_isEmpty_0 4 rfl rfl)
theorem dJ2_isEmpty_7 : decode cJ2_isEmpty 7 = .ok (.iconst 1, 1) := dk_4 (dk_at dksJ2_isEmpty_0 7 rfl rfl)
theorem dJ2_isEmpty_8 : decode cJ2_isEmpty 8 = .ok (.goto 4, 3) := dk_167 0 4 (dk_at dksJ2_isEmpty_0 8 rfl rfl)
theorem dJ2_isEmpty_11 : decode cJ2_isEmpty 11 = .ok (.iconst 0, 1) := dk_3 (dk_at dksJ2_isEmpty_0 11 rfl rfl)
theorem dJ2_isEmpty_12 : decode cJ2_isEmpty 12 = .ok (.ireturn, 1) := dk_172 (dk_at dksJ2_isEmpty_0 12 rfl rfl)
abbrev cJ2_remove : ByteArray := prog_49_method_29_code
def yJ2_remove : MethodName := ⟨RJ2, "remove", "(I)Ljava/lang/Object;"⟩
def dkwJ2_remove_1 : List UInt8 := [45, 176]
abbrev dktJ2_remove_1 : List UInt8 := dkwJ2_remove_1 ++ []
def dkwJ2_remove_0 : List UInt8 := [27, 42, 180, 0, 48, 184, 0, 118, 87, 42, 180, 0, 9, 77, 44, 27, 50, 78, 42, 44, 27, 182, 0, 144]
abbrev dktJ2_remove_0 : List UInt8 := dkwJ2_remove_0 ++ dktJ2_remove_1
theorem dksJ2_remove_0 : cJ2_remove.data.toList.drop 0 = dktJ2_remove_0 := by decide +kernel
theorem dksJ2_remove_1 : cJ2_remove.data.toList.drop 24 = dktJ2_remove_1 := dk_seg dksJ2_remove_0 24 rfl rfl
theorem dJ2_remove_0 : decode cJ2_remove 0 = .ok (.iload_n 1, 1) := dk_27 (dk_at dksJ2_remove_0 0 rfl rfl)
theorem dJ2_remove_1 : decode cJ2_remove 1 = .ok (.aload_n 0, 1) := dk_42 (dk_at dksJ2_remove_0 1 rfl rfl)
theorem dJ2_remove_2 : decode cJ2_remove 2 = .ok (.getfield 48, 3) := dk_180 0 48 (dk_at dksJ2_remove_0 2 rfl rfl)
theorem dJ2_remove_5 : decode cJ2_remove 5 = .ok (.invokestatic 118, 3) := dk_184 0 118 (dk_at dksJ2_remove_0 5 rfl rfl)
theorem dJ2_remove_8 : decode cJ2_remove 8 = .ok (.pop, 1) := dk_87 (dk_at dksJ2_remove_0 8 rfl rfl)
theorem dJ2_remove_9 : decode cJ2_remove 9 = .ok (.aload_n 0, 1) := dk_42 (dk_at dksJ2_remove_0 9 rfl rfl)
theorem dJ2_remove_10 : decode cJ2_remove 10 = .ok (.getfield 9, 3) := dk_180 0 9 (dk_at dksJ2_remove_0 10 rfl rfl)
theorem dJ2_remove_13 : decode cJ2_remove 13 = .ok (.astore_n 2, 1) := dk_77 (dk_at dksJ2_remove_0 13 rfl rfl)
theorem dJ2_remove_14 : decode cJ2_remove 14 = .ok (.aload_n 2, 1) := dk_44 (dk_at dksJ2_remove_0 14 rfl rfl)
theorem dJ2_remove_15 : decode cJ2_remove 15 = .ok (.iload_n 1, 1) := dk_27 (dk_at dksJ2_remove_0 15 rfl rfl)
theorem dJ2_remove_16 : decode cJ2_remove 16 = .ok (.aaload, 1) := dk_50 (dk_at dksJ2_remove_0 16 rfl rfl)
theorem dJ2_remove_17 : decode cJ2_remove 17 = .ok (.astore_n 3, 1) := dk_78 (dk_at dksJ2_remove_0 17 rfl rfl)
theorem dJ2_remove_18 : decode cJ2_remove 18 = .ok (.aload_n 0, 1) := dk_42 (dk_at dksJ2_remove_0 18 rfl rfl)
theorem dJ2_remove_19 : decode cJ2_remove 19 = .ok (.aload_n 2, 1) := dk_44 (dk_at dksJ2_remove_0 19 rfl rfl)
theorem dJ2_remove_20 : decode cJ2_remove 20 = .ok (.iload_n 1, 1) := dk_27 (dk_at dksJ2_remove_0 20 rfl rfl)
theorem dJ2_remove_21 : decode cJ2_remove 21 = .ok (.invokevirtual 144, 3) := dk_182 0 144 (dk_at dksJ2_remove_0 21 rfl rfl)
theorem dJ2_remove_24 : decode cJ2_remove 24 = .ok (.aload_n 3, 1) := dk_45 (dk_at dksJ2_remove_1 0 rfl rfl)
theorem dJ2_remove_25 : decode cJ2_remove 25 = .ok (.areturn, 1) := dk_176 (dk_at dksJ2_remove_1 1 rfl rfl)
abbrev cJ2_fastRemove : ByteArray := prog_49_method_39_code
def yJ2_fastRemove : MethodName := ⟨RJ2, "fastRemove", "([Ljava/lang/Object;I)V"⟩
def dkwJ2_fastRemove_1 : List UInt8 := [4, 96, 43, 28, 29, 28, 100, 184, 0, 112, 43, 42, 29, 90, 181, 0, 48, 1, 83, 177]
abbrev dktJ2_fastRemove_1 : List UInt8 := dkwJ2_fastRemove_1 ++ []
def dkwJ2_fastRemove_0 : List UInt8 := [42, 89, 180, 0, 63, 4, 96, 181, 0, 63, 42, 180, 0, 48, 4, 100, 89, 62, 28, 164, 0, 15, 43, 28]
abbrev dktJ2_fastRemove_0 : List UInt8 := dkwJ2_fastRemove_0 ++ dktJ2_fastRemove_1
theorem dksJ2_fastRemove_0 : cJ2_fastRemove.data.toList.drop 0 = dktJ2_fastRemove_0 := by decide +kernel
theorem dksJ2_fastRemove_1 : cJ2_fastRemove.data.toList.drop 24 = dktJ2_fastRemove_1 := dk_seg dksJ2_fastRemove_0 24 rfl rfl
theorem dJ2_fastRemove_0 : decode cJ2_fastRemove 0 = .ok (.aload_n 0, 1) := dk_42 (dk_at dksJ2_fastRemove_0 0 rfl rfl)
theorem dJ2_fastRemove_1 : decode cJ2_fastRemove 1 = .ok (.dup, 1) := dk_89 (dk_at dksJ2_fastRemove_0 1 rfl rfl)
theorem dJ2_fastRemove_2 : decode cJ2_fastRemove 2 = .ok (.getfield 63, 3) := dk_180 0 63 (dk_at dksJ2_fastRemove_0 2 rfl rfl)
theorem dJ2_fastRemove_5 : decode cJ2_fastRemove 5 = .ok (.iconst 1, 1) := dk_4 (dk_at dksJ2_fastRemove_0 5 rfl rfl)
theorem dJ2_fastRemove_6 : decode cJ2_fastRemove 6 = .ok (.iadd, 1) := dk_96 (dk_at dksJ2_fastRemove_0 6 rfl rfl)
theorem dJ2_fastRemove_7 : decode cJ2_fastRemove 7 = .ok (.putfield 63, 3) := dk_181 0 63 (dk_at dksJ2_fastRemove_0 7 rfl rfl)
theorem dJ2_fastRemove_10 : decode cJ2_fastRemove 10 = .ok (.aload_n 0, 1) := dk_42 (dk_at dksJ2_fastRemove_0 10 rfl rfl)
theorem dJ2_fastRemove_11 : decode cJ2_fastRemove 11 = .ok (.getfield 48, 3) := dk_180 0 48 (dk_at dksJ2_fastRemove_0 11 rfl rfl)
theorem dJ2_fastRemove_14 : decode cJ2_fastRemove 14 = .ok (.iconst 1, 1) := dk_4 (dk_at dksJ2_fastRemove_0 14 rfl rfl)
theorem dJ2_fastRemove_15 : decode cJ2_fastRemove 15 = .ok (.isub, 1) := dk_100 (dk_at dksJ2_fastRemove_0 15 rfl rfl)
theorem dJ2_fastRemove_16 : decode cJ2_fastRemove 16 = .ok (.dup, 1) := dk_89 (dk_at dksJ2_fastRemove_0 16 rfl rfl)
theorem dJ2_fastRemove_17 : decode cJ2_fastRemove 17 = .ok (.istore_n 3, 1) := dk_62 (dk_at dksJ2_fastRemove_0 17 rfl rfl)
theorem dJ2_fastRemove_18 : decode cJ2_fastRemove 18 = .ok (.iload_n 2, 1) := dk_28 (dk_at dksJ2_fastRemove_0 18 rfl rfl)
theorem dJ2_fastRemove_19 : decode cJ2_fastRemove 19 = .ok (.if_icmp .le 15, 3) := dk_164 0 15 (dk_at dksJ2_fastRemove_0 19 rfl rfl)
theorem dJ2_fastRemove_22 : decode cJ2_fastRemove 22 = .ok (.aload_n 1, 1) := dk_43 (dk_at dksJ2_fastRemove_0 22 rfl rfl)
theorem dJ2_fastRemove_23 : decode cJ2_fastRemove 23 = .ok (.iload_n 2, 1) := dk_28 (dk_at dksJ2_fastRemove_0 23 rfl rfl)
theorem dJ2_fastRemove_24 : decode cJ2_fastRemove 24 = .ok (.iconst 1, 1) := dk_4 (dk_at dksJ2_fastRemove_1 0 rfl rfl)
theorem dJ2_fastRemove_25 : decode cJ2_fastRemove 25 = .ok (.iadd, 1) := dk_96 (dk_at dksJ2_fastRemove_1 1 rfl rfl)
theorem dJ2_fastRemove_26 : decode cJ2_fastRemove 26 = .ok (.aload_n 1, 1) := dk_43 (dk_at dksJ2_fastRemove_1 2 rfl rfl)
theorem dJ2_fastRemove_27 : decode cJ2_fastRemove 27 = .ok (.iload_n 2, 1) := dk_28 (dk_at dksJ2_fastRemove_1 3 rfl rfl)
theorem dJ2_fastRemove_28 : decode cJ2_fastRemove 28 = .ok (.iload_n 3, 1) := dk_29 (dk_at dksJ2_fastRemove_1 4 rfl rfl)
theorem dJ2_fastRemove_29 : decode cJ2_fastRemove 29 = .ok (.iload_n 2, 1) := dk_28 (dk_at dksJ2_fastRemove_1 5 rfl rfl)
theorem dJ2_fastRemove_30 : decode cJ2_fastRemove 30 = .ok (.isub, 1) := dk_100 (dk_at dksJ2_fastRemove_1 6 rfl rfl)
theorem dJ2_fastRemove_31 : decode cJ2_fastRemove 31 = .ok (.invokestatic 112, 3) := dk_184 0 112 (dk_at dksJ2_fastRemove_1 7 rfl rfl)
theorem dJ2_fastRemove_34 : decode cJ2_fastRemove 34 = .ok (.aload_n 1, 1) := dk_43 (dk_at dksJ2_fastRemove_1 10 rfl rfl)
theorem dJ2_fastRemove_35 : decode cJ2_fastRemove 35 = .ok (.aload_n 0, 1) := dk_42 (dk_at dksJ2_fastRemove_1 11 rfl rfl)
theorem dJ2_fastRemove_36 : decode cJ2_fastRemove 36 = .ok (.iload_n 3, 1) := dk_29 (dk_at dksJ2_fastRemove_1 12 rfl rfl)
theorem dJ2_fastRemove_37 : decode cJ2_fastRemove 37 = .ok (.dup_x1, 1) := dk_90 (dk_at dksJ2_fastRemove_1 13 rfl rfl)
theorem dJ2_fastRemove_38 : decode cJ2_fastRemove 38 = .ok (.putfield 48, 3) := dk_181 0 48 (dk_at dksJ2_fastRemove_1 14 rfl rfl)
theorem dJ2_fastRemove_41 : decode cJ2_fastRemove 41 = .ok (.aconst_null, 1) := dk_1 (dk_at dksJ2_fastRemove_1 17 rfl rfl)
theorem dJ2_fastRemove_42 : decode cJ2_fastRemove 42 = .ok (.aastore, 1) := dk_83 (dk_at dksJ2_fastRemove_1 18 rfl rfl)
theorem dJ2_fastRemove_43 : decode cJ2_fastRemove 43 = .ok (.return_, 1) := dk_177 (dk_at dksJ2_fastRemove_1 19 rfl rfl)
abbrev cJ2_indexOf : ByteArray := prog_49_method_11_code
def yJ2_indexOf : MethodName := ⟨RJ2, "indexOf", "(Ljava/lang/Object;)I"⟩
def dkwJ2_indexOf_0 : List UInt8 := [42, 43, 3, 42, 180, 0, 48, 182, 0, 89, 172]
abbrev dktJ2_indexOf_0 : List UInt8 := dkwJ2_indexOf_0 ++ []
theorem dksJ2_indexOf_0 : cJ2_indexOf.data.toList.drop 0 = dktJ2_indexOf_0 := by decide +kernel
theorem dJ2_indexOf_0 : decode cJ2_indexOf 0 = .ok (.aload_n 0, 1) := dk_42 (dk_at dksJ2_indexOf_0 0 rfl rfl)
theorem dJ2_indexOf_1 : decode cJ2_indexOf 1 = .ok (.aload_n 1, 1) := dk_43 (dk_at dksJ2_indexOf_0 1 rfl rfl)
theorem dJ2_indexOf_2 : decode cJ2_indexOf 2 = .ok (.iconst 0, 1) := dk_3 (dk_at dksJ2_indexOf_0 2 rfl rfl)
theorem dJ2_indexOf_3 : decode cJ2_indexOf 3 = .ok (.aload_n 0, 1) := dk_42 (dk_at dksJ2_indexOf_0 3 rfl rfl)
theorem dJ2_indexOf_4 : decode cJ2_indexOf 4 = .ok (.getfield 48, 3) := dk_180 0 48 (dk_at dksJ2_indexOf_0 4 rfl rfl)
theorem dJ2_indexOf_7 : decode cJ2_indexOf 7 = .ok (.invokevirtual 89, 3) := dk_182 0 89 (dk_at dksJ2_indexOf_0 7 rfl rfl)
theorem dJ2_indexOf_10 : decode cJ2_indexOf 10 = .ok (.ireturn, 1) := dk_172 (dk_at dksJ2_indexOf_0 10 rfl rfl)
abbrev cJ2_indexOfRange : ByteArray := prog_49_method_12_code
def yJ2_indexOfRange : MethodName := ⟨RJ2, "indexOfRange", "(Ljava/lang/Object;II)I"⟩
def dkwJ2_indexOfRange_2 : List UInt8 := [43, 25, 4, 21, 5, 50, 182, 0, 93, 153, 0, 6, 21, 5, 172, 132, 5, 1, 167, 255, 232, 2, 172]
abbrev dktJ2_indexOfRange_2 : List UInt8 := dkwJ2_indexOfRange_2 ++ []
def dkwJ2_indexOfRange_1 : List UInt8 := [199, 0, 6, 21, 5, 172, 132, 5, 1, 167, 255, 236, 167, 0, 33, 28, 54, 5, 21, 5, 29, 162, 0, 24]
abbrev dktJ2_indexOfRange_1 : List UInt8 := dkwJ2_indexOfRange_1 ++ dktJ2_indexOfRange_2
def dkwJ2_indexOfRange_0 : List UInt8 := [42, 180, 0, 9, 58, 4, 43, 199, 0, 32, 28, 54, 5, 21, 5, 29, 162, 0, 20, 25, 4, 21, 5, 50]
abbrev dktJ2_indexOfRange_0 : List UInt8 := dkwJ2_indexOfRange_0 ++ dktJ2_indexOfRange_1
theorem dksJ2_indexOfRange_0 : cJ2_indexOfRange.data.toList.drop 0 = dktJ2_indexOfRange_0 := by decide +kernel
theorem dksJ2_indexOfRange_1 : cJ2_indexOfRange.data.toList.drop 24 = dktJ2_indexOfRange_1 := dk_seg dksJ2_indexOfRange_0 24 rfl rfl
theorem dksJ2_indexOfRange_2 : cJ2_indexOfRange.data.toList.drop 48 = dktJ2_indexOfRange_2 := dk_seg dksJ2_indexOfRange_1 24 rfl rfl
theorem dJ2_indexOfRange_0 : decode cJ2_indexOfRange 0 = .ok (.aload_n 0, 1) := dk_42 (dk_at dksJ2_indexOfRange_0 0 rfl rfl)
theorem dJ2_indexOfRange_1 : decode cJ2_indexOfRange 1 = .ok (.getfield 9, 3) := dk_180 0 9 (dk_at dksJ2_indexOfRange_0 1 rfl rfl)
theorem dJ2_indexOfRange_4 : decode cJ2_indexOfRange 4 = .ok (.astore 4, 2) := dk_58 4 (dk_at dksJ2_indexOfRange_0 4 rfl rfl)
theorem dJ2_indexOfRange_6 : decode cJ2_indexOfRange 6 = .ok (.aload_n 1, 1) := dk_43 (dk_at dksJ2_indexOfRange_0 6 rfl rfl)
theorem dJ2_indexOfRange_7 : decode cJ2_indexOfRange 7 = .ok (.ifnonnull 32, 3) := dk_199 0 32 (dk_at dksJ2_indexOfRange_0 7 rfl rfl)
theorem dJ2_indexOfRange_10 : decode cJ2_indexOfRange 10 = .ok (.iload_n 2, 1) := dk_28 (dk_at dksJ2_indexOfRange_0 10 rfl rfl)
theorem dJ2_indexOfRange_11 : decode cJ2_indexOfRange 11 = .ok (.istore 5, 2) := dk_54 5 (dk_at dksJ2_indexOfRange_0 11 rfl rfl)
theorem dJ2_indexOfRange_13 : decode cJ2_indexOfRange 13 = .ok (.iload 5, 2) := dk_21 5 (dk_at dksJ2_indexOfRange_0 13 rfl rfl)
theorem dJ2_indexOfRange_15 : decode cJ2_indexOfRange 15 = .ok (.iload_n 3, 1) := dk_29 (dk_at dksJ2_indexOfRange_0 15 rfl rfl)
theorem dJ2_indexOfRange_16 : decode cJ2_indexOfRange 16 = .ok (.if_icmp .ge 20, 3) := dk_162 0 20 (dk_at dksJ2_indexOfRange_0 16 rfl rfl)
theorem dJ2_indexOfRange_19 : decode cJ2_indexOfRange 19 = .ok (.aload 4, 2) := dk_25 4 (dk_at dksJ2_indexOfRange_0 19 rfl rfl)
theorem dJ2_indexOfRange_21 : decode cJ2_indexOfRange 21 = .ok (.iload 5, 2) := dk_21 5 (dk_at dksJ2_indexOfRange_0 21 rfl rfl)
theorem dJ2_indexOfRange_23 : decode cJ2_indexOfRange 23 = .ok (.aaload, 1) := dk_50 (dk_at dksJ2_indexOfRange_0 23 rfl rfl)
theorem dJ2_indexOfRange_24 : decode cJ2_indexOfRange 24 = .ok (.ifnonnull 6, 3) := dk_199 0 6 (dk_at dksJ2_indexOfRange_1 0 rfl rfl)
theorem dJ2_indexOfRange_27 : decode cJ2_indexOfRange 27 = .ok (.iload 5, 2) := dk_21 5 (dk_at dksJ2_indexOfRange_1 3 rfl rfl)
theorem dJ2_indexOfRange_29 : decode cJ2_indexOfRange 29 = .ok (.ireturn, 1) := dk_172 (dk_at dksJ2_indexOfRange_1 5 rfl rfl)
theorem dJ2_indexOfRange_30 : decode cJ2_indexOfRange 30 = .ok (.iinc 5 1, 3) := dk_132 5 1 (dk_at dksJ2_indexOfRange_1 6 rfl rfl)
theorem dJ2_indexOfRange_33 : decode cJ2_indexOfRange 33 = .ok (.goto (-20), 3) := dk_167 255 236 (dk_at dksJ2_indexOfRange_1 9 rfl rfl)
theorem dJ2_indexOfRange_36 : decode cJ2_indexOfRange 36 = .ok (.goto 33, 3) := dk_167 0 33 (dk_at dksJ2_indexOfRange_1 12 rfl rfl)
theorem dJ2_indexOfRange_39 : decode cJ2_indexOfRange 39 = .ok (.iload_n 2, 1) := dk_28 (dk_at dksJ2_indexOfRange_1 15 rfl rfl)
theorem dJ2_indexOfRange_40 : decode cJ2_indexOfRange 40 = .ok (.istore 5, 2) := dk_54 5 (dk_at dksJ2_indexOfRange_1 16 rfl rfl)
theorem dJ2_indexOfRange_42 : decode cJ2_indexOfRange 42 = .ok (.iload 5, 2) := dk_21 5 (dk_at dksJ2_indexOfRange_1 18 rfl rfl)
theorem dJ2_indexOfRange_44 : decode cJ2_indexOfRange 44 = .ok (.iload_n 3, 1) := dk_29 (dk_at dksJ2_indexOfRange_1 20 rfl rfl)
theorem dJ2_indexOfRange_45 : decode cJ2_indexOfRange 45 = .ok (.if_icmp .ge 24, 3) := dk_162 0 24 (dk_at dksJ2_indexOfRange_1 21 rfl rfl)
theorem dJ2_indexOfRange_48 : decode cJ2_indexOfRange 48 = .ok (.aload_n 1, 1) := dk_43 (dk_at dksJ2_indexOfRange_2 0 rfl rfl)
theorem dJ2_indexOfRange_49 : decode cJ2_indexOfRange 49 = .ok (.aload 4, 2) := dk_25 4 (dk_at dksJ2_indexOfRange_2 1 rfl rfl)
theorem dJ2_indexOfRange_51 : decode cJ2_indexOfRange 51 = .ok (.iload 5, 2) := dk_21 5 (dk_at dksJ2_indexOfRange_2 3 rfl rfl)
theorem dJ2_indexOfRange_53 : decode cJ2_indexOfRange 53 = .ok (.aaload, 1) := dk_50 (dk_at dksJ2_indexOfRange_2 5 rfl rfl)
theorem dJ2_indexOfRange_54 : decode cJ2_indexOfRange 54 = .ok (.invokevirtual 93, 3) := dk_182 0 93 (dk_at dksJ2_indexOfRange_2 6 rfl rfl)
theorem dJ2_indexOfRange_57 : decode cJ2_indexOfRange 57 = .ok (.ifCond .eq 6, 3) := dk_153 0 6 (dk_at dksJ2_indexOfRange_2 9 rfl rfl)
theorem dJ2_indexOfRange_60 : decode cJ2_indexOfRange 60 = .ok (.iload 5, 2) := dk_21 5 (dk_at dksJ2_indexOfRange_2 12 rfl rfl)
theorem dJ2_indexOfRange_62 : decode cJ2_indexOfRange 62 = .ok (.ireturn, 1) := dk_172 (dk_at dksJ2_indexOfRange_2 14 rfl rfl)
theorem dJ2_indexOfRange_63 : decode cJ2_indexOfRange 63 = .ok (.iinc 5 1, 3) := dk_132 5 1 (dk_at dksJ2_indexOfRange_2 15 rfl rfl)
theorem dJ2_indexOfRange_66 : decode cJ2_indexOfRange 66 = .ok (.goto (-24), 3) := dk_167 255 232 (dk_at dksJ2_indexOfRange_2 18 rfl rfl)
theorem dJ2_indexOfRange_69 : decode cJ2_indexOfRange 69 = .ok (.iconst (-1), 1) := dk_2 (dk_at dksJ2_indexOfRange_2 21 rfl rfl)
theorem dJ2_indexOfRange_70 : decode cJ2_indexOfRange 70 = .ok (.ireturn, 1) := dk_172 (dk_at dksJ2_indexOfRange_2 22 rfl rfl)
theorem q81 : (Jvm.Cond.initialized "java/util/ArrayList") ∈ lw_all := lw_g (lw_at lw_m1 5 rfl) rfl
theorem q157 : (Jvm.Cond.instantiable "java/util/ArrayList" (3 : Nat)) ∈ lw_all := lw_g (lw_at lw_m1 81 rfl) rfl
theorem q159 : (Jvm.Cond.instanceMethod ({ cls := "java/util/ArrayList", name := "<init>", desc := "()V" } : Jvm.MethodName)) ∈ lw_all := lw_g (lw_at lw_m1 83 rfl) rfl
theorem q160 : (Jvm.Cond.code ({ cls := "java/util/ArrayList", name := "<init>", desc := "()V" } : Jvm.MethodName) prog_49_method_2_code (1 : Nat) (Option.none : Option Jvm.ClassFile.FieldType)) ∈ lw_all := lw_g (lw_at lw_m1 84 rfl) rfl
theorem q161 : (Jvm.Cond.methodLink "java/util/ArrayList" (1 : Nat) ({ cls := "java/util/AbstractList", name := "<init>", desc := "()V" } : Jvm.MethodName)) ∈ lw_all := lw_g (lw_at lw_m1 85 rfl) rfl
theorem q168 : (Jvm.Cond.fieldLink "java/util/ArrayList" (39 : Nat) "java/util/ArrayList" "DEFAULTCAPACITY_EMPTY_ELEMENTDATA" "[Ljava/lang/Object;") ∈ lw_all := lw_g (lw_at lw_m1 92 rfl) rfl
theorem q169 : (Jvm.Cond.laysStatic "java/util/ArrayList" "DEFAULTCAPACITY_EMPTY_ELEMENTDATA" "[Ljava/lang/Object;") ∈ lw_tbl := lw_at lw_m1 93 rfl
theorem q170 : (Jvm.Cond.fieldLink "java/util/ArrayList" (9 : Nat) "java/util/ArrayList" "elementData" "[Ljava/lang/Object;") ∈ lw_all := lw_g (lw_at lw_m1 94 rfl) rfl
theorem q171 : (Jvm.Cond.fieldLink "java/util/ArrayList" (48 : Nat) "java/util/ArrayList" "size" "I") ∈ lw_all := lw_g (lw_at lw_m1 95 rfl) rfl
theorem q173 : (Jvm.Cond.fieldLink "java/util/ArrayList" (63 : Nat) "java/util/ArrayList" "modCount" "I") ∈ lw_all := lw_g (lw_at lw_m1 97 rfl) rfl
theorem q174 : (Jvm.Cond.sameField "java/util/ArrayList" "java/util/AbstractList" "modCount" "I") ∈ lw_all := lw_g (lw_at lw_m1 98 rfl) rfl
theorem q175 : (Jvm.Cond.lays "java/util/ArrayList" "java/util/ArrayList" "elementData" "[Ljava/lang/Object;") ∈ lw_all := lw_g (lw_at lw_m1 99 rfl) rfl
theorem q176 : (Jvm.Cond.soleField "java/util/ArrayList" "elementData") ∈ lw_all := lw_g (lw_at lw_m1 100 rfl) rfl
theorem q177 : (Jvm.Cond.lays "java/util/ArrayList" "java/util/ArrayList" "size" "I") ∈ lw_all := lw_g (lw_at lw_m1 101 rfl) rfl
theorem q178 : (Jvm.Cond.soleField "java/util/ArrayList" "size") ∈ lw_all := lw_g (lw_at lw_m1 102 rfl) rfl
theorem q179 : (Jvm.Cond.lays "java/util/ArrayList" "java/util/AbstractList" "modCount" "I") ∈ lw_all := lw_g (lw_at lw_m1 103 rfl) rfl
theorem q181 : (Jvm.Cond.superclass "java/util/ArrayList" "java/util/AbstractList") ∈ lw_all := lw_g (lw_at lw_m1 105 rfl) rfl
theorem q410 : (Jvm.Cond.castable "java/util/ArrayList" "java/util/List") ∈ lw_tbl := lw_at lw_m2 94 rfl
theorem q411 : (Jvm.Cond.selects "java/util/ArrayList" ({ cls := "java/util/List", name := "add", desc := "(Ljava/lang/Object;)Z" } : Jvm.MethodName) ({ cls := "java/util/ArrayList", name := "add", desc := "(Ljava/lang/Object;)Z" } : Jvm.MethodName)) ∈ lw_all := lw_g (lw_at lw_m2 95 rfl) rfl
theorem q412 : (Jvm.Cond.unhidden "java/util/ArrayList" "add" "(Ljava/lang/Object;)Z") ∈ lw_tbl := lw_at lw_m2 96 rfl
theorem q413 : (Jvm.Cond.instanceMethod ({ cls := "java/util/ArrayList", name := "add", desc := "(Ljava/lang/Object;)Z" } : Jvm.MethodName)) ∈ lw_all := lw_g (lw_at lw_m2 97 rfl) rfl
theorem q414 : (Jvm.Cond.publicMethod ({ cls := "java/util/ArrayList", name := "add", desc := "(Ljava/lang/Object;)Z" } : Jvm.MethodName)) ∈ lw_tbl := lw_at lw_m2 98 rfl
theorem q415 : (Jvm.Cond.code ({ cls := "java/util/ArrayList", name := "add", desc := "(Ljava/lang/Object;)Z" } : Jvm.MethodName) prog_49_method_25_code (2 : Nat) (Option.some Jvm.ClassFile.FieldType.boolean)) ∈ lw_all := lw_g (lw_at lw_m2 99 rfl) rfl
theorem q416 : (Jvm.Cond.methodLink "java/util/ArrayList" (131 : Nat) ({ cls := "java/util/ArrayList", name := "add", desc := "(Ljava/lang/Object;[Ljava/lang/Object;I)V" } : Jvm.MethodName)) ∈ lw_all := lw_g (lw_at lw_m2 100 rfl) rfl
theorem q417 : (Jvm.Cond.privateMethod ({ cls := "java/util/ArrayList", name := "add", desc := "(Ljava/lang/Object;[Ljava/lang/Object;I)V" } : Jvm.MethodName)) ∈ lw_tbl := lw_at lw_m2 101 rfl
theorem q418 : (Jvm.Cond.instanceMethod ({ cls := "java/util/ArrayList", name := "add", desc := "(Ljava/lang/Object;[Ljava/lang/Object;I)V" } : Jvm.MethodName)) ∈ lw_all := lw_g (lw_at lw_m2 102 rfl) rfl
theorem q419 : (Jvm.Cond.code ({ cls := "java/util/ArrayList", name := "add", desc := "(Ljava/lang/Object;[Ljava/lang/Object;I)V" } : Jvm.MethodName) prog_49_method_24_code (4 : Nat) (Option.none : Option Jvm.ClassFile.FieldType)) ∈ lw_all := lw_g (lw_at lw_m2 103 rfl) rfl
theorem q420 : (Jvm.Cond.methodLink "java/util/ArrayList" (129 : Nat) ({ cls := "java/util/ArrayList", name := "grow", desc := "()[Ljava/lang/Object;" } : Jvm.MethodName)) ∈ lw_all := lw_g (lw_at lw_m2 104 rfl) rfl
theorem q421 : (Jvm.Cond.privateMethod ({ cls := "java/util/ArrayList", name := "grow", desc := "()[Ljava/lang/Object;" } : Jvm.MethodName)) ∈ lw_tbl := lw_at lw_m2 105 rfl
theorem q422 : (Jvm.Cond.instanceMethod ({ cls := "java/util/ArrayList", name := "grow", desc := "()[Ljava/lang/Object;" } : Jvm.MethodName)) ∈ lw_all := lw_g (lw_at lw_m2 106 rfl) rfl
theorem q423 : (Jvm.Cond.code ({ cls := "java/util/ArrayList", name := "grow", desc := "()[Ljava/lang/Object;" } : Jvm.MethodName) prog_49_method_7_code (1 : Nat) (Option.some (Jvm.ClassFile.FieldType.array (Jvm.ClassFile.FieldType.object "java/lang/Object")))) ∈ lw_all := lw_g (lw_at lw_m2 107 rfl) rfl
theorem q424 : (Jvm.Cond.methodLink "java/util/ArrayList" (69 : Nat) ({ cls := "java/util/ArrayList", name := "grow", desc := "(I)[Ljava/lang/Object;" } : Jvm.MethodName)) ∈ lw_all := lw_g (lw_at lw_m2 108 rfl) rfl
theorem q425 : (Jvm.Cond.privateMethod ({ cls := "java/util/ArrayList", name := "grow", desc := "(I)[Ljava/lang/Object;" } : Jvm.MethodName)) ∈ lw_tbl := lw_at lw_m2 109 rfl
theorem q426 : (Jvm.Cond.instanceMethod ({ cls := "java/util/ArrayList", name := "grow", desc := "(I)[Ljava/lang/Object;" } : Jvm.MethodName)) ∈ lw_all := lw_g (lw_at lw_m2 110 rfl) rfl
theorem q427 : (Jvm.Cond.code ({ cls := "java/util/ArrayList", name := "grow", desc := "(I)[Ljava/lang/Object;" } : Jvm.MethodName) prog_49_method_6_code (4 : Nat) (Option.some (Jvm.ClassFile.FieldType.array (Jvm.ClassFile.FieldType.object "java/lang/Object")))) ∈ lw_all := lw_g (lw_at lw_m2 111 rfl) rfl
theorem q428 : (Jvm.Cond.methodLink "java/util/ArrayList" (73 : Nat) ({ cls := "jdk/internal/util/ArraysSupport", name := "newLength", desc := "(III)I" } : Jvm.MethodName)) ∈ lw_all := lw_g (lw_at lw_m2 112 rfl) rfl
theorem q438 : (Jvm.Cond.methodLink "java/util/ArrayList" (66 : Nat) ({ cls := "java/util/Arrays", name := "copyOf", desc := "([Ljava/lang/Object;I)[Ljava/lang/Object;" } : Jvm.MethodName)) ∈ lw_all := lw_g (lw_at lw_m2 122 rfl) rfl
theorem q466 : (Jvm.Cond.selects "java/util/ArrayList" ({ cls := "java/lang/Object", name := "getClass", desc := "()Ljava/lang/Class;" } : Jvm.MethodName) ({ cls := "java/lang/Object", name := "getClass", desc := "()Ljava/lang/Class;" } : Jvm.MethodName)) ∈ lw_all := lw_g (lw_at lw_m2 150 rfl) rfl
theorem q486 : (Jvm.Cond.methodLink "java/util/ArrayList" (79 : Nat) ({ cls := "java/lang/Math", name := "max", desc := "(II)I" } : Jvm.MethodName)) ∈ lw_all := lw_g (lw_at lw_m2 170 rfl) rfl
theorem q487 : (Jvm.Cond.classLink "java/util/ArrayList" (7 : Nat) "java/lang/Object") ∈ lw_all := lw_g (lw_at lw_m2 171 rfl) rfl
theorem q515 : (Jvm.Cond.selects "java/util/ArrayList" ({ cls := "java/util/List", name := "get", desc := "(I)Ljava/lang/Object;" } : Jvm.MethodName) ({ cls := "java/util/ArrayList", name := "get", desc := "(I)Ljava/lang/Object;" } : Jvm.MethodName)) ∈ lw_all := lw_g (lw_at lw_m2 199 rfl) rfl
theorem q516 : (Jvm.Cond.unhidden "java/util/ArrayList" "get" "(I)Ljava/lang/Object;") ∈ lw_tbl := lw_at lw_m2 200 rfl
theorem q517 : (Jvm.Cond.instanceMethod ({ cls := "java/util/ArrayList", name := "get", desc := "(I)Ljava/lang/Object;" } : Jvm.MethodName)) ∈ lw_all := lw_g (lw_at lw_m2 201 rfl) rfl
theorem q518 : (Jvm.Cond.publicMethod ({ cls := "java/util/ArrayList", name := "get", desc := "(I)Ljava/lang/Object;" } : Jvm.MethodName)) ∈ lw_tbl := lw_at lw_m2 202 rfl
theorem q519 : (Jvm.Cond.code ({ cls := "java/util/ArrayList", name := "get", desc := "(I)Ljava/lang/Object;" } : Jvm.MethodName) prog_49_method_20_code (2 : Nat) (Option.some (Jvm.ClassFile.FieldType.object "java/lang/Object"))) ∈ lw_all := lw_g (lw_at lw_m2 203 rfl) rfl
theorem q520 : (Jvm.Cond.methodLink "java/util/ArrayList" (118 : Nat) ({ cls := "java/util/Objects", name := "checkIndex", desc := "(II)I" } : Jvm.MethodName)) ∈ lw_all := lw_g (lw_at lw_m2 204 rfl) rfl
theorem q526 : (Jvm.Cond.methodLink "java/util/ArrayList" (123 : Nat) ({ cls := "java/util/ArrayList", name := "elementData", desc := "(I)Ljava/lang/Object;" } : Jvm.MethodName)) ∈ lw_all := lw_g (lw_at lw_m2 210 rfl) rfl
theorem q527 : (Jvm.Cond.instanceMethod ({ cls := "java/util/ArrayList", name := "elementData", desc := "(I)Ljava/lang/Object;" } : Jvm.MethodName)) ∈ lw_all := lw_g (lw_at lw_m2 211 rfl) rfl
theorem q528 : (Jvm.Cond.selects "java/util/ArrayList" ({ cls := "java/util/ArrayList", name := "elementData", desc := "(I)Ljava/lang/Object;" } : Jvm.MethodName) ({ cls := "java/util/ArrayList", name := "elementData", desc := "(I)Ljava/lang/Object;" } : Jvm.MethodName)) ∈ lw_all := lw_g (lw_at lw_m2 212 rfl) rfl
theorem q529 : (Jvm.Cond.code ({ cls := "java/util/ArrayList", name := "elementData", desc := "(I)Ljava/lang/Object;" } : Jvm.MethodName) prog_49_method_18_code (2 : Nat) (Option.some (Jvm.ClassFile.FieldType.object "java/lang/Object"))) ∈ lw_all := lw_g (lw_at lw_m2 213 rfl) rfl
theorem q1031 : (Jvm.Cond.selects "java/util/ArrayList" ({ cls := "java/util/List", name := "size", desc := "()I" } : Jvm.MethodName) ({ cls := "java/util/ArrayList", name := "size", desc := "()I" } : Jvm.MethodName)) ∈ lw_all := lw_g (lw_at lw_m4 235 rfl) rfl
theorem q1032 : (Jvm.Cond.unhidden "java/util/ArrayList" "size" "()I") ∈ lw_tbl := lw_at lw_m4 236 rfl
theorem q1033 : (Jvm.Cond.instanceMethod ({ cls := "java/util/ArrayList", name := "size", desc := "()I" } : Jvm.MethodName)) ∈ lw_all := lw_g (lw_at lw_m4 237 rfl) rfl
theorem q1034 : (Jvm.Cond.publicMethod ({ cls := "java/util/ArrayList", name := "size", desc := "()I" } : Jvm.MethodName)) ∈ lw_tbl := lw_at lw_m4 238 rfl
theorem q1035 : (Jvm.Cond.code ({ cls := "java/util/ArrayList", name := "size", desc := "()I" } : Jvm.MethodName) prog_49_method_8_code (1 : Nat) (Option.some Jvm.ClassFile.FieldType.int)) ∈ lw_all := lw_g (lw_at lw_m4 239 rfl) rfl
theorem q1067 : (Jvm.Cond.selects "java/util/ArrayList" ({ cls := "java/util/AbstractCollection", name := "size", desc := "()I" } : Jvm.MethodName) ({ cls := "java/util/ArrayList", name := "size", desc := "()I" } : Jvm.MethodName)) ∈ lw_all := lw_g (lw_at lw_m5 31 rfl) rfl
theorem q1098 : (Jvm.Cond.selects "java/util/ArrayList" ({ cls := "java/util/List", name := "isEmpty", desc := "()Z" } : Jvm.MethodName) ({ cls := "java/util/ArrayList", name := "isEmpty", desc := "()Z" } : Jvm.MethodName)) ∈ lw_all := lw_g (lw_at lw_m5 62 rfl) rfl
theorem q1099 : (Jvm.Cond.unhidden "java/util/ArrayList" "isEmpty" "()Z") ∈ lw_tbl := lw_at lw_m5 63 rfl
theorem q1100 : (Jvm.Cond.instanceMethod ({ cls := "java/util/ArrayList", name := "isEmpty", desc := "()Z" } : Jvm.MethodName)) ∈ lw_all := lw_g (lw_at lw_m5 64 rfl) rfl
theorem q1101 : (Jvm.Cond.publicMethod ({ cls := "java/util/ArrayList", name := "isEmpty", desc := "()Z" } : Jvm.MethodName)) ∈ lw_tbl := lw_at lw_m5 65 rfl
theorem q1102 : (Jvm.Cond.code ({ cls := "java/util/ArrayList", name := "isEmpty", desc := "()Z" } : Jvm.MethodName) prog_49_method_9_code (1 : Nat) (Option.some Jvm.ClassFile.FieldType.boolean)) ∈ lw_all := lw_g (lw_at lw_m5 66 rfl) rfl
theorem q2038 : (Jvm.Cond.selects "java/util/ArrayList" ({ cls := "java/util/List", name := "remove", desc := "(I)Ljava/lang/Object;" } : Jvm.MethodName) ({ cls := "java/util/ArrayList", name := "remove", desc := "(I)Ljava/lang/Object;" } : Jvm.MethodName)) ∈ lw_all := lw_g (lw_at lw_m9 42 rfl) rfl
theorem q2039 : (Jvm.Cond.unhidden "java/util/ArrayList" "remove" "(I)Ljava/lang/Object;") ∈ lw_tbl := lw_at lw_m9 43 rfl
theorem q2040 : (Jvm.Cond.instanceMethod ({ cls := "java/util/ArrayList", name := "remove", desc := "(I)Ljava/lang/Object;" } : Jvm.MethodName)) ∈ lw_all := lw_g (lw_at lw_m9 44 rfl) rfl
theorem q2041 : (Jvm.Cond.publicMethod ({ cls := "java/util/ArrayList", name := "remove", desc := "(I)Ljava/lang/Object;" } : Jvm.MethodName)) ∈ lw_tbl := lw_at lw_m9 45 rfl
theorem q2042 : (Jvm.Cond.code ({ cls := "java/util/ArrayList", name := "remove", desc := "(I)Ljava/lang/Object;" } : Jvm.MethodName) prog_49_method_29_code (4 : Nat) (Option.some (Jvm.ClassFile.FieldType.object "java/lang/Object"))) ∈ lw_all := lw_g (lw_at lw_m9 46 rfl) rfl
theorem q2043 : (Jvm.Cond.methodLink "java/util/ArrayList" (144 : Nat) ({ cls := "java/util/ArrayList", name := "fastRemove", desc := "([Ljava/lang/Object;I)V" } : Jvm.MethodName)) ∈ lw_all := lw_g (lw_at lw_m9 47 rfl) rfl
theorem q2044 : (Jvm.Cond.privateMethod ({ cls := "java/util/ArrayList", name := "fastRemove", desc := "([Ljava/lang/Object;I)V" } : Jvm.MethodName)) ∈ lw_tbl := lw_at lw_m9 48 rfl
theorem q2045 : (Jvm.Cond.instanceMethod ({ cls := "java/util/ArrayList", name := "fastRemove", desc := "([Ljava/lang/Object;I)V" } : Jvm.MethodName)) ∈ lw_all := lw_g (lw_at lw_m9 49 rfl) rfl
theorem q2046 : (Jvm.Cond.code ({ cls := "java/util/ArrayList", name := "fastRemove", desc := "([Ljava/lang/Object;I)V" } : Jvm.MethodName) prog_49_method_39_code (4 : Nat) (Option.none : Option Jvm.ClassFile.FieldType)) ∈ lw_all := lw_g (lw_at lw_m9 50 rfl) rfl
theorem q2047 : (Jvm.Cond.methodLink "java/util/ArrayList" (112 : Nat) ({ cls := "java/lang/System", name := "arraycopy", desc := "(Ljava/lang/Object;ILjava/lang/Object;II)V" } : Jvm.MethodName)) ∈ lw_all := lw_g (lw_at lw_m9 51 rfl) rfl
theorem q2090 : (Jvm.Cond.selects "java/util/ArrayList" ({ cls := "java/util/List", name := "indexOf", desc := "(Ljava/lang/Object;)I" } : Jvm.MethodName) ({ cls := "java/util/ArrayList", name := "indexOf", desc := "(Ljava/lang/Object;)I" } : Jvm.MethodName)) ∈ lw_all := lw_g (lw_at lw_m9 94 rfl) rfl
theorem q2091 : (Jvm.Cond.unhidden "java/util/ArrayList" "indexOf" "(Ljava/lang/Object;)I") ∈ lw_tbl := lw_at lw_m9 95 rfl
theorem q2092 : (Jvm.Cond.instanceMethod ({ cls := "java/util/ArrayList", name := "indexOf", desc := "(Ljava/lang/Object;)I" } : Jvm.MethodName)) ∈ lw_all := lw_g (lw_at lw_m9 96 rfl) rfl
theorem q2093 : (Jvm.Cond.publicMethod ({ cls := "java/util/ArrayList", name := "indexOf", desc := "(Ljava/lang/Object;)I" } : Jvm.MethodName)) ∈ lw_tbl := lw_at lw_m9 97 rfl
theorem q2094 : (Jvm.Cond.code ({ cls := "java/util/ArrayList", name := "indexOf", desc := "(Ljava/lang/Object;)I" } : Jvm.MethodName) prog_49_method_11_code (2 : Nat) (Option.some Jvm.ClassFile.FieldType.int)) ∈ lw_all := lw_g (lw_at lw_m9 98 rfl) rfl
theorem q2095 : (Jvm.Cond.methodLink "java/util/ArrayList" (89 : Nat) ({ cls := "java/util/ArrayList", name := "indexOfRange", desc := "(Ljava/lang/Object;II)I" } : Jvm.MethodName)) ∈ lw_all := lw_g (lw_at lw_m9 99 rfl) rfl
theorem q2096 : (Jvm.Cond.instanceMethod ({ cls := "java/util/ArrayList", name := "indexOfRange", desc := "(Ljava/lang/Object;II)I" } : Jvm.MethodName)) ∈ lw_all := lw_g (lw_at lw_m9 100 rfl) rfl
theorem q2097 : (Jvm.Cond.selects "java/util/ArrayList" ({ cls := "java/util/ArrayList", name := "indexOfRange", desc := "(Ljava/lang/Object;II)I" } : Jvm.MethodName) ({ cls := "java/util/ArrayList", name := "indexOfRange", desc := "(Ljava/lang/Object;II)I" } : Jvm.MethodName)) ∈ lw_all := lw_g (lw_at lw_m9 101 rfl) rfl
theorem q2098 : (Jvm.Cond.code ({ cls := "java/util/ArrayList", name := "indexOfRange", desc := "(Ljava/lang/Object;II)I" } : Jvm.MethodName) prog_49_method_12_code (6 : Nat) (Option.some Jvm.ClassFile.FieldType.int)) ∈ lw_all := lw_g (lw_at lw_m9 102 rfl) rfl
theorem q2100 : (Jvm.Cond.methodLink "java/util/ArrayList" (93 : Nat) ({ cls := "java/lang/Object", name := "equals", desc := "(Ljava/lang/Object;)Z" } : Jvm.MethodName)) ∈ lw_all := lw_g (lw_at lw_m9 104 rfl) rfl
theorem q2996 : (Jvm.Cond.castable "java/util/ArrayList" "java/lang/Object") ∈ lw_tbl := lw_at lw_m13 40 rfl
theorem in_J2 : ∀ w ∈ wsJ20, w ∈ lw_all := lw_in wsJ20 [179, 175, 177] (by decide +kernel) (by decide +kernel)

/-! java/util/TreeMap$Entry -/
set_option maxRecDepth 100000
def RJ23 : String := "java/util/TreeMap$Entry"
def TJ23 : u_T := fun k => match k with
  | 0 => ("java/util/TreeMap$Entry", "key", "Ljava/lang/Object;", false)
  | 1 => ("java/util/TreeMap$Entry", "value", "Ljava/lang/Object;", false)
  | 2 => ("java/util/TreeMap$Entry", "left", "Ljava/util/TreeMap$Entry;", false)
  | 3 => ("java/util/TreeMap$Entry", "right", "Ljava/util/TreeMap$Entry;", false)
  | 4 => ("java/util/TreeMap$Entry", "parent", "Ljava/util/TreeMap$Entry;", false)
  | _ => ("java/util/TreeMap$Entry", "color", "Z", false)
def tyJ23 : Nat → FieldType := fun k => match k with
  | 0 => .object "java/lang/Object"
  | 1 => .object "java/lang/Object"
  | 2 => .object "java/util/TreeMap$Entry"
  | 3 => .object "java/util/TreeMap$Entry"
  | 4 => .object "java/util/TreeMap$Entry"
  | _ => .boolean
abbrev wsJ230 : List Cond := u_ws RJ23 TJ23 6
theorem nmJ23 : ∀ a, a < 6 → ∀ b, b < 6 → a ≠ b → (TJ23 a).2.1 ≠ (TJ23 b).2.1 := by decide +kernel
theorem tyJ23_ok : ∀ k, k < 6 → parseFieldDescriptor (TJ23 k).2.2.1 = some (tyJ23 k) := by decide +kernel
abbrev cJ23_init : ByteArray := prog_71_method_1_code
def yJ23_init : MethodName := ⟨RJ23, "<init>", "(Ljava/lang/Object;Ljava/lang/Object;Ljava/util/TreeMap$Entry;)V"⟩
def dkwJ23_init_1 : List UInt8 := [177]
abbrev dktJ23_init_1 : List UInt8 := dkwJ23_init_1 ++ []
def dkwJ23_init_0 : List UInt8 := [42, 183, 0, 3, 42, 4, 181, 0, 9, 42, 43, 181, 0, 15, 42, 44, 181, 0, 19, 42, 45, 181, 0, 22]
abbrev dktJ23_init_0 : List UInt8 := dkwJ23_init_0 ++ dktJ23_init_1
theorem dksJ23_init_0 : cJ23_init.data.toList.drop 0 = dktJ23_init_0 := by decide +kernel
theorem dksJ23_init_1 : cJ23_init.data.toList.drop 24 = dktJ23_init_1 := dk_seg dksJ23_init_0 24 rfl rfl
theorem dJ23_init_0 : decode cJ23_init 0 = .ok (.aload_n 0, 1) := dk_42 (dk_at dksJ23_init_0 0 rfl rfl)
theorem dJ23_init_1 : decode cJ23_init 1 = .ok (.invokespecial 3, 3) := dk_183 0 3 (dk_at dksJ23_init_0 1 rfl rfl)
theorem dJ23_init_4 : decode cJ23_init 4 = .ok (.aload_n 0, 1) := dk_42 (dk_at dksJ23_init_0 4 rfl rfl)
theorem dJ23_init_5 : decode cJ23_init 5 = .ok (.iconst 1, 1) := dk_4 (dk_at dksJ23_init_0 5 rfl rfl)
theorem dJ23_init_6 : decode cJ23_init 6 = .ok (.putfield 9, 3) := dk_181 0 9 (dk_at dksJ23_init_0 6 rfl rfl)
theorem dJ23_init_9 : decode cJ23_init 9 = .ok (.aload_n 0, 1) := dk_42 (dk_at dksJ23_init_0 9 rfl rfl)
theorem dJ23_init_10 : decode cJ23_init 10 = .ok (.aload_n 1, 1) := dk_43 (dk_at dksJ23_init_0 10 rfl rfl)
theorem dJ23_init_11 : decode cJ23_init 11 = .ok (.putfield 15, 3) := dk_181 0 15 (dk_at dksJ23_init_0 11 rfl rfl)
theorem dJ23_init_14 : decode cJ23_init 14 = .ok (.aload_n 0, 1) := dk_42 (dk_at dksJ23_init_0 14 rfl rfl)
theorem dJ23_init_15 : decode cJ23_init 15 = .ok (.aload_n 2, 1) := dk_44 (dk_at dksJ23_init_0 15 rfl rfl)
theorem dJ23_init_16 : decode cJ23_init 16 = .ok (.putfield 19, 3) := dk_181 0 19 (dk_at dksJ23_init_0 16 rfl rfl)
theorem dJ23_init_19 : decode cJ23_init 19 = .ok (.aload_n 0, 1) := dk_42 (dk_at dksJ23_init_0 19 rfl rfl)
theorem dJ23_init_20 : decode cJ23_init 20 = .ok (.aload_n 3, 1) := dk_45 (dk_at dksJ23_init_0 20 rfl rfl)
theorem dJ23_init_21 : decode cJ23_init 21 = .ok (.putfield 22, 3) := dk_181 0 22 (dk_at dksJ23_init_0 21 rfl rfl)
theorem dJ23_init_24 : decode cJ23_init 24 = .ok (.return_, 1) := dk_177 (dk_at dksJ23_init_1 0 rfl rfl)
theorem q108 : (Jvm.Cond.initialized "java/util/TreeMap$Entry") ∈ lw_all := lw_g (lw_at lw_m1 32 rfl) rfl
theorem q470 : (Jvm.Cond.selects "java/util/TreeMap$Entry" ({ cls := "java/lang/Object", name := "getClass", desc := "()Ljava/lang/Class;" } : Jvm.MethodName) ({ cls := "java/lang/Object", name := "getClass", desc := "()Ljava/lang/Class;" } : Jvm.MethodName)) ∈ lw_all := lw_g (lw_at lw_m2 154 rfl) rfl
theorem q885 : (Jvm.Cond.instantiable "java/util/TreeMap$Entry" (6 : Nat)) ∈ lw_all := lw_g (lw_at lw_m4 89 rfl) rfl
theorem q887 : (Jvm.Cond.instanceMethod ({ cls := "java/util/TreeMap$Entry", name := "<init>", desc := "(Ljava/lang/Object;Ljava/lang/Object;Ljava/util/TreeMap$Entry;)V" } : Jvm.MethodName)) ∈ lw_all := lw_g (lw_at lw_m4 91 rfl) rfl
theorem q888 : (Jvm.Cond.code ({ cls := "java/util/TreeMap$Entry", name := "<init>", desc := "(Ljava/lang/Object;Ljava/lang/Object;Ljava/util/TreeMap$Entry;)V" } : Jvm.MethodName) prog_71_method_1_code (4 : Nat) (Option.none : Option Jvm.ClassFile.FieldType)) ∈ lw_all := lw_g (lw_at lw_m4 92 rfl) rfl
theorem q889 : (Jvm.Cond.methodLink "java/util/TreeMap$Entry" (3 : Nat) ({ cls := "java/lang/Object", name := "<init>", desc := "()V" } : Jvm.MethodName)) ∈ lw_all := lw_g (lw_at lw_m4 93 rfl) rfl
theorem q890 : (Jvm.Cond.fieldLink "java/util/TreeMap$Entry" (15 : Nat) "java/util/TreeMap$Entry" "key" "Ljava/lang/Object;") ∈ lw_all := lw_g (lw_at lw_m4 94 rfl) rfl
theorem q892 : (Jvm.Cond.fieldLink "java/util/TreeMap$Entry" (19 : Nat) "java/util/TreeMap$Entry" "value" "Ljava/lang/Object;") ∈ lw_all := lw_g (lw_at lw_m4 96 rfl) rfl
theorem q896 : (Jvm.Cond.fieldLink "java/util/TreeMap$Entry" (22 : Nat) "java/util/TreeMap$Entry" "parent" "Ljava/util/TreeMap$Entry;") ∈ lw_all := lw_g (lw_at lw_m4 100 rfl) rfl
theorem q898 : (Jvm.Cond.fieldLink "java/util/TreeMap$Entry" (9 : Nat) "java/util/TreeMap$Entry" "color" "Z") ∈ lw_all := lw_g (lw_at lw_m4 102 rfl) rfl
theorem q900 : (Jvm.Cond.lays "java/util/TreeMap$Entry" "java/util/TreeMap$Entry" "key" "Ljava/lang/Object;") ∈ lw_all := lw_g (lw_at lw_m4 104 rfl) rfl
theorem q901 : (Jvm.Cond.soleField "java/util/TreeMap$Entry" "key") ∈ lw_all := lw_g (lw_at lw_m4 105 rfl) rfl
theorem q902 : (Jvm.Cond.lays "java/util/TreeMap$Entry" "java/util/TreeMap$Entry" "value" "Ljava/lang/Object;") ∈ lw_all := lw_g (lw_at lw_m4 106 rfl) rfl
theorem q903 : (Jvm.Cond.soleField "java/util/TreeMap$Entry" "value") ∈ lw_all := lw_g (lw_at lw_m4 107 rfl) rfl
theorem q904 : (Jvm.Cond.lays "java/util/TreeMap$Entry" "java/util/TreeMap$Entry" "left" "Ljava/util/TreeMap$Entry;") ∈ lw_all := lw_g (lw_at lw_m4 108 rfl) rfl
theorem q905 : (Jvm.Cond.soleField "java/util/TreeMap$Entry" "left") ∈ lw_all := lw_g (lw_at lw_m4 109 rfl) rfl
theorem q906 : (Jvm.Cond.lays "java/util/TreeMap$Entry" "java/util/TreeMap$Entry" "right" "Ljava/util/TreeMap$Entry;") ∈ lw_all := lw_g (lw_at lw_m4 110 rfl) rfl
theorem q907 : (Jvm.Cond.soleField "java/util/TreeMap$Entry" "right") ∈ lw_all := lw_g (lw_at lw_m4 111 rfl) rfl
theorem q908 : (Jvm.Cond.lays "java/util/TreeMap$Entry" "java/util/TreeMap$Entry" "parent" "Ljava/util/TreeMap$Entry;") ∈ lw_all := lw_g (lw_at lw_m4 112 rfl) rfl
theorem q909 : (Jvm.Cond.soleField "java/util/TreeMap$Entry" "parent") ∈ lw_all := lw_g (lw_at lw_m4 113 rfl) rfl
theorem q910 : (Jvm.Cond.lays "java/util/TreeMap$Entry" "java/util/TreeMap$Entry" "color" "Z") ∈ lw_all := lw_g (lw_at lw_m4 114 rfl) rfl
theorem q911 : (Jvm.Cond.soleField "java/util/TreeMap$Entry" "color") ∈ lw_all := lw_g (lw_at lw_m4 115 rfl) rfl
theorem q912 : (Jvm.Cond.superclass "java/util/TreeMap$Entry" "java/lang/Object") ∈ lw_all := lw_g (lw_at lw_m4 116 rfl) rfl
theorem q3005 : (Jvm.Cond.castable "java/util/TreeMap$Entry" "java/lang/Object") ∈ lw_tbl := lw_at lw_m13 49 rfl
theorem in_J23 : ∀ w ∈ wsJ230, w ∈ lw_all := lw_in wsJ230 [900, 902, 904, 906, 908, 910] (by decide +kernel) (by decide +kernel)

/-! java/util/ArrayDeque -/
set_option maxRecDepth 100000
def RJ24 : String := "java/util/ArrayDeque"
def TJ24 : u_T := fun k => match k with
  | 0 => ("java/util/ArrayDeque", "elements", "[Ljava/lang/Object;", false)
  | 1 => ("java/util/ArrayDeque", "head", "I", false)
  | _ => ("java/util/ArrayDeque", "tail", "I", false)
def tyJ24 : Nat → FieldType := fun k => match k with
  | 0 => .array (.object "java/lang/Object")
  | 1 => .int
  | _ => .int
abbrev wsJ240 : List Cond := u_ws RJ24 TJ24 3
theorem nmJ24 : ∀ a, a < 3 → ∀ b, b < 3 → a ≠ b → (TJ24 a).2.1 ≠ (TJ24 b).2.1 := by decide +kernel
theorem tyJ24_ok : ∀ k, k < 3 → parseFieldDescriptor (TJ24 k).2.2.1 = some (tyJ24 k) := by decide +kernel
abbrev cJ24_init : ByteArray := prog_48_method_3_code
def yJ24_init : MethodName := ⟨RJ24, "<init>", "()V"⟩
def dkwJ24_init_0 : List UInt8 := [42, 183, 0, 42, 42, 16, 17, 189, 0, 47, 181, 0, 3, 177]
abbrev dktJ24_init_0 : List UInt8 := dkwJ24_init_0 ++ []
theorem dksJ24_init_0 : cJ24_init.data.toList.drop 0 = dktJ24_init_0 := by decide +kernel
theorem dJ24_init_0 : decode cJ24_init 0 = .ok (.aload_n 0, 1) := dk_42 (dk_at dksJ24_init_0 0 rfl rfl)
theorem dJ24_init_1 : decode cJ24_init 1 = .ok (.invokespecial 42, 3) := dk_183 0 42 (dk_at dksJ24_init_0 1 rfl rfl)
theorem dJ24_init_4 : decode cJ24_init 4 = .ok (.aload_n 0, 1) := dk_42 (dk_at dksJ24_init_0 4 rfl rfl)
theorem dJ24_init_5 : decode cJ24_init 5 = .ok (.bipush 17, 2) := dk_16 17 (dk_at dksJ24_init_0 5 rfl rfl)
theorem dJ24_init_7 : decode cJ24_init 7 = .ok (.anewarray 47, 3) := dk_189 0 47 (dk_at dksJ24_init_0 7 rfl rfl)
theorem dJ24_init_10 : decode cJ24_init 10 = .ok (.putfield 3, 3) := dk_181 0 3 (dk_at dksJ24_init_0 10 rfl rfl)
theorem dJ24_init_13 : decode cJ24_init 13 = .ok (.return_, 1) := dk_177 (dk_at dksJ24_init_0 13 rfl rfl)
abbrev cJ24_size : ByteArray := prog_48_method_37_code
def yJ24_size : MethodName := ⟨RJ24, "size", "()I"⟩
def dkwJ24_size_0 : List UInt8 := [42, 180, 0, 20, 42, 180, 0, 24, 42, 180, 0, 3, 190, 184, 0, 127, 172]
abbrev dktJ24_size_0 : List UInt8 := dkwJ24_size_0 ++ []
theorem dksJ24_size_0 : cJ24_size.data.toList.drop 0 = dktJ24_size_0 := by decide +kernel
theorem dJ24_size_0 : decode cJ24_size 0 = .ok (.aload_n 0, 1) := dk_42 (dk_at dksJ24_size_0 0 rfl rfl)
theorem dJ24_size_1 : decode cJ24_size 1 = .ok (.getfield 20, 3) := dk_180 0 20 (dk_at dksJ24_size_0 1 rfl rfl)
theorem dJ24_size_4 : decode cJ24_size 4 = .ok (.aload_n 0, 1) := dk_42 (dk_at dksJ24_size_0 4 rfl rfl)
theorem dJ24_size_5 : decode cJ24_size 5 = .ok (.getfield 24, 3) := dk_180 0 24 (dk_at dksJ24_size_0 5 rfl rfl)
theorem dJ24_size_8 : decode cJ24_size 8 = .ok (.aload_n 0, 1) := dk_42 (dk_at dksJ24_size_0 8 rfl rfl)
theorem dJ24_size_9 : decode cJ24_size 9 = .ok (.getfield 3, 3) := dk_180 0 3 (dk_at dksJ24_size_0 9 rfl rfl)
theorem dJ24_size_12 : decode cJ24_size 12 = .ok (.arraylength, 1) := dk_190 (dk_at dksJ24_size_0 12 rfl rfl)
theorem dJ24_size_13 : decode cJ24_size 13 = .ok (.invokestatic 127, 3) := dk_184 0 127 (dk_at dksJ24_size_0 13 rfl rfl)
theorem dJ24_size_16 : decode cJ24_size 16 = .ok (.ireturn, 1) := dk_172 (dk_at dksJ24_size_0 16 rfl rfl)
abbrev cJ24_sub : ByteArray := prog_48_method_9_code
def yJ24_sub : MethodName := ⟨RJ24, "sub", "(III)I"⟩
def dkwJ24_sub_0 : List UInt8 := [26, 27, 100, 89, 59, 156, 0, 7, 26, 28, 96, 59, 26, 172]
abbrev dktJ24_sub_0 : List UInt8 := dkwJ24_sub_0 ++ []
theorem dksJ24_sub_0 : cJ24_sub.data.toList.drop 0 = dktJ24_sub_0 := by decide +kernel
theorem dJ24_sub_0 : decode cJ24_sub 0 = .ok (.iload_n 0, 1) := dk_26 (dk_at dksJ24_sub_0 0 rfl rfl)
theorem dJ24_sub_1 : decode cJ24_sub 1 = .ok (.iload_n 1, 1) := dk_27 (dk_at dksJ24_sub_0 1 rfl rfl)
theorem dJ24_sub_2 : decode cJ24_sub 2 = .ok (.isub, 1) := dk_100 (dk_at dksJ24_sub_0 2 rfl rfl)
theorem dJ24_sub_3 : decode cJ24_sub 3 = .ok (.dup, 1) := dk_89 (dk_at dksJ24_sub_0 3 rfl rfl)
theorem dJ24_sub_4 : decode cJ24_sub 4 = .ok (.istore_n 0, 1) := dk_59 (dk_at dksJ24_sub_0 4 rfl rfl)
theorem dJ24_sub_5 : decode cJ24_sub 5 = .ok (.ifCond .ge 7, 3) := dk_156 0 7 (dk_at dksJ24_sub_0 5 rfl rfl)
theorem dJ24_sub_8 : decode cJ24_sub 8 = .ok (.iload_n 0, 1) := dk_26 (dk_at dksJ24_sub_0 8 rfl rfl)
theorem dJ24_sub_9 : decode cJ24_sub 9 = .ok (.iload_n 2, 1) := dk_28 (dk_at dksJ24_sub_0 9 rfl rfl)
theorem dJ24_sub_10 : decode cJ24_sub 10 = .ok (.iadd, 1) := dk_96 (dk_at dksJ24_sub_0 10 rfl rfl)
theorem dJ24_sub_11 : decode cJ24_sub 11 = .ok (.istore_n 0, 1) := dk_59 (dk_at dksJ24_sub_0 11 rfl rfl)
theorem dJ24_sub_12 : decode cJ24_sub 12 = .ok (.iload_n 0, 1) := dk_26 (dk_at dksJ24_sub_0 12 rfl rfl)
theorem dJ24_sub_13 : decode cJ24_sub 13 = .ok (.ireturn, 1) := dk_172 (dk_at dksJ24_sub_0 13 rfl rfl)
abbrev cJ24_removeFirst : ByteArray := prog_48_method_18_code
def yJ24_removeFirst : MethodName := ⟨RJ24, "removeFirst", "()Ljava/lang/Object;"⟩
def dkwJ24_removeFirst_0 : List UInt8 := [42, 182, 0, 93, 76, 43, 199, 0, 11, 187, 0, 97, 89, 183, 0, 99, 191, 43, 176]
abbrev dktJ24_removeFirst_0 : List UInt8 := dkwJ24_removeFirst_0 ++ []
theorem dksJ24_removeFirst_0 : cJ24_removeFirst.data.toList.drop 0 = dktJ24_removeFirst_0 := by decide +kernel
theorem dJ24_removeFirst_0 : decode cJ24_removeFirst 0 = .ok (.aload_n 0, 1) := dk_42 (dk_at dksJ24_removeFirst_0 0 rfl rfl)
theorem dJ24_removeFirst_1 : decode cJ24_removeFirst 1 = .ok (.invokevirtual 93, 3) := dk_182 0 93 (dk_at dksJ24_removeFirst_0 1 rfl rfl)
theorem dJ24_removeFirst_4 : decode cJ24_removeFirst 4 = .ok (.astore_n 1, 1) := dk_76 (dk_at dksJ24_removeFirst_0 4 rfl rfl)
theorem dJ24_removeFirst_5 : decode cJ24_removeFirst 5 = .ok (.aload_n 1, 1) := dk_43 (dk_at dksJ24_removeFirst_0 5 rfl rfl)
theorem dJ24_removeFirst_6 : decode cJ24_removeFirst 6 = .ok (.ifnonnull 11, 3) := dk_199 0 11 (dk_at dksJ24_removeFirst_0 6 rfl rfl)
theorem dJ24_removeFirst_9 : decode cJ24_removeFirst 9 = .ok (.new 97, 3) := dk_187 0 97 (dk_at dksJ24_removeFirst_0 9 rfl rfl)
theorem dJ24_removeFirst_12 : decode cJ24_removeFirst 12 = .ok (.dup, 1) := dk_89 (dk_at dksJ24_removeFirst_0 12 rfl rfl)
theorem dJ24_removeFirst_13 : decode cJ24_removeFirst 13 = .ok (.invokespecial 99, 3) := dk_183 0 99 (dk_at dksJ24_removeFirst_0 13 rfl rfl)
theorem dJ24_removeFirst_16 : decode cJ24_removeFirst 16 = .ok (.athrow, 1) := dk_191 (dk_at dksJ24_removeFirst_0 16 rfl rfl)
theorem dJ24_removeFirst_17 : decode cJ24_removeFirst 17 = .ok (.aload_n 1, 1) := dk_43 (dk_at dksJ24_removeFirst_0 17 rfl rfl)
theorem dJ24_removeFirst_18 : decode cJ24_removeFirst 18 = .ok (.areturn, 1) := dk_176 (dk_at dksJ24_removeFirst_0 18 rfl rfl)
abbrev cJ24_pollFirst : ByteArray := prog_48_method_20_code
def yJ24_pollFirst : MethodName := ⟨RJ24, "pollFirst", "()Ljava/lang/Object;"⟩
def dkwJ24_pollFirst_1 : List UInt8 := [42, 28, 43, 190, 184, 0, 74, 181, 0, 24, 45, 176]
abbrev dktJ24_pollFirst_1 : List UInt8 := dkwJ24_pollFirst_1 ++ []
def dkwJ24_pollFirst_0 : List UInt8 := [42, 180, 0, 3, 89, 76, 42, 180, 0, 24, 89, 61, 184, 0, 103, 78, 45, 198, 0, 17, 43, 28, 1, 83]
abbrev dktJ24_pollFirst_0 : List UInt8 := dkwJ24_pollFirst_0 ++ dktJ24_pollFirst_1
theorem dksJ24_pollFirst_0 : cJ24_pollFirst.data.toList.drop 0 = dktJ24_pollFirst_0 := by decide +kernel
theorem dksJ24_pollFirst_1 : cJ24_pollFirst.data.toList.drop 24 = dktJ24_pollFirst_1 := dk_seg dksJ24_pollFirst_0 24 rfl rfl
theorem dJ24_pollFirst_0 : decode cJ24_pollFirst 0 = .ok (.aload_n 0, 1) := dk_42 (dk_at dksJ24_pollFirst_0 0 rfl rfl)
theorem dJ24_pollFirst_1 : decode cJ24_pollFirst 1 = .ok (.getfield 3, 3) := dk_180 0 3 (dk_at dksJ24_pollFirst_0 1 rfl rfl)
theorem dJ24_pollFirst_4 : decode cJ24_pollFirst 4 = .ok (.dup, 1) := dk_89 (dk_at dksJ24_pollFirst_0 4 rfl rfl)
theorem dJ24_pollFirst_5 : decode cJ24_pollFirst 5 = .ok (.astore_n 1, 1) := dk_76 (dk_at dksJ24_pollFirst_0 5 rfl rfl)
theorem dJ24_pollFirst_6 : decode cJ24_pollFirst 6 = .ok (.aload_n 0, 1) := dk_42 (dk_at dksJ24_pollFirst_0 6 rfl rfl)
theorem dJ24_pollFirst_7 : decode cJ24_pollFirst 7 = .ok (.getfield 24, 3) := dk_180 0 24 (dk_at dksJ24_pollFirst_0 7 rfl rfl)
theorem dJ24_pollFirst_10 : decode cJ24_pollFirst 10 = .ok (.dup, 1) := dk_89 (dk_at dksJ24_pollFirst_0 10 rfl rfl)
theorem dJ24_pollFirst_11 : decode cJ24_pollFirst 11 = .ok (.istore_n 2, 1) := dk_61 (dk_at dksJ24_pollFirst_0 11 rfl rfl)
theorem dJ24_pollFirst_12 : decode cJ24_pollFirst 12 = .ok (.invokestatic 103, 3) := dk_184 0 103 (dk_at dksJ24_pollFirst_0 12 rfl rfl)
theorem dJ24_pollFirst_15 : decode cJ24_pollFirst 15 = .ok (.astore_n 3, 1) := dk_78 (dk_at dksJ24_pollFirst_0 15 rfl rfl)
theorem dJ24_pollFirst_16 : decode cJ24_pollFirst 16 = .ok (.aload_n 3, 1) := dk_45 (dk_at dksJ24_pollFirst_0 16 rfl rfl)
theorem dJ24_pollFirst_17 : decode cJ24_pollFirst 17 = .ok (.ifnull 17, 3) := dk_198 0 17 (dk_at dksJ24_pollFirst_0 17 rfl rfl)
theorem dJ24_pollFirst_20 : decode cJ24_pollFirst 20 = .ok (.aload_n 1, 1) := dk_43 (dk_at dksJ24_pollFirst_0 20 rfl rfl)
theorem dJ24_pollFirst_21 : decode cJ24_pollFirst 21 = .ok (.iload_n 2, 1) := dk_28 (dk_at dksJ24_pollFirst_0 21 rfl rfl)
theorem dJ24_pollFirst_22 : decode cJ24_pollFirst 22 = .ok (.aconst_null, 1) := dk_1 (dk_at dksJ24_pollFirst_0 22 rfl rfl)
theorem dJ24_pollFirst_23 : decode cJ24_pollFirst 23 = .ok (.aastore, 1) := dk_83 (dk_at dksJ24_pollFirst_0 23 rfl rfl)
theorem dJ24_pollFirst_24 : decode cJ24_pollFirst 24 = .ok (.aload_n 0, 1) := dk_42 (dk_at dksJ24_pollFirst_1 0 rfl rfl)
theorem dJ24_pollFirst_25 : decode cJ24_pollFirst 25 = .ok (.iload_n 2, 1) := dk_28 (dk_at dksJ24_pollFirst_1 1 rfl rfl)
theorem dJ24_pollFirst_26 : decode cJ24_pollFirst 26 = .ok (.aload_n 1, 1) := dk_43 (dk_at dksJ24_pollFirst_1 2 rfl rfl)
theorem dJ24_pollFirst_27 : decode cJ24_pollFirst 27 = .ok (.arraylength, 1) := dk_190 (dk_at dksJ24_pollFirst_1 3 rfl rfl)
theorem dJ24_pollFirst_28 : decode cJ24_pollFirst 28 = .ok (.invokestatic 74, 3) := dk_184 0 74 (dk_at dksJ24_pollFirst_1 4 rfl rfl)
theorem dJ24_pollFirst_31 : decode cJ24_pollFirst 31 = .ok (.putfield 24, 3) := dk_181 0 24 (dk_at dksJ24_pollFirst_1 7 rfl rfl)
theorem dJ24_pollFirst_34 : decode cJ24_pollFirst 34 = .ok (.aload_n 3, 1) := dk_45 (dk_at dksJ24_pollFirst_1 10 rfl rfl)
theorem dJ24_pollFirst_35 : decode cJ24_pollFirst 35 = .ok (.areturn, 1) := dk_176 (dk_at dksJ24_pollFirst_1 11 rfl rfl)
abbrev cJ24_elementAt : ByteArray := prog_48_method_10_code
def yJ24_elementAt : MethodName := ⟨RJ24, "elementAt", "([Ljava/lang/Object;I)Ljava/lang/Object;"⟩
def dkwJ24_elementAt_0 : List UInt8 := [42, 27, 50, 176]
abbrev dktJ24_elementAt_0 : List UInt8 := dkwJ24_elementAt_0 ++ []
theorem dksJ24_elementAt_0 : cJ24_elementAt.data.toList.drop 0 = dktJ24_elementAt_0 := by decide +kernel
theorem dJ24_elementAt_0 : decode cJ24_elementAt 0 = .ok (.aload_n 0, 1) := dk_42 (dk_at dksJ24_elementAt_0 0 rfl rfl)
theorem dJ24_elementAt_1 : decode cJ24_elementAt 1 = .ok (.iload_n 1, 1) := dk_27 (dk_at dksJ24_elementAt_0 1 rfl rfl)
theorem dJ24_elementAt_2 : decode cJ24_elementAt 2 = .ok (.aaload, 1) := dk_50 (dk_at dksJ24_elementAt_0 2 rfl rfl)
theorem dJ24_elementAt_3 : decode cJ24_elementAt 3 = .ok (.areturn, 1) := dk_176 (dk_at dksJ24_elementAt_0 3 rfl rfl)
abbrev cJ24_inc : ByteArray := prog_48_method_6_code
def yJ24_inc : MethodName := ⟨RJ24, "inc", "(II)I"⟩
def dkwJ24_inc_0 : List UInt8 := [132, 0, 1, 26, 27, 161, 0, 5, 3, 59, 26, 172]
abbrev dktJ24_inc_0 : List UInt8 := dkwJ24_inc_0 ++ []
theorem dksJ24_inc_0 : cJ24_inc.data.toList.drop 0 = dktJ24_inc_0 := by decide +kernel
theorem dJ24_inc_0 : decode cJ24_inc 0 = .ok (.iinc 0 1, 3) := dk_132 0 1 (dk_at dksJ24_inc_0 0 rfl rfl)
theorem dJ24_inc_3 : decode cJ24_inc 3 = .ok (.iload_n 0, 1) := dk_26 (dk_at dksJ24_inc_0 3 rfl rfl)
theorem dJ24_inc_4 : decode cJ24_inc 4 = .ok (.iload_n 1, 1) := dk_27 (dk_at dksJ24_inc_0 4 rfl rfl)
theorem dJ24_inc_5 : decode cJ24_inc 5 = .ok (.if_icmp .lt 5, 3) := dk_161 0 5 (dk_at dksJ24_inc_0 5 rfl rfl)
theorem dJ24_inc_8 : decode cJ24_inc 8 = .ok (.iconst 0, 1) := dk_3 (dk_at dksJ24_inc_0 8 rfl rfl)
theorem dJ24_inc_9 : decode cJ24_inc 9 = .ok (.istore_n 0, 1) := dk_59 (dk_at dksJ24_inc_0 9 rfl rfl)
theorem dJ24_inc_10 : decode cJ24_inc 10 = .ok (.iload_n 0, 1) := dk_26 (dk_at dksJ24_inc_0 10 rfl rfl)
theorem dJ24_inc_11 : decode cJ24_inc 11 = .ok (.ireturn, 1) := dk_172 (dk_at dksJ24_inc_0 11 rfl rfl)
abbrev cJ24_addLast : ByteArray := prog_48_method_13_code
def yJ24_addLast : MethodName := ⟨RJ24, "addLast", "(Ljava/lang/Object;)V"⟩
def dkwJ24_addLast_2 : List UInt8 := [182, 0, 71, 177]
abbrev dktJ24_addLast_2 : List UInt8 := dkwJ24_addLast_2 ++ []
def dkwJ24_addLast_1 : List UInt8 := [42, 180, 0, 24, 42, 42, 180, 0, 20, 44, 190, 184, 0, 74, 90, 181, 0, 20, 160, 0, 8, 42, 4]
abbrev dktJ24_addLast_1 : List UInt8 := dkwJ24_addLast_1 ++ dktJ24_addLast_2
def dkwJ24_addLast_0 : List UInt8 := [43, 199, 0, 11, 187, 0, 65, 89, 183, 0, 67, 191, 42, 180, 0, 3, 77, 44, 42, 180, 0, 20, 43, 83]
abbrev dktJ24_addLast_0 : List UInt8 := dkwJ24_addLast_0 ++ dktJ24_addLast_1
theorem dksJ24_addLast_0 : cJ24_addLast.data.toList.drop 0 = dktJ24_addLast_0 := by decide +kernel
theorem dksJ24_addLast_1 : cJ24_addLast.data.toList.drop 24 = dktJ24_addLast_1 := dk_seg dksJ24_addLast_0 24 rfl rfl
theorem dksJ24_addLast_2 : cJ24_addLast.data.toList.drop 47 = dktJ24_addLast_2 := dk_seg dksJ24_addLast_1 23 rfl rfl
theorem dJ24_addLast_0 : decode cJ24_addLast 0 = .ok (.aload_n 1, 1) := dk_43 (dk_at dksJ24_addLast_0 0 rfl rfl)
theorem dJ24_addLast_1 : decode cJ24_addLast 1 = .ok (.ifnonnull 11, 3) := dk_199 0 11 (dk_at dksJ24_addLast_0 1 rfl rfl)
theorem dJ24_addLast_4 : decode cJ24_addLast 4 = .ok (.new 65, 3) := dk_187 0 65 (dk_at dksJ24_addLast_0 4 rfl rfl)
theorem dJ24_addLast_7 : decode cJ24_addLast 7 = .ok (.dup, 1) := dk_89 (dk_at dksJ24_addLast_0 7 rfl rfl)
theorem dJ24_addLast_8 : decode cJ24_addLast 8 = .ok (.invokespecial 67, 3) := dk_183 0 67 (dk_at dksJ24_addLast_0 8 rfl rfl)
theorem dJ24_addLast_11 : decode cJ24_addLast 11 = .ok (.athrow, 1) := dk_191 (dk_at dksJ24_addLast_0 11 rfl rfl)
theorem dJ24_addLast_12 : decode cJ24_addLast 12 = .ok (.aload_n 0, 1) := dk_42 (dk_at dksJ24_addLast_0 12 rfl rfl)
theorem dJ24_addLast_13 : decode cJ24_addLast 13 = .ok (.getfield 3, 3) := dk_180 0 3 (dk_at dksJ24_addLast_0 13 rfl rfl)
theorem dJ24_addLast_16 : decode cJ24_addLast 16 = .ok (.astore_n 2, 1) := dk_77 (dk_at dksJ24_addLast_0 16 rfl rfl)
theorem dJ24_addLast_17 : decode cJ24_addLast 17 = .ok (.aload_n 2, 1) := dk_44 (dk_at dksJ24_addLast_0 17 rfl rfl)
theorem dJ24_addLast_18 : decode cJ24_addLast 18 = .ok (.aload_n 0, 1) := dk_42 (dk_at dksJ24_addLast_0 18 rfl rfl)
theorem dJ24_addLast_19 : decode cJ24_addLast 19 = .ok (.getfield 20, 3) := dk_180 0 20 (dk_at dksJ24_addLast_0 19 rfl rfl)
theorem dJ24_addLast_22 : decode cJ24_addLast 22 = .ok (.aload_n 1, 1) := dk_43 (dk_at dksJ24_addLast_0 22 rfl rfl)
theorem dJ24_addLast_23 : decode cJ24_addLast 23 = .ok (.aastore, 1) := dk_83 (dk_at dksJ24_addLast_0 23 rfl rfl)
theorem dJ24_addLast_24 : decode cJ24_addLast 24 = .ok (.aload_n 0, 1) := dk_42 (dk_at dksJ24_addLast_1 0 rfl rfl)
theorem dJ24_addLast_25 : decode cJ24_addLast 25 = .ok (.getfield 24, 3) := dk_180 0 24 (dk_at dksJ24_addLast_1 1 rfl rfl)
theorem dJ24_addLast_28 : decode cJ24_addLast 28 = .ok (.aload_n 0, 1) := dk_42 (dk_at dksJ24_addLast_1 4 rfl rfl)
theorem dJ24_addLast_29 : decode cJ24_addLast 29 = .ok (.aload_n 0, 1) := dk_42 (dk_at dksJ24_addLast_1 5 rfl rfl)
theorem dJ24_addLast_30 : decode cJ24_addLast 30 = .ok (.getfield 20, 3) := dk_180 0 20 (dk_at dksJ24_addLast_1 6 rfl rfl)
theorem dJ24_addLast_33 : decode cJ24_addLast 33 = .ok (.aload_n 2, 1) := dk_44 (dk_at dksJ24_addLast_1 9 rfl rfl)
theorem dJ24_addLast_34 : decode cJ24_addLast 34 = .ok (.arraylength, 1) := dk_190 (dk_at dksJ24_addLast_1 10 rfl rfl)
theorem dJ24_addLast_35 : decode cJ24_addLast 35 = .ok (.invokestatic 74, 3) := dk_184 0 74 (dk_at dksJ24_addLast_1 11 rfl rfl)
theorem dJ24_addLast_38 : decode cJ24_addLast 38 = .ok (.dup_x1, 1) := dk_90 (dk_at dksJ24_addLast_1 14 rfl rfl)
theorem dJ24_addLast_39 : decode cJ24_addLast 39 = .ok (.putfield 20, 3) := dk_181 0 20 (dk_at dksJ24_addLast_1 15 rfl rfl)
theorem dJ24_addLast_42 : decode cJ24_addLast 42 = .ok (.if_icmp .ne 8, 3) := dk_160 0 8 (dk_at dksJ24_addLast_1 18 rfl rfl)
theorem dJ24_addLast_45 : decode cJ24_addLast 45 = .ok (.aload_n 0, 1) := dk_42 (dk_at dksJ24_addLast_1 21 rfl rfl)
theorem dJ24_addLast_46 : decode cJ24_addLast 46 = .ok (.iconst 1, 1) := dk_4 (dk_at dksJ24_addLast_1 22 rfl rfl)
theorem dJ24_addLast_47 : decode cJ24_addLast 47 = .ok (.invokevirtual 71, 3) := dk_182 0 71 (dk_at dksJ24_addLast_2 0 rfl rfl)
theorem dJ24_addLast_50 : decode cJ24_addLast 50 = .ok (.return_, 1) := dk_177 (dk_at dksJ24_addLast_2 3 rfl rfl)
abbrev cJ24_grow : ByteArray := prog_48_method_1_code
def yJ24_grow : MethodName := ⟨RJ24, "grow", "(I)V"⟩
def dkwJ24_grow_7 : List UInt8 := [177]
abbrev dktJ24_grow_7 : List UInt8 := dkwJ24_grow_7 ++ []
def dkwJ24_grow_6 : List UInt8 := [181, 0, 24, 54, 8, 21, 7, 21, 8, 162, 0, 15, 25, 5, 21, 7, 1, 83, 132, 7, 1, 167, 255, 240]
abbrev dktJ24_grow_6 : List UInt8 := dkwJ24_grow_6 ++ dktJ24_grow_7
def dkwJ24_grow_5 : List UInt8 := [42, 180, 0, 24, 100, 184, 0, 27, 42, 180, 0, 24, 54, 7, 42, 89, 180, 0, 24, 21, 6, 96, 90]
abbrev dktJ24_grow_5 : List UInt8 := dkwJ24_grow_5 ++ dktJ24_grow_6
def dkwJ24_grow_4 : List UInt8 := [198, 0, 71, 29, 28, 100, 54, 6, 25, 5, 42, 180, 0, 24, 25, 5, 42, 180, 0, 24, 21, 6, 96, 28]
abbrev dktJ24_grow_4 : List UInt8 := dkwJ24_grow_4 ++ dktJ24_grow_5
def dkwJ24_grow_3 : List UInt8 := [180, 0, 24, 161, 0, 24, 42, 180, 0, 20, 42, 180, 0, 24, 160, 0, 81, 25, 5, 42, 180, 0, 24, 50]
abbrev dktJ24_grow_3 : List UInt8 := dkwJ24_grow_3 ++ dktJ24_grow_4
def dkwJ24_grow_2 : List UInt8 := [182, 0, 10, 62, 42, 42, 180, 0, 3, 29, 184, 0, 14, 90, 181, 0, 3, 58, 5, 42, 180, 0, 20, 42]
abbrev dktJ24_grow_2 : List UInt8 := dkwJ24_grow_2 ++ dktJ24_grow_3
def dkwJ24_grow_1 : List UInt8 := [21, 4, 27, 161, 0, 15, 28, 21, 4, 96, 89, 62, 18, 9, 100, 158, 0, 11, 42, 27, 21, 4]
abbrev dktJ24_grow_1 : List UInt8 := dkwJ24_grow_1 ++ dktJ24_grow_2
def dkwJ24_grow_0 : List UInt8 := [42, 180, 0, 3, 190, 61, 28, 16, 64, 162, 0, 9, 28, 5, 96, 167, 0, 6, 28, 4, 122, 54, 4]
abbrev dktJ24_grow_0 : List UInt8 := dkwJ24_grow_0 ++ dktJ24_grow_1
theorem dksJ24_grow_0 : cJ24_grow.data.toList.drop 0 = dktJ24_grow_0 := by decide +kernel
theorem dksJ24_grow_1 : cJ24_grow.data.toList.drop 23 = dktJ24_grow_1 := dk_seg dksJ24_grow_0 23 rfl rfl
theorem dksJ24_grow_2 : cJ24_grow.data.toList.drop 45 = dktJ24_grow_2 := dk_seg dksJ24_grow_1 22 rfl rfl
theorem dksJ24_grow_3 : cJ24_grow.data.toList.drop 69 = dktJ24_grow_3 := dk_seg dksJ24_grow_2 24 rfl rfl
theorem dksJ24_grow_4 : cJ24_grow.data.toList.drop 93 = dktJ24_grow_4 := dk_seg dksJ24_grow_3 24 rfl rfl
theorem dksJ24_grow_5 : cJ24_grow.data.toList.drop 117 = dktJ24_grow_5 := dk_seg dksJ24_grow_4 24 rfl rfl
theorem dksJ24_grow_6 : cJ24_grow.data.toList.drop 140 = dktJ24_grow_6 := dk_seg dksJ24_grow_5 23 rfl rfl
theorem dksJ24_grow_7 : cJ24_grow.data.toList.drop 164 = dktJ24_grow_7 := dk_seg dksJ24_grow_6 24 rfl rfl
theorem dJ24_grow_0 : decode cJ24_grow 0 = .ok (.aload_n 0, 1) := dk_42 (dk_at dksJ24_grow_0 0 rfl rfl)
theorem dJ24_grow_1 : decode cJ24_grow 1 = .ok (.getfield 3, 3) := dk_180 0 3 (dk_at dksJ24_grow_0 1 rfl rfl)
theorem dJ24_grow_4 : decode cJ24_grow 4 = .ok (.arraylength, 1) := dk_190 (dk_at dksJ24_grow_0 4 rfl rfl)
theorem dJ24_grow_5 : decode cJ24_grow 5 = .ok (.istore_n 2, 1) := dk_61 (dk_at dksJ24_grow_0 5 rfl rfl)
theorem dJ24_grow_6 : decode cJ24_grow 6 = .ok (.iload_n 2, 1) := dk_28 (dk_at dksJ24_grow_0 6 rfl rfl)
theorem dJ24_grow_7 : decode cJ24_grow 7 = .ok (.bipush 64, 2) := dk_16 64 (dk_at dksJ24_grow_0 7 rfl rfl)
theorem dJ24_grow_9 : decode cJ24_grow 9 = .ok (.if_icmp .ge 9, 3) := dk_162 0 9 (dk_at dksJ24_grow_0 9 rfl rfl)
theorem dJ24_grow_12 : decode cJ24_grow 12 = .ok (.iload_n 2, 1) := dk_28 (dk_at dksJ24_grow_0 12 rfl rfl)
theorem dJ24_grow_13 : decode cJ24_grow 13 = .ok (.iconst 2, 1) := dk_5 (dk_at dksJ24_grow_0 13 rfl rfl)
theorem dJ24_grow_14 : decode cJ24_grow 14 = .ok (.iadd, 1) := dk_96 (dk_at dksJ24_grow_0 14 rfl rfl)
theorem dJ24_grow_15 : decode cJ24_grow 15 = .ok (.goto 6, 3) := dk_167 0 6 (dk_at dksJ24_grow_0 15 rfl rfl)
theorem dJ24_grow_18 : decode cJ24_grow 18 = .ok (.iload_n 2, 1) := dk_28 (dk_at dksJ24_grow_0 18 rfl rfl)
theorem dJ24_grow_19 : decode cJ24_grow 19 = .ok (.iconst 1, 1) := dk_4 (dk_at dksJ24_grow_0 19 rfl rfl)
theorem dJ24_grow_20 : decode cJ24_grow 20 = .ok (.ishr, 1) := dk_122 (dk_at dksJ24_grow_0 20 rfl rfl)
theorem dJ24_grow_21 : decode cJ24_grow 21 = .ok (.istore 4, 2) := dk_54 4 (dk_at dksJ24_grow_0 21 rfl rfl)
theorem dJ24_grow_23 : decode cJ24_grow 23 = .ok (.iload 4, 2) := dk_21 4 (dk_at dksJ24_grow_1 0 rfl rfl)
theorem dJ24_grow_25 : decode cJ24_grow 25 = .ok (.iload_n 1, 1) := dk_27 (dk_at dksJ24_grow_1 2 rfl rfl)
theorem dJ24_grow_26 : decode cJ24_grow 26 = .ok (.if_icmp .lt 15, 3) := dk_161 0 15 (dk_at dksJ24_grow_1 3 rfl rfl)
theorem dJ24_grow_29 : decode cJ24_grow 29 = .ok (.iload_n 2, 1) := dk_28 (dk_at dksJ24_grow_1 6 rfl rfl)
theorem dJ24_grow_30 : decode cJ24_grow 30 = .ok (.iload 4, 2) := dk_21 4 (dk_at dksJ24_grow_1 7 rfl rfl)
theorem dJ24_grow_32 : decode cJ24_grow 32 = .ok (.iadd, 1) := dk_96 (dk_at dksJ24_grow_1 9 rfl rfl)
theorem dJ24_grow_33 : decode cJ24_grow 33 = .ok (.dup, 1) := dk_89 (dk_at dksJ24_grow_1 10 rfl rfl)
theorem dJ24_grow_34 : decode cJ24_grow 34 = .ok (.istore_n 3, 1) := dk_62 (dk_at dksJ24_grow_1 11 rfl rfl)
theorem dJ24_grow_35 : decode cJ24_grow 35 = .ok (.ldc 9, 2) := dk_18 9 (dk_at dksJ24_grow_1 12 rfl rfl)
theorem dJ24_grow_37 : decode cJ24_grow 37 = .ok (.isub, 1) := dk_100 (dk_at dksJ24_grow_1 14 rfl rfl)
theorem dJ24_grow_38 : decode cJ24_grow 38 = .ok (.ifCond .le 11, 3) := dk_158 0 11 (dk_at dksJ24_grow_1 15 rfl rfl)
theorem dJ24_grow_41 : decode cJ24_grow 41 = .ok (.aload_n 0, 1) := dk_42 (dk_at dksJ24_grow_1 18 rfl rfl)
theorem dJ24_grow_42 : decode cJ24_grow 42 = .ok (.iload_n 1, 1) := dk_27 (dk_at dksJ24_grow_1 19 rfl rfl)
theorem dJ24_grow_43 : decode cJ24_grow 43 = .ok (.iload 4, 2) := dk_21 4 (dk_at dksJ24_grow_1 20 rfl rfl)
theorem dJ24_grow_45 : decode cJ24_grow 45 = .ok (.invokevirtual 10, 3) := dk_182 0 10 (dk_at dksJ24_grow_2 0 rfl rfl)
theorem dJ24_grow_48 : decode cJ24_grow 48 = .ok (.istore_n 3, 1) := dk_62 (dk_at dksJ24_grow_2 3 rfl rfl)
theorem dJ24_grow_49 : decode cJ24_grow 49 = .ok (.aload_n 0, 1) := dk_42 (dk_at dksJ24_grow_2 4 rfl rfl)
theorem dJ24_grow_50 : decode cJ24_grow 50 = .ok (.aload_n 0, 1) := dk_42 (dk_at dksJ24_grow_2 5 rfl rfl)
theorem dJ24_grow_51 : decode cJ24_grow 51 = .ok (.getfield 3, 3) := dk_180 0 3 (dk_at dksJ24_grow_2 6 rfl rfl)
theorem dJ24_grow_54 : decode cJ24_grow 54 = .ok (.iload_n 3, 1) := dk_29 (dk_at dksJ24_grow_2 9 rfl rfl)
theorem dJ24_grow_55 : decode cJ24_grow 55 = .ok (.invokestatic 14, 3) := dk_184 0 14 (dk_at dksJ24_grow_2 10 rfl rfl)
theorem dJ24_grow_58 : decode cJ24_grow 58 = .ok (.dup_x1, 1) := dk_90 (dk_at dksJ24_grow_2 13 rfl rfl)
theorem dJ24_grow_59 : decode cJ24_grow 59 = .ok (.putfield 3, 3) := dk_181 0 3 (dk_at dksJ24_grow_2 14 rfl rfl)
theorem dJ24_grow_62 : decode cJ24_grow 62 = .ok (.astore 5, 2) := dk_58 5 (dk_at dksJ24_grow_2 17 rfl rfl)
theorem dJ24_grow_64 : decode cJ24_grow 64 = .ok (.aload_n 0, 1) := dk_42 (dk_at dksJ24_grow_2 19 rfl rfl)
theorem dJ24_grow_65 : decode cJ24_grow 65 = .ok (.getfield 20, 3) := dk_180 0 20 (dk_at dksJ24_grow_2 20 rfl rfl)
theorem dJ24_grow_68 : decode cJ24_grow 68 = .ok (.aload_n 0, 1) := dk_42 (dk_at dksJ24_grow_2 23 rfl rfl)
theorem dJ24_grow_69 : decode cJ24_grow 69 = .ok (.getfield 24, 3) := dk_180 0 24 (dk_at dksJ24_grow_3 0 rfl rfl)
theorem dJ24_grow_72 : decode cJ24_grow 72 = .ok (.if_icmp .lt 24, 3) := dk_161 0 24 (dk_at dksJ24_grow_3 3 rfl rfl)
theorem dJ24_grow_75 : decode cJ24_grow 75 = .ok (.aload_n 0, 1) := dk_42 (dk_at dksJ24_grow_3 6 rfl rfl)
theorem dJ24_grow_76 : decode cJ24_grow 76 = .ok (.getfield 20, 3) := dk_180 0 20 (dk_at dksJ24_grow_3 7 rfl rfl)
theorem dJ24_grow_79 : decode cJ24_grow 79 = .ok (.aload_n 0, 1) := dk_42 (dk_at dksJ24_grow_3 10 rfl rfl)
theorem dJ24_grow_80 : decode cJ24_grow 80 = .ok (.getfield 24, 3) := dk_180 0 24 (dk_at dksJ24_grow_3 11 rfl rfl)
theorem dJ24_grow_83 : decode cJ24_grow 83 = .ok (.if_icmp .ne 81, 3) := dk_160 0 81 (dk_at dksJ24_grow_3 14 rfl rfl)
theorem dJ24_grow_86 : decode cJ24_grow 86 = .ok (.aload 5, 2) := dk_25 5 (dk_at dksJ24_grow_3 17 rfl rfl)
theorem dJ24_grow_88 : decode cJ24_grow 88 = .ok (.aload_n 0, 1) := dk_42 (dk_at dksJ24_grow_3 19 rfl rfl)
theorem dJ24_grow_89 : decode cJ24_grow 89 = .ok (.getfield 24, 3) := dk_180 0 24 (dk_at dksJ24_grow_3 20 rfl rfl)
theorem dJ24_grow_92 : decode cJ24_grow 92 = .ok (.aaload, 1) := dk_50 (dk_at dksJ24_grow_3 23 rfl rfl)
theorem dJ24_grow_93 : decode cJ24_grow 93 = .ok (.ifnull 71, 3) := dk_198 0 71 (dk_at dksJ24_grow_4 0 rfl rfl)
theorem dJ24_grow_96 : decode cJ24_grow 96 = .ok (.iload_n 3, 1) := dk_29 (dk_at dksJ24_grow_4 3 rfl rfl)
theorem dJ24_grow_97 : decode cJ24_grow 97 = .ok (.iload_n 2, 1) := dk_28 (dk_at dksJ24_grow_4 4 rfl rfl)
theorem dJ24_grow_98 : decode cJ24_grow 98 = .ok (.isub, 1) := dk_100 (dk_at dksJ24_grow_4 5 rfl rfl)
theorem dJ24_grow_99 : decode cJ24_grow 99 = .ok (.istore 6, 2) := dk_54 6 (dk_at dksJ24_grow_4 6 rfl rfl)
theorem dJ24_grow_101 : decode cJ24_grow 101 = .ok (.aload 5, 2) := dk_25 5 (dk_at dksJ24_grow_4 8 rfl rfl)
theorem dJ24_grow_103 : decode cJ24_grow 103 = .ok (.aload_n 0, 1) := dk_42 (dk_at dksJ24_grow_4 10 rfl rfl)
theorem dJ24_grow_104 : decode cJ24_grow 104 = .ok (.getfield 24, 3) := dk_180 0 24 (dk_at dksJ24_grow_4 11 rfl rfl)
theorem dJ24_grow_107 : decode cJ24_grow 107 = .ok (.aload 5, 2) := dk_25 5 (dk_at dksJ24_grow_4 14 rfl rfl)
theorem dJ24_grow_109 : decode cJ24_grow 109 = .ok (.aload_n 0, 1) := dk_42 (dk_at dksJ24_grow_4 16 rfl rfl)
theorem dJ24_grow_110 : decode cJ24_grow 110 = .ok (.getfield 24, 3) := dk_180 0 24 (dk_at dksJ24_grow_4 17 rfl rfl)
theorem dJ24_grow_113 : decode cJ24_grow 113 = .ok (.iload 6, 2) := dk_21 6 (dk_at dksJ24_grow_4 20 rfl rfl)
theorem dJ24_grow_115 : decode cJ24_grow 115 = .ok (.iadd, 1) := dk_96 (dk_at dksJ24_grow_4 22 rfl rfl)
theorem dJ24_grow_116 : decode cJ24_grow 116 = .ok (.iload_n 2, 1) := dk_28 (dk_at dksJ24_grow_4 23 rfl rfl)
theorem dJ24_grow_117 : decode cJ24_grow 117 = .ok (.aload_n 0, 1) := dk_42 (dk_at dksJ24_grow_5 0 rfl rfl)
theorem dJ24_grow_118 : decode cJ24_grow 118 = .ok (.getfield 24, 3) := dk_180 0 24 (dk_at dksJ24_grow_5 1 rfl rfl)
theorem dJ24_grow_121 : decode cJ24_grow 121 = .ok (.isub, 1) := dk_100 (dk_at dksJ24_grow_5 4 rfl rfl)
theorem dJ24_grow_122 : decode cJ24_grow 122 = .ok (.invokestatic 27, 3) := dk_184 0 27 (dk_at dksJ24_grow_5 5 rfl rfl)
theorem dJ24_grow_125 : decode cJ24_grow 125 = .ok (.aload_n 0, 1) := dk_42 (dk_at dksJ24_grow_5 8 rfl rfl)
theorem dJ24_grow_126 : decode cJ24_grow 126 = .ok (.getfield 24, 3) := dk_180 0 24 (dk_at dksJ24_grow_5 9 rfl rfl)
theorem dJ24_grow_129 : decode cJ24_grow 129 = .ok (.istore 7, 2) := dk_54 7 (dk_at dksJ24_grow_5 12 rfl rfl)
theorem dJ24_grow_131 : decode cJ24_grow 131 = .ok (.aload_n 0, 1) := dk_42 (dk_at dksJ24_grow_5 14 rfl rfl)
theorem dJ24_grow_132 : decode cJ24_grow 132 = .ok (.dup, 1) := dk_89 (dk_at dksJ24_grow_5 15 rfl rfl)
theorem dJ24_grow_133 : decode cJ24_grow 133 = .ok (.getfield 24, 3) := dk_180 0 24 (dk_at dksJ24_grow_5 16 rfl rfl)
theorem dJ24_grow_136 : decode cJ24_grow 136 = .ok (.iload 6, 2) := dk_21 6 (dk_at dksJ24_grow_5 19 rfl rfl)
theorem dJ24_grow_138 : decode cJ24_grow 138 = .ok (.iadd, 1) := dk_96 (dk_at dksJ24_grow_5 21 rfl rfl)
theorem dJ24_grow_139 : decode cJ24_grow 139 = .ok (.dup_x1, 1) := dk_90 (dk_at dksJ24_grow_5 22 rfl rfl)
theorem dJ24_grow_140 : decode cJ24_grow 140 = .ok (.putfield 24, 3) := dk_181 0 24 (dk_at dksJ24_grow_6 0 rfl rfl)
theorem dJ24_grow_143 : decode cJ24_grow 143 = .ok (.istore 8, 2) := dk_54 8 (dk_at dksJ24_grow_6 3 rfl rfl)
theorem dJ24_grow_145 : decode cJ24_grow 145 = .ok (.iload 7, 2) := dk_21 7 (dk_at dksJ24_grow_6 5 rfl rfl)
theorem dJ24_grow_147 : decode cJ24_grow 147 = .ok (.iload 8, 2) := dk_21 8 (dk_at dksJ24_grow_6 7 rfl rfl)
theorem dJ24_grow_149 : decode cJ24_grow 149 = .ok (.if_icmp .ge 15, 3) := dk_162 0 15 (dk_at dksJ24_grow_6 9 rfl rfl)
theorem dJ24_grow_152 : decode cJ24_grow 152 = .ok (.aload 5, 2) := dk_25 5 (dk_at dksJ24_grow_6 12 rfl rfl)
theorem dJ24_grow_154 : decode cJ24_grow 154 = .ok (.iload 7, 2) := dk_21 7 (dk_at dksJ24_grow_6 14 rfl rfl)
theorem dJ24_grow_156 : decode cJ24_grow 156 = .ok (.aconst_null, 1) := dk_1 (dk_at dksJ24_grow_6 16 rfl rfl)
theorem dJ24_grow_157 : decode cJ24_grow 157 = .ok (.aastore, 1) := dk_83 (dk_at dksJ24_grow_6 17 rfl rfl)
theorem dJ24_grow_158 : decode cJ24_grow 158 = .ok (.iinc 7 1, 3) := dk_132 7 1 (dk_at dksJ24_grow_6 18 rfl rfl)
theorem dJ24_grow_161 : decode cJ24_grow 161 = .ok (.goto (-16), 3) := dk_167 255 240 (dk_at dksJ24_grow_6 21 rfl rfl)
theorem dJ24_grow_164 : decode cJ24_grow 164 = .ok (.return_, 1) := dk_177 (dk_at dksJ24_grow_7 0 rfl rfl)
abbrev cJ24_newCapacity : ByteArray := prog_48_method_2_code
def yJ24_newCapacity : MethodName := ⟨RJ24, "newCapacity", "(II)I"⟩
def dkwJ24_newCapacity_2 : List UInt8 := [18, 9, 100, 156, 0, 9, 29, 28, 96, 167, 0, 5, 18, 9, 172]
abbrev dktJ24_newCapacity_2 : List UInt8 := dkwJ24_newCapacity_2 ++ []
def dkwJ24_newCapacity_1 : List UInt8 := [187, 0, 33, 89, 18, 35, 183, 0, 37, 191, 18, 41, 172, 27, 28, 164, 0, 6, 21, 4, 172, 29, 28, 96]
abbrev dktJ24_newCapacity_1 : List UInt8 := dkwJ24_newCapacity_1 ++ dktJ24_newCapacity_2
def dkwJ24_newCapacity_0 : List UInt8 := [42, 180, 0, 3, 190, 62, 29, 27, 96, 89, 54, 4, 18, 9, 100, 158, 0, 21, 21, 4, 156, 0, 13]
abbrev dktJ24_newCapacity_0 : List UInt8 := dkwJ24_newCapacity_0 ++ dktJ24_newCapacity_1
theorem dksJ24_newCapacity_0 : cJ24_newCapacity.data.toList.drop 0 = dktJ24_newCapacity_0 := by decide +kernel
theorem dksJ24_newCapacity_1 : cJ24_newCapacity.data.toList.drop 23 = dktJ24_newCapacity_1 := dk_seg dksJ24_newCapacity_0 23 rfl rfl
theorem dksJ24_newCapacity_2 : cJ24_newCapacity.data.toList.drop 47 = dktJ24_newCapacity_2 := dk_seg dksJ24_newCapacity_1 24 rfl rfl
theorem dJ24_newCapacity_0 : decode cJ24_newCapacity 0 = .ok (.aload_n 0, 1) := dk_42 (dk_at dksJ24_newCapacity_0 0 rfl rfl)
theorem dJ24_newCapacity_1 : decode cJ24_newCapacity 1 = .ok (.getfield 3, 3) := dk_180 0 3 (dk_at dksJ24_newCapacity_0 1 rfl rfl)
theorem dJ24_newCapacity_4 : decode cJ24_newCapacity 4 = .ok (.arraylength, 1) := dk_190 (dk_at dksJ24_newCapacity_0 4 rfl rfl)
theorem dJ24_newCapacity_5 : decode cJ24_newCapacity 5 = .ok (.istore_n 3, 1) := dk_62 (dk_at dksJ24_newCapacity_0 5 rfl rfl)
theorem dJ24_newCapacity_6 : decode cJ24_newCapacity 6 = .ok (.iload_n 3, 1) := dk_29 (dk_at dksJ24_newCapacity_0 6 rfl rfl)
theorem dJ24_newCapacity_7 : decode cJ24_newCapacity 7 = .ok (.iload_n 1, 1) := dk_27 (dk_at dksJ24_newCapacity_0 7 rfl rfl)
theorem dJ24_newCapacity_8 : decode cJ24_newCapacity 8 = .ok (.iadd, 1) := dk_96 (dk_at dksJ24_newCapacity_0 8 rfl rfl)
theorem dJ24_newCapacity_9 : decode cJ24_newCapacity 9 = .ok (.dup, 1) := dk_89 (dk_at dksJ24_newCapacity_0 9 rfl rfl)
theorem dJ24_newCapacity_10 : decode cJ24_newCapacity 10 = .ok (.istore 4, 2) := dk_54 4 (dk_at dksJ24_newCapacity_0 10 rfl rfl)
theorem dJ24_newCapacity_12 : decode cJ24_newCapacity 12 = .ok (.ldc 9, 2) := dk_18 9 (dk_at dksJ24_newCapacity_0 12 rfl rfl)
theorem dJ24_newCapacity_14 : decode cJ24_newCapacity 14 = .ok (.isub, 1) := dk_100 (dk_at dksJ24_newCapacity_0 14 rfl rfl)
theorem dJ24_newCapacity_15 : decode cJ24_newCapacity 15 = .ok (.ifCond .le 21, 3) := dk_158 0 21 (dk_at dksJ24_newCapacity_0 15 rfl rfl)
theorem dJ24_newCapacity_18 : decode cJ24_newCapacity 18 = .ok (.iload 4, 2) := dk_21 4 (dk_at dksJ24_newCapacity_0 18 rfl rfl)
theorem dJ24_newCapacity_20 : decode cJ24_newCapacity 20 = .ok (.ifCond .ge 13, 3) := dk_156 0 13 (dk_at dksJ24_newCapacity_0 20 rfl rfl)
theorem dJ24_newCapacity_23 : decode cJ24_newCapacity 23 = .ok (.new 33, 3) := dk_187 0 33 (dk_at dksJ24_newCapacity_1 0 rfl rfl)
theorem dJ24_newCapacity_26 : decode cJ24_newCapacity 26 = .ok (.dup, 1) := dk_89 (dk_at dksJ24_newCapacity_1 3 rfl rfl)
theorem dJ24_newCapacity_27 : decode cJ24_newCapacity 27 = .ok (.ldc 35, 2) := dk_18 35 (dk_at dksJ24_newCapacity_1 4 rfl rfl)
theorem dJ24_newCapacity_29 : decode cJ24_newCapacity 29 = .ok (.invokespecial 37, 3) := dk_183 0 37 (dk_at dksJ24_newCapacity_1 6 rfl rfl)
theorem dJ24_newCapacity_32 : decode cJ24_newCapacity 32 = .ok (.athrow, 1) := dk_191 (dk_at dksJ24_newCapacity_1 9 rfl rfl)
theorem dJ24_newCapacity_33 : decode cJ24_newCapacity 33 = .ok (.ldc 41, 2) := dk_18 41 (dk_at dksJ24_newCapacity_1 10 rfl rfl)
theorem dJ24_newCapacity_35 : decode cJ24_newCapacity 35 = .ok (.ireturn, 1) := dk_172 (dk_at dksJ24_newCapacity_1 12 rfl rfl)
theorem dJ24_newCapacity_36 : decode cJ24_newCapacity 36 = .ok (.iload_n 1, 1) := dk_27 (dk_at dksJ24_newCapacity_1 13 rfl rfl)
theorem dJ24_newCapacity_37 : decode cJ24_newCapacity 37 = .ok (.iload_n 2, 1) := dk_28 (dk_at dksJ24_newCapacity_1 14 rfl rfl)
theorem dJ24_newCapacity_38 : decode cJ24_newCapacity 38 = .ok (.if_icmp .le 6, 3) := dk_164 0 6 (dk_at dksJ24_newCapacity_1 15 rfl rfl)
theorem dJ24_newCapacity_41 : decode cJ24_newCapacity 41 = .ok (.iload 4, 2) := dk_21 4 (dk_at dksJ24_newCapacity_1 18 rfl rfl)
theorem dJ24_newCapacity_43 : decode cJ24_newCapacity 43 = .ok (.ireturn, 1) := dk_172 (dk_at dksJ24_newCapacity_1 20 rfl rfl)
theorem dJ24_newCapacity_44 : decode cJ24_newCapacity 44 = .ok (.iload_n 3, 1) := dk_29 (dk_at dksJ24_newCapacity_1 21 rfl rfl)
theorem dJ24_newCapacity_45 : decode cJ24_newCapacity 45 = .ok (.iload_n 2, 1) := dk_28 (dk_at dksJ24_newCapacity_1 22 rfl rfl)
theorem dJ24_newCapacity_46 : decode cJ24_newCapacity 46 = .ok (.iadd, 1) := dk_96 (dk_at dksJ24_newCapacity_1 23 rfl rfl)
theorem dJ24_newCapacity_47 : decode cJ24_newCapacity 47 = .ok (.ldc 9, 2) := dk_18 9 (dk_at dksJ24_newCapacity_2 0 rfl rfl)
theorem dJ24_newCapacity_49 : decode cJ24_newCapacity 49 = .ok (.isub, 1) := dk_100 (dk_at dksJ24_newCapacity_2 2 rfl rfl)
theorem dJ24_newCapacity_50 : decode cJ24_newCapacity 50 = .ok (.ifCond .ge 9, 3) := dk_156 0 9 (dk_at dksJ24_newCapacity_2 3 rfl rfl)
theorem dJ24_newCapacity_53 : decode cJ24_newCapacity 53 = .ok (.iload_n 3, 1) := dk_29 (dk_at dksJ24_newCapacity_2 6 rfl rfl)
theorem dJ24_newCapacity_54 : decode cJ24_newCapacity 54 = .ok (.iload_n 2, 1) := dk_28 (dk_at dksJ24_newCapacity_2 7 rfl rfl)
theorem dJ24_newCapacity_55 : decode cJ24_newCapacity 55 = .ok (.iadd, 1) := dk_96 (dk_at dksJ24_newCapacity_2 8 rfl rfl)
theorem dJ24_newCapacity_56 : decode cJ24_newCapacity 56 = .ok (.goto 5, 3) := dk_167 0 5 (dk_at dksJ24_newCapacity_2 9 rfl rfl)
theorem dJ24_newCapacity_59 : decode cJ24_newCapacity 59 = .ok (.ldc 9, 2) := dk_18 9 (dk_at dksJ24_newCapacity_2 12 rfl rfl)
theorem dJ24_newCapacity_61 : decode cJ24_newCapacity 61 = .ok (.ireturn, 1) := dk_172 (dk_at dksJ24_newCapacity_2 14 rfl rfl)
abbrev cJ24_isEmpty : ByteArray := prog_48_method_38_code
def yJ24_isEmpty : MethodName := ⟨RJ24, "isEmpty", "()Z"⟩
def dkwJ24_isEmpty_0 : List UInt8 := [42, 180, 0, 24, 42, 180, 0, 20, 160, 0, 7, 4, 167, 0, 4, 3, 172]
abbrev dktJ24_isEmpty_0 : List UInt8 := dkwJ24_isEmpty_0 ++ []
theorem dksJ24_isEmpty_0 : cJ24_isEmpty.data.toList.drop 0 = dktJ24_isEmpty_0 := by decide +kernel
theorem dJ24_isEmpty_0 : decode cJ24_isEmpty 0 = .ok (.aload_n 0, 1) := dk_42 (dk_at dksJ24_isEmpty_0 0 rfl rfl)
theorem dJ24_isEmpty_1 : decode cJ24_isEmpty 1 = .ok (.getfield 24, 3) := dk_180 0 24 (dk_at dksJ24_isEmpty_0 1 rfl rfl)
theorem dJ24_isEmpty_4 : decode cJ24_isEmpty 4 = .ok (.aload_n 0, 1) := dk_42 (dk_at dksJ24_isEmpty_0 4 rfl rfl)
theorem dJ24_isEmpty_5 : decode cJ24_isEmpty 5 = .ok (.getfield 20, 3) := dk_180 0 20 (dk_at dksJ24_isEmpty_0 5 rfl rfl)
theorem dJ24_isEmpty_8 : decode cJ24_isEmpty 8 = .ok (.if_icmp .ne 7, 3) := dk_160 0 7 (dk_at dksJ24_isEmpty_0 8 rfl rfl)
theorem dJ24_isEmpty_11 : decode cJ24_isEmpty 11 = .ok (.iconst 1, 1) := dk_4 (dk_at dksJ24_isEmpty_0 11 rfl rfl)
theorem dJ24_isEmpty_12 : decode cJ24_isEmpty 12 = .ok (.goto 4, 3) := dk_167 0 4 (dk_at dksJ24_isEmpty_0 12 rfl rfl)
theorem dJ24_isEmpty_15 : decode cJ24_isEmpty 15 = .ok (.iconst 0, 1) := dk_3 (dk_at dksJ24_isEmpty_0 15 rfl rfl)
theorem dJ24_isEmpty_16 : decode cJ24_isEmpty 16 = .ok (.ireturn, 1) := dk_172 (dk_at dksJ24_isEmpty_0 16 rfl rfl)
abbrev cJ24_removeLast : ByteArray := prog_48_method_19_code
def yJ24_removeLast : MethodName := ⟨RJ24, "removeLast", "()Ljava/lang/Object;"⟩
def dkwJ24_removeLast_0 : List UInt8 := [42, 182, 0, 100, 76, 43, 199, 0, 11, 187, 0, 97, 89, 183, 0, 99, 191, 43, 176]
abbrev dktJ24_removeLast_0 : List UInt8 := dkwJ24_removeLast_0 ++ []
theorem dksJ24_removeLast_0 : cJ24_removeLast.data.toList.drop 0 = dktJ24_removeLast_0 := by decide +kernel
theorem dJ24_removeLast_0 : decode cJ24_removeLast 0 = .ok (.aload_n 0, 1) := dk_42 (dk_at dksJ24_removeLast_0 0 rfl rfl)
theorem dJ24_removeLast_1 : decode cJ24_removeLast 1 = .ok (.invokevirtual 100, 3) := dk_182 0 100 (dk_at dksJ24_removeLast_0 1 rfl rfl)
theorem dJ24_removeLast_4 : decode cJ24_removeLast 4 = .ok (.astore_n 1, 1) := dk_76 (dk_at dksJ24_removeLast_0 4 rfl rfl)
theorem dJ24_removeLast_5 : decode cJ24_removeLast 5 = .ok (.aload_n 1, 1) := dk_43 (dk_at dksJ24_removeLast_0 5 rfl rfl)
theorem dJ24_removeLast_6 : decode cJ24_removeLast 6 = .ok (.ifnonnull 11, 3) := dk_199 0 11 (dk_at dksJ24_removeLast_0 6 rfl rfl)
theorem dJ24_removeLast_9 : decode cJ24_removeLast 9 = .ok (.new 97, 3) := dk_187 0 97 (dk_at dksJ24_removeLast_0 9 rfl rfl)
theorem dJ24_removeLast_12 : decode cJ24_removeLast 12 = .ok (.dup, 1) := dk_89 (dk_at dksJ24_removeLast_0 12 rfl rfl)
theorem dJ24_removeLast_13 : decode cJ24_removeLast 13 = .ok (.invokespecial 99, 3) := dk_183 0 99 (dk_at dksJ24_removeLast_0 13 rfl rfl)
theorem dJ24_removeLast_16 : decode cJ24_removeLast 16 = .ok (.athrow, 1) := dk_191 (dk_at dksJ24_removeLast_0 16 rfl rfl)
theorem dJ24_removeLast_17 : decode cJ24_removeLast 17 = .ok (.aload_n 1, 1) := dk_43 (dk_at dksJ24_removeLast_0 17 rfl rfl)
theorem dJ24_removeLast_18 : decode cJ24_removeLast 18 = .ok (.areturn, 1) := dk_176 (dk_at dksJ24_removeLast_0 18 rfl rfl)
abbrev cJ24_pollLast : ByteArray := prog_48_method_21_code
def yJ24_pollLast : MethodName := ⟨RJ24, "pollLast", "()Ljava/lang/Object;"⟩
def dkwJ24_pollLast_1 : List UInt8 := [198, 0, 12, 43, 42, 28, 90, 181, 0, 20, 1, 83, 45, 176]
abbrev dktJ24_pollLast_1 : List UInt8 := dkwJ24_pollLast_1 ++ []
def dkwJ24_pollLast_0 : List UInt8 := [42, 180, 0, 3, 89, 76, 42, 180, 0, 20, 43, 190, 184, 0, 68, 89, 61, 184, 0, 103, 78, 45]
abbrev dktJ24_pollLast_0 : List UInt8 := dkwJ24_pollLast_0 ++ dktJ24_pollLast_1
theorem dksJ24_pollLast_0 : cJ24_pollLast.data.toList.drop 0 = dktJ24_pollLast_0 := by decide +kernel
theorem dksJ24_pollLast_1 : cJ24_pollLast.data.toList.drop 22 = dktJ24_pollLast_1 := dk_seg dksJ24_pollLast_0 22 rfl rfl
theorem dJ24_pollLast_0 : decode cJ24_pollLast 0 = .ok (.aload_n 0, 1) := dk_42 (dk_at dksJ24_pollLast_0 0 rfl rfl)
theorem dJ24_pollLast_1 : decode cJ24_pollLast 1 = .ok (.getfield 3, 3) := dk_180 0 3 (dk_at dksJ24_pollLast_0 1 rfl rfl)
theorem dJ24_pollLast_4 : decode cJ24_pollLast 4 = .ok (.dup, 1) := dk_89 (dk_at dksJ24_pollLast_0 4 rfl rfl)
theorem dJ24_pollLast_5 : decode cJ24_pollLast 5 = .ok (.astore_n 1, 1) := dk_76 (dk_at dksJ24_pollLast_0 5 rfl rfl)
theorem dJ24_pollLast_6 : decode cJ24_pollLast 6 = .ok (.aload_n 0, 1) := dk_42 (dk_at dksJ24_pollLast_0 6 rfl rfl)
theorem dJ24_pollLast_7 : decode cJ24_pollLast 7 = .ok (.getfield 20, 3) := dk_180 0 20 (dk_at dksJ24_pollLast_0 7 rfl rfl)
theorem dJ24_pollLast_10 : decode cJ24_pollLast 10 = .ok (.aload_n 1, 1) := dk_43 (dk_at dksJ24_pollLast_0 10 rfl rfl)
theorem dJ24_pollLast_11 : decode cJ24_pollLast 11 = .ok (.arraylength, 1) := dk_190 (dk_at dksJ24_pollLast_0 11 rfl rfl)
theorem dJ24_pollLast_12 : decode cJ24_pollLast 12 = .ok (.invokestatic 68, 3) := dk_184 0 68 (dk_at dksJ24_pollLast_0 12 rfl rfl)
theorem dJ24_pollLast_15 : decode cJ24_pollLast 15 = .ok (.dup, 1) := dk_89 (dk_at dksJ24_pollLast_0 15 rfl rfl)
theorem dJ24_pollLast_16 : decode cJ24_pollLast 16 = .ok (.istore_n 2, 1) := dk_61 (dk_at dksJ24_pollLast_0 16 rfl rfl)
theorem dJ24_pollLast_17 : decode cJ24_pollLast 17 = .ok (.invokestatic 103, 3) := dk_184 0 103 (dk_at dksJ24_pollLast_0 17 rfl rfl)
theorem dJ24_pollLast_20 : decode cJ24_pollLast 20 = .ok (.astore_n 3, 1) := dk_78 (dk_at dksJ24_pollLast_0 20 rfl rfl)
theorem dJ24_pollLast_21 : decode cJ24_pollLast 21 = .ok (.aload_n 3, 1) := dk_45 (dk_at dksJ24_pollLast_0 21 rfl rfl)
theorem dJ24_pollLast_22 : decode cJ24_pollLast 22 = .ok (.ifnull 12, 3) := dk_198 0 12 (dk_at dksJ24_pollLast_1 0 rfl rfl)
theorem dJ24_pollLast_25 : decode cJ24_pollLast 25 = .ok (.aload_n 1, 1) := dk_43 (dk_at dksJ24_pollLast_1 3 rfl rfl)
theorem dJ24_pollLast_26 : decode cJ24_pollLast 26 = .ok (.aload_n 0, 1) := dk_42 (dk_at dksJ24_pollLast_1 4 rfl rfl)
theorem dJ24_pollLast_27 : decode cJ24_pollLast 27 = .ok (.iload_n 2, 1) := dk_28 (dk_at dksJ24_pollLast_1 5 rfl rfl)
theorem dJ24_pollLast_28 : decode cJ24_pollLast 28 = .ok (.dup_x1, 1) := dk_90 (dk_at dksJ24_pollLast_1 6 rfl rfl)
theorem dJ24_pollLast_29 : decode cJ24_pollLast 29 = .ok (.putfield 20, 3) := dk_181 0 20 (dk_at dksJ24_pollLast_1 7 rfl rfl)
theorem dJ24_pollLast_32 : decode cJ24_pollLast 32 = .ok (.aconst_null, 1) := dk_1 (dk_at dksJ24_pollLast_1 10 rfl rfl)
theorem dJ24_pollLast_33 : decode cJ24_pollLast 33 = .ok (.aastore, 1) := dk_83 (dk_at dksJ24_pollLast_1 11 rfl rfl)
theorem dJ24_pollLast_34 : decode cJ24_pollLast 34 = .ok (.aload_n 3, 1) := dk_45 (dk_at dksJ24_pollLast_1 12 rfl rfl)
theorem dJ24_pollLast_35 : decode cJ24_pollLast 35 = .ok (.areturn, 1) := dk_176 (dk_at dksJ24_pollLast_1 13 rfl rfl)
abbrev cJ24_dec : ByteArray := prog_48_method_7_code
def yJ24_dec : MethodName := ⟨RJ24, "dec", "(II)I"⟩
def dkwJ24_dec_0 : List UInt8 := [132, 0, 255, 26, 156, 0, 7, 27, 4, 100, 59, 26, 172]
abbrev dktJ24_dec_0 : List UInt8 := dkwJ24_dec_0 ++ []
theorem dksJ24_dec_0 : cJ24_dec.data.toList.drop 0 = dktJ24_dec_0 := by decide +kernel
theorem dJ24_dec_0 : decode cJ24_dec 0 = .ok (.iinc 0 (-1), 3) := dk_132 0 255 (dk_at dksJ24_dec_0 0 rfl rfl)
theorem dJ24_dec_3 : decode cJ24_dec 3 = .ok (.iload_n 0, 1) := dk_26 (dk_at dksJ24_dec_0 3 rfl rfl)
theorem dJ24_dec_4 : decode cJ24_dec 4 = .ok (.ifCond .ge 7, 3) := dk_156 0 7 (dk_at dksJ24_dec_0 4 rfl rfl)
theorem dJ24_dec_7 : decode cJ24_dec 7 = .ok (.iload_n 1, 1) := dk_27 (dk_at dksJ24_dec_0 7 rfl rfl)
theorem dJ24_dec_8 : decode cJ24_dec 8 = .ok (.iconst 1, 1) := dk_4 (dk_at dksJ24_dec_0 8 rfl rfl)
theorem dJ24_dec_9 : decode cJ24_dec 9 = .ok (.isub, 1) := dk_100 (dk_at dksJ24_dec_0 9 rfl rfl)
theorem dJ24_dec_10 : decode cJ24_dec 10 = .ok (.istore_n 0, 1) := dk_59 (dk_at dksJ24_dec_0 10 rfl rfl)
theorem dJ24_dec_11 : decode cJ24_dec 11 = .ok (.iload_n 0, 1) := dk_26 (dk_at dksJ24_dec_0 11 rfl rfl)
theorem dJ24_dec_12 : decode cJ24_dec 12 = .ok (.ireturn, 1) := dk_172 (dk_at dksJ24_dec_0 12 rfl rfl)
theorem q109 : (Jvm.Cond.initialized "java/util/ArrayDeque") ∈ lw_all := lw_g (lw_at lw_m1 33 rfl) rfl
theorem q465 : (Jvm.Cond.selects "java/util/ArrayDeque" ({ cls := "java/lang/Object", name := "getClass", desc := "()Ljava/lang/Class;" } : Jvm.MethodName) ({ cls := "java/lang/Object", name := "getClass", desc := "()Ljava/lang/Class;" } : Jvm.MethodName)) ∈ lw_all := lw_g (lw_at lw_m2 149 rfl) rfl
theorem q948 : (Jvm.Cond.instantiable "java/util/ArrayDeque" (3 : Nat)) ∈ lw_all := lw_g (lw_at lw_m4 152 rfl) rfl
theorem q950 : (Jvm.Cond.instanceMethod ({ cls := "java/util/ArrayDeque", name := "<init>", desc := "()V" } : Jvm.MethodName)) ∈ lw_all := lw_g (lw_at lw_m4 154 rfl) rfl
theorem q951 : (Jvm.Cond.code ({ cls := "java/util/ArrayDeque", name := "<init>", desc := "()V" } : Jvm.MethodName) prog_48_method_3_code (1 : Nat) (Option.none : Option Jvm.ClassFile.FieldType)) ∈ lw_all := lw_g (lw_at lw_m4 155 rfl) rfl
theorem q952 : (Jvm.Cond.methodLink "java/util/ArrayDeque" (42 : Nat) ({ cls := "java/util/AbstractCollection", name := "<init>", desc := "()V" } : Jvm.MethodName)) ∈ lw_all := lw_g (lw_at lw_m4 156 rfl) rfl
theorem q953 : (Jvm.Cond.classLink "java/util/ArrayDeque" (47 : Nat) "java/lang/Object") ∈ lw_all := lw_g (lw_at lw_m4 157 rfl) rfl
theorem q954 : (Jvm.Cond.fieldLink "java/util/ArrayDeque" (3 : Nat) "java/util/ArrayDeque" "elements" "[Ljava/lang/Object;") ∈ lw_all := lw_g (lw_at lw_m4 158 rfl) rfl
theorem q955 : (Jvm.Cond.fieldLink "java/util/ArrayDeque" (24 : Nat) "java/util/ArrayDeque" "head" "I") ∈ lw_all := lw_g (lw_at lw_m4 159 rfl) rfl
theorem q956 : (Jvm.Cond.fieldLink "java/util/ArrayDeque" (20 : Nat) "java/util/ArrayDeque" "tail" "I") ∈ lw_all := lw_g (lw_at lw_m4 160 rfl) rfl
theorem q957 : (Jvm.Cond.lays "java/util/ArrayDeque" "java/util/ArrayDeque" "elements" "[Ljava/lang/Object;") ∈ lw_all := lw_g (lw_at lw_m4 161 rfl) rfl
theorem q958 : (Jvm.Cond.soleField "java/util/ArrayDeque" "elements") ∈ lw_all := lw_g (lw_at lw_m4 162 rfl) rfl
theorem q959 : (Jvm.Cond.lays "java/util/ArrayDeque" "java/util/ArrayDeque" "head" "I") ∈ lw_all := lw_g (lw_at lw_m4 163 rfl) rfl
theorem q960 : (Jvm.Cond.soleField "java/util/ArrayDeque" "head") ∈ lw_all := lw_g (lw_at lw_m4 164 rfl) rfl
theorem q961 : (Jvm.Cond.lays "java/util/ArrayDeque" "java/util/ArrayDeque" "tail" "I") ∈ lw_all := lw_g (lw_at lw_m4 165 rfl) rfl
theorem q962 : (Jvm.Cond.soleField "java/util/ArrayDeque" "tail") ∈ lw_all := lw_g (lw_at lw_m4 166 rfl) rfl
theorem q963 : (Jvm.Cond.superclass "java/util/ArrayDeque" "java/util/AbstractCollection") ∈ lw_all := lw_g (lw_at lw_m4 167 rfl) rfl
theorem q1061 : (Jvm.Cond.selects "java/util/ArrayDeque" ({ cls := "java/util/AbstractCollection", name := "size", desc := "()I" } : Jvm.MethodName) ({ cls := "java/util/ArrayDeque", name := "size", desc := "()I" } : Jvm.MethodName)) ∈ lw_all := lw_g (lw_at lw_m5 25 rfl) rfl
theorem q1062 : (Jvm.Cond.instanceMethod ({ cls := "java/util/ArrayDeque", name := "size", desc := "()I" } : Jvm.MethodName)) ∈ lw_all := lw_g (lw_at lw_m5 26 rfl) rfl
theorem q1063 : (Jvm.Cond.code ({ cls := "java/util/ArrayDeque", name := "size", desc := "()I" } : Jvm.MethodName) prog_48_method_37_code (1 : Nat) (Option.some Jvm.ClassFile.FieldType.int)) ∈ lw_all := lw_g (lw_at lw_m5 27 rfl) rfl
theorem q1064 : (Jvm.Cond.methodLink "java/util/ArrayDeque" (127 : Nat) ({ cls := "java/util/ArrayDeque", name := "sub", desc := "(III)I" } : Jvm.MethodName)) ∈ lw_all := lw_g (lw_at lw_m5 28 rfl) rfl
theorem q1065 : (Jvm.Cond.static ({ cls := "java/util/ArrayDeque", name := "sub", desc := "(III)I" } : Jvm.MethodName)) ∈ lw_all := lw_g (lw_at lw_m5 29 rfl) rfl
theorem q1066 : (Jvm.Cond.code ({ cls := "java/util/ArrayDeque", name := "sub", desc := "(III)I" } : Jvm.MethodName) prog_48_method_9_code (3 : Nat) (Option.some Jvm.ClassFile.FieldType.int)) ∈ lw_all := lw_g (lw_at lw_m5 30 rfl) rfl
theorem q1797 : (Jvm.Cond.instanceMethod ({ cls := "java/util/ArrayDeque", name := "removeFirst", desc := "()Ljava/lang/Object;" } : Jvm.MethodName)) ∈ lw_all := lw_g (lw_at lw_m8 41 rfl) rfl
theorem q1798 : (Jvm.Cond.selects "java/util/ArrayDeque" ({ cls := "java/util/ArrayDeque", name := "removeFirst", desc := "()Ljava/lang/Object;" } : Jvm.MethodName) ({ cls := "java/util/ArrayDeque", name := "removeFirst", desc := "()Ljava/lang/Object;" } : Jvm.MethodName)) ∈ lw_all := lw_g (lw_at lw_m8 42 rfl) rfl
theorem q1799 : (Jvm.Cond.code ({ cls := "java/util/ArrayDeque", name := "removeFirst", desc := "()Ljava/lang/Object;" } : Jvm.MethodName) prog_48_method_18_code (2 : Nat) (Option.some (Jvm.ClassFile.FieldType.object "java/lang/Object"))) ∈ lw_all := lw_g (lw_at lw_m8 43 rfl) rfl
theorem q1800 : (Jvm.Cond.methodLink "java/util/ArrayDeque" (93 : Nat) ({ cls := "java/util/ArrayDeque", name := "pollFirst", desc := "()Ljava/lang/Object;" } : Jvm.MethodName)) ∈ lw_all := lw_g (lw_at lw_m8 44 rfl) rfl
theorem q1801 : (Jvm.Cond.instanceMethod ({ cls := "java/util/ArrayDeque", name := "pollFirst", desc := "()Ljava/lang/Object;" } : Jvm.MethodName)) ∈ lw_all := lw_g (lw_at lw_m8 45 rfl) rfl
theorem q1802 : (Jvm.Cond.selects "java/util/ArrayDeque" ({ cls := "java/util/ArrayDeque", name := "pollFirst", desc := "()Ljava/lang/Object;" } : Jvm.MethodName) ({ cls := "java/util/ArrayDeque", name := "pollFirst", desc := "()Ljava/lang/Object;" } : Jvm.MethodName)) ∈ lw_all := lw_g (lw_at lw_m8 46 rfl) rfl
theorem q1803 : (Jvm.Cond.code ({ cls := "java/util/ArrayDeque", name := "pollFirst", desc := "()Ljava/lang/Object;" } : Jvm.MethodName) prog_48_method_20_code (4 : Nat) (Option.some (Jvm.ClassFile.FieldType.object "java/lang/Object"))) ∈ lw_all := lw_g (lw_at lw_m8 47 rfl) rfl
theorem q1804 : (Jvm.Cond.methodLink "java/util/ArrayDeque" (103 : Nat) ({ cls := "java/util/ArrayDeque", name := "elementAt", desc := "([Ljava/lang/Object;I)Ljava/lang/Object;" } : Jvm.MethodName)) ∈ lw_all := lw_g (lw_at lw_m8 48 rfl) rfl
theorem q1805 : (Jvm.Cond.static ({ cls := "java/util/ArrayDeque", name := "elementAt", desc := "([Ljava/lang/Object;I)Ljava/lang/Object;" } : Jvm.MethodName)) ∈ lw_all := lw_g (lw_at lw_m8 49 rfl) rfl
theorem q1806 : (Jvm.Cond.code ({ cls := "java/util/ArrayDeque", name := "elementAt", desc := "([Ljava/lang/Object;I)Ljava/lang/Object;" } : Jvm.MethodName) prog_48_method_10_code (2 : Nat) (Option.some (Jvm.ClassFile.FieldType.object "java/lang/Object"))) ∈ lw_all := lw_g (lw_at lw_m8 50 rfl) rfl
theorem q1807 : (Jvm.Cond.methodLink "java/util/ArrayDeque" (74 : Nat) ({ cls := "java/util/ArrayDeque", name := "inc", desc := "(II)I" } : Jvm.MethodName)) ∈ lw_all := lw_g (lw_at lw_m8 51 rfl) rfl
theorem q1808 : (Jvm.Cond.static ({ cls := "java/util/ArrayDeque", name := "inc", desc := "(II)I" } : Jvm.MethodName)) ∈ lw_all := lw_g (lw_at lw_m8 52 rfl) rfl
theorem q1809 : (Jvm.Cond.code ({ cls := "java/util/ArrayDeque", name := "inc", desc := "(II)I" } : Jvm.MethodName) prog_48_method_6_code (2 : Nat) (Option.some Jvm.ClassFile.FieldType.int)) ∈ lw_all := lw_g (lw_at lw_m8 53 rfl) rfl
theorem q1810 : (Jvm.Cond.classLink "java/util/ArrayDeque" (97 : Nat) "java/util/NoSuchElementException") ∈ lw_all := lw_g (lw_at lw_m8 54 rfl) rfl
theorem q1819 : (Jvm.Cond.methodLink "java/util/ArrayDeque" (99 : Nat) ({ cls := "java/util/NoSuchElementException", name := "<init>", desc := "()V" } : Jvm.MethodName)) ∈ lw_all := lw_g (lw_at lw_m8 63 rfl) rfl
theorem q1826 : (Jvm.Cond.instanceMethod ({ cls := "java/util/ArrayDeque", name := "addLast", desc := "(Ljava/lang/Object;)V" } : Jvm.MethodName)) ∈ lw_all := lw_g (lw_at lw_m8 70 rfl) rfl
theorem q1827 : (Jvm.Cond.selects "java/util/ArrayDeque" ({ cls := "java/util/ArrayDeque", name := "addLast", desc := "(Ljava/lang/Object;)V" } : Jvm.MethodName) ({ cls := "java/util/ArrayDeque", name := "addLast", desc := "(Ljava/lang/Object;)V" } : Jvm.MethodName)) ∈ lw_all := lw_g (lw_at lw_m8 71 rfl) rfl
theorem q1828 : (Jvm.Cond.code ({ cls := "java/util/ArrayDeque", name := "addLast", desc := "(Ljava/lang/Object;)V" } : Jvm.MethodName) prog_48_method_13_code (3 : Nat) (Option.none : Option Jvm.ClassFile.FieldType)) ∈ lw_all := lw_g (lw_at lw_m8 72 rfl) rfl
theorem q1829 : (Jvm.Cond.methodLink "java/util/ArrayDeque" (71 : Nat) ({ cls := "java/util/ArrayDeque", name := "grow", desc := "(I)V" } : Jvm.MethodName)) ∈ lw_all := lw_g (lw_at lw_m8 73 rfl) rfl
theorem q1830 : (Jvm.Cond.privateMethod ({ cls := "java/util/ArrayDeque", name := "grow", desc := "(I)V" } : Jvm.MethodName)) ∈ lw_tbl := lw_at lw_m8 74 rfl
theorem q1831 : (Jvm.Cond.instanceMethod ({ cls := "java/util/ArrayDeque", name := "grow", desc := "(I)V" } : Jvm.MethodName)) ∈ lw_all := lw_g (lw_at lw_m8 75 rfl) rfl
theorem q1832 : (Jvm.Cond.code ({ cls := "java/util/ArrayDeque", name := "grow", desc := "(I)V" } : Jvm.MethodName) prog_48_method_1_code (9 : Nat) (Option.none : Option Jvm.ClassFile.FieldType)) ∈ lw_all := lw_g (lw_at lw_m8 76 rfl) rfl
theorem q1833 : (Jvm.Cond.constant "java/util/ArrayDeque" (9 : Nat) (2147483639 : Int32)) ∈ lw_all := lw_g (lw_at lw_m8 77 rfl) rfl
theorem q1834 : (Jvm.Cond.methodLink "java/util/ArrayDeque" (10 : Nat) ({ cls := "java/util/ArrayDeque", name := "newCapacity", desc := "(II)I" } : Jvm.MethodName)) ∈ lw_all := lw_g (lw_at lw_m8 78 rfl) rfl
theorem q1835 : (Jvm.Cond.privateMethod ({ cls := "java/util/ArrayDeque", name := "newCapacity", desc := "(II)I" } : Jvm.MethodName)) ∈ lw_tbl := lw_at lw_m8 79 rfl
theorem q1836 : (Jvm.Cond.instanceMethod ({ cls := "java/util/ArrayDeque", name := "newCapacity", desc := "(II)I" } : Jvm.MethodName)) ∈ lw_all := lw_g (lw_at lw_m8 80 rfl) rfl
theorem q1837 : (Jvm.Cond.code ({ cls := "java/util/ArrayDeque", name := "newCapacity", desc := "(II)I" } : Jvm.MethodName) prog_48_method_2_code (5 : Nat) (Option.some Jvm.ClassFile.FieldType.int)) ∈ lw_all := lw_g (lw_at lw_m8 81 rfl) rfl
theorem q1838 : (Jvm.Cond.classLink "java/util/ArrayDeque" (33 : Nat) "java/lang/IllegalStateException") ∈ lw_all := lw_g (lw_at lw_m8 82 rfl) rfl
theorem q1839 : (Jvm.Cond.stringRef "java/util/ArrayDeque" (35 : Nat) "Sorry, deque too big") ∈ lw_tbl := lw_at lw_m8 83 rfl
theorem q1840 : (Jvm.Cond.methodLink "java/util/ArrayDeque" (37 : Nat) ({ cls := "java/lang/IllegalStateException", name := "<init>", desc := "(Ljava/lang/String;)V" } : Jvm.MethodName)) ∈ lw_all := lw_g (lw_at lw_m8 84 rfl) rfl
theorem q1844 : (Jvm.Cond.constant "java/util/ArrayDeque" (41 : Nat) (2147483647 : Int32)) ∈ lw_all := lw_g (lw_at lw_m8 88 rfl) rfl
theorem q1845 : (Jvm.Cond.methodLink "java/util/ArrayDeque" (14 : Nat) ({ cls := "java/util/Arrays", name := "copyOf", desc := "([Ljava/lang/Object;I)[Ljava/lang/Object;" } : Jvm.MethodName)) ∈ lw_all := lw_g (lw_at lw_m8 89 rfl) rfl
theorem q1846 : (Jvm.Cond.methodLink "java/util/ArrayDeque" (27 : Nat) ({ cls := "java/lang/System", name := "arraycopy", desc := "(Ljava/lang/Object;ILjava/lang/Object;II)V" } : Jvm.MethodName)) ∈ lw_all := lw_g (lw_at lw_m8 90 rfl) rfl
theorem q2462 : (Jvm.Cond.instanceMethod ({ cls := "java/util/ArrayDeque", name := "isEmpty", desc := "()Z" } : Jvm.MethodName)) ∈ lw_all := lw_g (lw_at lw_m10 226 rfl) rfl
theorem q2463 : (Jvm.Cond.selects "java/util/ArrayDeque" ({ cls := "java/util/ArrayDeque", name := "isEmpty", desc := "()Z" } : Jvm.MethodName) ({ cls := "java/util/ArrayDeque", name := "isEmpty", desc := "()Z" } : Jvm.MethodName)) ∈ lw_all := lw_g (lw_at lw_m10 227 rfl) rfl
theorem q2464 : (Jvm.Cond.code ({ cls := "java/util/ArrayDeque", name := "isEmpty", desc := "()Z" } : Jvm.MethodName) prog_48_method_38_code (1 : Nat) (Option.some Jvm.ClassFile.FieldType.boolean)) ∈ lw_all := lw_g (lw_at lw_m10 228 rfl) rfl
theorem q2466 : (Jvm.Cond.instanceMethod ({ cls := "java/util/ArrayDeque", name := "removeLast", desc := "()Ljava/lang/Object;" } : Jvm.MethodName)) ∈ lw_all := lw_g (lw_at lw_m10 230 rfl) rfl
theorem q2467 : (Jvm.Cond.selects "java/util/ArrayDeque" ({ cls := "java/util/ArrayDeque", name := "removeLast", desc := "()Ljava/lang/Object;" } : Jvm.MethodName) ({ cls := "java/util/ArrayDeque", name := "removeLast", desc := "()Ljava/lang/Object;" } : Jvm.MethodName)) ∈ lw_all := lw_g (lw_at lw_m10 231 rfl) rfl
theorem q2468 : (Jvm.Cond.code ({ cls := "java/util/ArrayDeque", name := "removeLast", desc := "()Ljava/lang/Object;" } : Jvm.MethodName) prog_48_method_19_code (2 : Nat) (Option.some (Jvm.ClassFile.FieldType.object "java/lang/Object"))) ∈ lw_all := lw_g (lw_at lw_m10 232 rfl) rfl
theorem q2469 : (Jvm.Cond.methodLink "java/util/ArrayDeque" (100 : Nat) ({ cls := "java/util/ArrayDeque", name := "pollLast", desc := "()Ljava/lang/Object;" } : Jvm.MethodName)) ∈ lw_all := lw_g (lw_at lw_m10 233 rfl) rfl
theorem q2470 : (Jvm.Cond.instanceMethod ({ cls := "java/util/ArrayDeque", name := "pollLast", desc := "()Ljava/lang/Object;" } : Jvm.MethodName)) ∈ lw_all := lw_g (lw_at lw_m10 234 rfl) rfl
theorem q2471 : (Jvm.Cond.selects "java/util/ArrayDeque" ({ cls := "java/util/ArrayDeque", name := "pollLast", desc := "()Ljava/lang/Object;" } : Jvm.MethodName) ({ cls := "java/util/ArrayDeque", name := "pollLast", desc := "()Ljava/lang/Object;" } : Jvm.MethodName)) ∈ lw_all := lw_g (lw_at lw_m10 235 rfl) rfl
theorem q2472 : (Jvm.Cond.code ({ cls := "java/util/ArrayDeque", name := "pollLast", desc := "()Ljava/lang/Object;" } : Jvm.MethodName) prog_48_method_21_code (4 : Nat) (Option.some (Jvm.ClassFile.FieldType.object "java/lang/Object"))) ∈ lw_all := lw_g (lw_at lw_m10 236 rfl) rfl
theorem q2473 : (Jvm.Cond.methodLink "java/util/ArrayDeque" (68 : Nat) ({ cls := "java/util/ArrayDeque", name := "dec", desc := "(II)I" } : Jvm.MethodName)) ∈ lw_all := lw_g (lw_at lw_m10 237 rfl) rfl
theorem q2474 : (Jvm.Cond.static ({ cls := "java/util/ArrayDeque", name := "dec", desc := "(II)I" } : Jvm.MethodName)) ∈ lw_all := lw_g (lw_at lw_m10 238 rfl) rfl
theorem q2475 : (Jvm.Cond.code ({ cls := "java/util/ArrayDeque", name := "dec", desc := "(II)I" } : Jvm.MethodName) prog_48_method_7_code (2 : Nat) (Option.some Jvm.ClassFile.FieldType.int)) ∈ lw_all := lw_g (lw_at lw_m10 239 rfl) rfl
theorem q2986 : (Jvm.Cond.selects "java/util/ArrayDeque" ({ cls := "java/util/ArrayDeque", name := "size", desc := "()I" } : Jvm.MethodName) ({ cls := "java/util/ArrayDeque", name := "size", desc := "()I" } : Jvm.MethodName)) ∈ lw_all := lw_g (lw_at lw_m13 30 rfl) rfl
theorem q3006 : (Jvm.Cond.castable "java/util/ArrayDeque" "java/lang/Object") ∈ lw_tbl := lw_at lw_m13 50 rfl
theorem in_J24 : ∀ w ∈ wsJ240, w ∈ lw_all := lw_in wsJ240 [957, 959, 961] (by decide +kernel) (by decide +kernel)

/-! java/lang/AbstractStringBuilder -/
set_option maxRecDepth 100000
def RJ25 : String := "java/lang/AbstractStringBuilder"
abbrev cJ25_compareTo : ByteArray := prog_15_method_5_code
def yJ25_compareTo : MethodName := ⟨RJ25, "compareTo", "(Ljava/lang/AbstractStringBuilder;)I"⟩
def dkwJ25_compareTo_4 : List UInt8 := [184, 0, 97, 172]
abbrev dktJ25_compareTo_4 : List UInt8 := dkwJ25_compareTo_4 ++ []
def dkwJ25_compareTo_3 : List UInt8 := [182, 0, 83, 153, 0, 15, 44, 45, 21, 4, 21, 5, 184, 0, 94, 167, 0, 12, 44, 45, 21, 4, 21, 5]
abbrev dktJ25_compareTo_3 : List UInt8 := dkwJ25_compareTo_3 ++ dktJ25_compareTo_4
def dkwJ25_compareTo_2 : List UInt8 := [45, 21, 4, 21, 5, 184, 0, 87, 167, 0, 12, 44, 45, 21, 4, 21, 5, 184, 0, 93, 172, 42]
abbrev dktJ25_compareTo_2 : List UInt8 := dkwJ25_compareTo_2 ++ dktJ25_compareTo_3
def dkwJ25_compareTo_1 : List UInt8 := [180, 0, 79, 54, 5, 42, 180, 0, 22, 43, 180, 0, 22, 160, 0, 32, 42, 182, 0, 83, 153, 0, 15, 44]
abbrev dktJ25_compareTo_1 : List UInt8 := dkwJ25_compareTo_1 ++ dktJ25_compareTo_2
def dkwJ25_compareTo_0 : List UInt8 := [42, 43, 166, 0, 5, 3, 172, 42, 180, 0, 15, 77, 43, 180, 0, 15, 78, 42, 180, 0, 79, 54, 4, 43]
abbrev dktJ25_compareTo_0 : List UInt8 := dkwJ25_compareTo_0 ++ dktJ25_compareTo_1
theorem dksJ25_compareTo_0 : cJ25_compareTo.data.toList.drop 0 = dktJ25_compareTo_0 := by decide +kernel
theorem dksJ25_compareTo_1 : cJ25_compareTo.data.toList.drop 24 = dktJ25_compareTo_1 := dk_seg dksJ25_compareTo_0 24 rfl rfl
theorem dksJ25_compareTo_2 : cJ25_compareTo.data.toList.drop 48 = dktJ25_compareTo_2 := dk_seg dksJ25_compareTo_1 24 rfl rfl
theorem dksJ25_compareTo_3 : cJ25_compareTo.data.toList.drop 70 = dktJ25_compareTo_3 := dk_seg dksJ25_compareTo_2 22 rfl rfl
theorem dksJ25_compareTo_4 : cJ25_compareTo.data.toList.drop 94 = dktJ25_compareTo_4 := dk_seg dksJ25_compareTo_3 24 rfl rfl
theorem dJ25_compareTo_0 : decode cJ25_compareTo 0 = .ok (.aload_n 0, 1) := dk_42 (dk_at dksJ25_compareTo_0 0 rfl rfl)
theorem dJ25_compareTo_1 : decode cJ25_compareTo 1 = .ok (.aload_n 1, 1) := dk_43 (dk_at dksJ25_compareTo_0 1 rfl rfl)
theorem dJ25_compareTo_2 : decode cJ25_compareTo 2 = .ok (.if_acmp .ne 5, 3) := dk_166 0 5 (dk_at dksJ25_compareTo_0 2 rfl rfl)
theorem dJ25_compareTo_5 : decode cJ25_compareTo 5 = .ok (.iconst 0, 1) := dk_3 (dk_at dksJ25_compareTo_0 5 rfl rfl)
theorem dJ25_compareTo_6 : decode cJ25_compareTo 6 = .ok (.ireturn, 1) := dk_172 (dk_at dksJ25_compareTo_0 6 rfl rfl)
theorem dJ25_compareTo_7 : decode cJ25_compareTo 7 = .ok (.aload_n 0, 1) := dk_42 (dk_at dksJ25_compareTo_0 7 rfl rfl)
theorem dJ25_compareTo_8 : decode cJ25_compareTo 8 = .ok (.getfield 15, 3) := dk_180 0 15 (dk_at dksJ25_compareTo_0 8 rfl rfl)
theorem dJ25_compareTo_11 : decode cJ25_compareTo 11 = .ok (.astore_n 2, 1) := dk_77 (dk_at dksJ25_compareTo_0 11 rfl rfl)
theorem dJ25_compareTo_12 : decode cJ25_compareTo 12 = .ok (.aload_n 1, 1) := dk_43 (dk_at dksJ25_compareTo_0 12 rfl rfl)
theorem dJ25_compareTo_13 : decode cJ25_compareTo 13 = .ok (.getfield 15, 3) := dk_180 0 15 (dk_at dksJ25_compareTo_0 13 rfl rfl)
theorem dJ25_compareTo_16 : decode cJ25_compareTo 16 = .ok (.astore_n 3, 1) := dk_78 (dk_at dksJ25_compareTo_0 16 rfl rfl)
theorem dJ25_compareTo_17 : decode cJ25_compareTo 17 = .ok (.aload_n 0, 1) := dk_42 (dk_at dksJ25_compareTo_0 17 rfl rfl)
theorem dJ25_compareTo_18 : decode cJ25_compareTo 18 = .ok (.getfield 79, 3) := dk_180 0 79 (dk_at dksJ25_compareTo_0 18 rfl rfl)
theorem dJ25_compareTo_21 : decode cJ25_compareTo 21 = .ok (.istore 4, 2) := dk_54 4 (dk_at dksJ25_compareTo_0 21 rfl rfl)
theorem dJ25_compareTo_23 : decode cJ25_compareTo 23 = .ok (.aload_n 1, 1) := dk_43 (dk_at dksJ25_compareTo_0 23 rfl rfl)
theorem dJ25_compareTo_24 : decode cJ25_compareTo 24 = .ok (.getfield 79, 3) := dk_180 0 79 (dk_at dksJ25_compareTo_1 0 rfl rfl)
theorem dJ25_compareTo_27 : decode cJ25_compareTo 27 = .ok (.istore 5, 2) := dk_54 5 (dk_at dksJ25_compareTo_1 3 rfl rfl)
theorem dJ25_compareTo_29 : decode cJ25_compareTo 29 = .ok (.aload_n 0, 1) := dk_42 (dk_at dksJ25_compareTo_1 5 rfl rfl)
theorem dJ25_compareTo_30 : decode cJ25_compareTo 30 = .ok (.getfield 22, 3) := dk_180 0 22 (dk_at dksJ25_compareTo_1 6 rfl rfl)
theorem dJ25_compareTo_33 : decode cJ25_compareTo 33 = .ok (.aload_n 1, 1) := dk_43 (dk_at dksJ25_compareTo_1 9 rfl rfl)
theorem dJ25_compareTo_34 : decode cJ25_compareTo 34 = .ok (.getfield 22, 3) := dk_180 0 22 (dk_at dksJ25_compareTo_1 10 rfl rfl)
theorem dJ25_compareTo_37 : decode cJ25_compareTo 37 = .ok (.if_icmp .ne 32, 3) := dk_160 0 32 (dk_at dksJ25_compareTo_1 13 rfl rfl)
theorem dJ25_compareTo_40 : decode cJ25_compareTo 40 = .ok (.aload_n 0, 1) := dk_42 (dk_at dksJ25_compareTo_1 16 rfl rfl)
theorem dJ25_compareTo_41 : decode cJ25_compareTo 41 = .ok (.invokevirtual 83, 3) := dk_182 0 83 (dk_at dksJ25_compareTo_1 17 rfl rfl)
theorem dJ25_compareTo_44 : decode cJ25_compareTo 44 = .ok (.ifCond .eq 15, 3) := dk_153 0 15 (dk_at dksJ25_compareTo_1 20 rfl rfl)
theorem dJ25_compareTo_47 : decode cJ25_compareTo 47 = .ok (.aload_n 2, 1) := dk_44 (dk_at dksJ25_compareTo_1 23 rfl rfl)
theorem dJ25_compareTo_48 : decode cJ25_compareTo 48 = .ok (.aload_n 3, 1) := dk_45 (dk_at dksJ25_compareTo_2 0 rfl rfl)
theorem dJ25_compareTo_49 : decode cJ25_compareTo 49 = .ok (.iload 4, 2) := dk_21 4 (dk_at dksJ25_compareTo_2 1 rfl rfl)
theorem dJ25_compareTo_51 : decode cJ25_compareTo 51 = .ok (.iload 5, 2) := dk_21 5 (dk_at dksJ25_compareTo_2 3 rfl rfl)
theorem dJ25_compareTo_53 : decode cJ25_compareTo 53 = .ok (.invokestatic 87, 3) := dk_184 0 87 (dk_at dksJ25_compareTo_2 5 rfl rfl)
theorem dJ25_compareTo_56 : decode cJ25_compareTo 56 = .ok (.goto 12, 3) := dk_167 0 12 (dk_at dksJ25_compareTo_2 8 rfl rfl)
theorem dJ25_compareTo_59 : decode cJ25_compareTo 59 = .ok (.aload_n 2, 1) := dk_44 (dk_at dksJ25_compareTo_2 11 rfl rfl)
theorem dJ25_compareTo_60 : decode cJ25_compareTo 60 = .ok (.aload_n 3, 1) := dk_45 (dk_at dksJ25_compareTo_2 12 rfl rfl)
theorem dJ25_compareTo_61 : decode cJ25_compareTo 61 = .ok (.iload 4, 2) := dk_21 4 (dk_at dksJ25_compareTo_2 13 rfl rfl)
theorem dJ25_compareTo_63 : decode cJ25_compareTo 63 = .ok (.iload 5, 2) := dk_21 5 (dk_at dksJ25_compareTo_2 15 rfl rfl)
theorem dJ25_compareTo_65 : decode cJ25_compareTo 65 = .ok (.invokestatic 93, 3) := dk_184 0 93 (dk_at dksJ25_compareTo_2 17 rfl rfl)
theorem dJ25_compareTo_68 : decode cJ25_compareTo 68 = .ok (.ireturn, 1) := dk_172 (dk_at dksJ25_compareTo_2 20 rfl rfl)
theorem dJ25_compareTo_69 : decode cJ25_compareTo 69 = .ok (.aload_n 0, 1) := dk_42 (dk_at dksJ25_compareTo_2 21 rfl rfl)
theorem dJ25_compareTo_70 : decode cJ25_compareTo 70 = .ok (.invokevirtual 83, 3) := dk_182 0 83 (dk_at dksJ25_compareTo_3 0 rfl rfl)
theorem dJ25_compareTo_73 : decode cJ25_compareTo 73 = .ok (.ifCond .eq 15, 3) := dk_153 0 15 (dk_at dksJ25_compareTo_3 3 rfl rfl)
theorem dJ25_compareTo_76 : decode cJ25_compareTo 76 = .ok (.aload_n 2, 1) := dk_44 (dk_at dksJ25_compareTo_3 6 rfl rfl)
theorem dJ25_compareTo_77 : decode cJ25_compareTo 77 = .ok (.aload_n 3, 1) := dk_45 (dk_at dksJ25_compareTo_3 7 rfl rfl)
theorem dJ25_compareTo_78 : decode cJ25_compareTo 78 = .ok (.iload 4, 2) := dk_21 4 (dk_at dksJ25_compareTo_3 8 rfl rfl)
theorem dJ25_compareTo_80 : decode cJ25_compareTo 80 = .ok (.iload 5, 2) := dk_21 5 (dk_at dksJ25_compareTo_3 10 rfl rfl)
theorem dJ25_compareTo_82 : decode cJ25_compareTo 82 = .ok (.invokestatic 94, 3) := dk_184 0 94 (dk_at dksJ25_compareTo_3 12 rfl rfl)
theorem dJ25_compareTo_85 : decode cJ25_compareTo 85 = .ok (.goto 12, 3) := dk_167 0 12 (dk_at dksJ25_compareTo_3 15 rfl rfl)
theorem dJ25_compareTo_88 : decode cJ25_compareTo 88 = .ok (.aload_n 2, 1) := dk_44 (dk_at dksJ25_compareTo_3 18 rfl rfl)
theorem dJ25_compareTo_89 : decode cJ25_compareTo 89 = .ok (.aload_n 3, 1) := dk_45 (dk_at dksJ25_compareTo_3 19 rfl rfl)
theorem dJ25_compareTo_90 : decode cJ25_compareTo 90 = .ok (.iload 4, 2) := dk_21 4 (dk_at dksJ25_compareTo_3 20 rfl rfl)
theorem dJ25_compareTo_92 : decode cJ25_compareTo 92 = .ok (.iload 5, 2) := dk_21 5 (dk_at dksJ25_compareTo_3 22 rfl rfl)
theorem dJ25_compareTo_94 : decode cJ25_compareTo 94 = .ok (.invokestatic 97, 3) := dk_184 0 97 (dk_at dksJ25_compareTo_4 0 rfl rfl)
theorem dJ25_compareTo_97 : decode cJ25_compareTo 97 = .ok (.ireturn, 1) := dk_172 (dk_at dksJ25_compareTo_4 3 rfl rfl)
abbrev cJ25_isLatin1 : ByteArray := prog_15_method_68_code
def yJ25_isLatin1 : MethodName := ⟨RJ25, "isLatin1", "()Z"⟩
def dkwJ25_isLatin1_0 : List UInt8 := [178, 0, 18, 153, 0, 14, 42, 180, 0, 22, 154, 0, 7, 4, 167, 0, 4, 3, 172]
abbrev dktJ25_isLatin1_0 : List UInt8 := dkwJ25_isLatin1_0 ++ []
theorem dksJ25_isLatin1_0 : cJ25_isLatin1.data.toList.drop 0 = dktJ25_isLatin1_0 := by decide +kernel
theorem dJ25_isLatin1_0 : decode cJ25_isLatin1 0 = .ok (.getstatic 18, 3) := dk_178 0 18 (dk_at dksJ25_isLatin1_0 0 rfl rfl)
theorem dJ25_isLatin1_3 : decode cJ25_isLatin1 3 = .ok (.ifCond .eq 14, 3) := dk_153 0 14 (dk_at dksJ25_isLatin1_0 3 rfl rfl)
theorem dJ25_isLatin1_6 : decode cJ25_isLatin1 6 = .ok (.aload_n 0, 1) := dk_42 (dk_at dksJ25_isLatin1_0 6 rfl rfl)
theorem dJ25_isLatin1_7 : decode cJ25_isLatin1 7 = .ok (.getfield 22, 3) := dk_180 0 22 (dk_at dksJ25_isLatin1_0 7 rfl rfl)
theorem dJ25_isLatin1_10 : decode cJ25_isLatin1 10 = .ok (.ifCond .ne 7, 3) := dk_154 0 7 (dk_at dksJ25_isLatin1_0 10 rfl rfl)
theorem dJ25_isLatin1_13 : decode cJ25_isLatin1 13 = .ok (.iconst 1, 1) := dk_4 (dk_at dksJ25_isLatin1_0 13 rfl rfl)
theorem dJ25_isLatin1_14 : decode cJ25_isLatin1 14 = .ok (.goto 4, 3) := dk_167 0 4 (dk_at dksJ25_isLatin1_0 14 rfl rfl)
theorem dJ25_isLatin1_17 : decode cJ25_isLatin1 17 = .ok (.iconst 0, 1) := dk_3 (dk_at dksJ25_isLatin1_0 17 rfl rfl)
theorem dJ25_isLatin1_18 : decode cJ25_isLatin1 18 = .ok (.ireturn, 1) := dk_172 (dk_at dksJ25_isLatin1_0 18 rfl rfl)
abbrev cJ25_init : ByteArray := prog_15_method_2_code
def yJ25_init : MethodName := ⟨RJ25, "<init>", "(I)V"⟩
def dkwJ25_init_1 : List UInt8 := [167, 0, 16, 42, 27, 184, 0, 26, 181, 0, 15, 42, 4, 181, 0, 22, 177]
abbrev dktJ25_init_1 : List UInt8 := dkwJ25_init_1 ++ []
def dkwJ25_init_0 : List UInt8 := [42, 183, 0, 3, 178, 0, 18, 153, 0, 18, 42, 27, 188, 8, 181, 0, 15, 42, 3, 181, 0, 22]
abbrev dktJ25_init_0 : List UInt8 := dkwJ25_init_0 ++ dktJ25_init_1
theorem dksJ25_init_0 : cJ25_init.data.toList.drop 0 = dktJ25_init_0 := by decide +kernel
theorem dksJ25_init_1 : cJ25_init.data.toList.drop 22 = dktJ25_init_1 := dk_seg dksJ25_init_0 22 rfl rfl
theorem dJ25_init_0 : decode cJ25_init 0 = .ok (.aload_n 0, 1) := dk_42 (dk_at dksJ25_init_0 0 rfl rfl)
theorem dJ25_init_1 : decode cJ25_init 1 = .ok (.invokespecial 3, 3) := dk_183 0 3 (dk_at dksJ25_init_0 1 rfl rfl)
theorem dJ25_init_4 : decode cJ25_init 4 = .ok (.getstatic 18, 3) := dk_178 0 18 (dk_at dksJ25_init_0 4 rfl rfl)
theorem dJ25_init_7 : decode cJ25_init 7 = .ok (.ifCond .eq 18, 3) := dk_153 0 18 (dk_at dksJ25_init_0 7 rfl rfl)
theorem dJ25_init_10 : decode cJ25_init 10 = .ok (.aload_n 0, 1) := dk_42 (dk_at dksJ25_init_0 10 rfl rfl)
theorem dJ25_init_11 : decode cJ25_init 11 = .ok (.iload_n 1, 1) := dk_27 (dk_at dksJ25_init_0 11 rfl rfl)
theorem dJ25_init_12 : decode cJ25_init 12 = .ok (.newarray .byte, 2) := dk_188_8 (dk_at dksJ25_init_0 12 rfl rfl)
theorem dJ25_init_14 : decode cJ25_init 14 = .ok (.putfield 15, 3) := dk_181 0 15 (dk_at dksJ25_init_0 14 rfl rfl)
theorem dJ25_init_17 : decode cJ25_init 17 = .ok (.aload_n 0, 1) := dk_42 (dk_at dksJ25_init_0 17 rfl rfl)
theorem dJ25_init_18 : decode cJ25_init 18 = .ok (.iconst 0, 1) := dk_3 (dk_at dksJ25_init_0 18 rfl rfl)
theorem dJ25_init_19 : decode cJ25_init 19 = .ok (.putfield 22, 3) := dk_181 0 22 (dk_at dksJ25_init_0 19 rfl rfl)
theorem dJ25_init_22 : decode cJ25_init 22 = .ok (.goto 16, 3) := dk_167 0 16 (dk_at dksJ25_init_1 0 rfl rfl)
theorem dJ25_init_25 : decode cJ25_init 25 = .ok (.aload_n 0, 1) := dk_42 (dk_at dksJ25_init_1 3 rfl rfl)
theorem dJ25_init_26 : decode cJ25_init 26 = .ok (.iload_n 1, 1) := dk_27 (dk_at dksJ25_init_1 4 rfl rfl)
theorem dJ25_init_27 : decode cJ25_init 27 = .ok (.invokestatic 26, 3) := dk_184 0 26 (dk_at dksJ25_init_1 5 rfl rfl)
theorem dJ25_init_30 : decode cJ25_init 30 = .ok (.putfield 15, 3) := dk_181 0 15 (dk_at dksJ25_init_1 8 rfl rfl)
theorem dJ25_init_33 : decode cJ25_init 33 = .ok (.aload_n 0, 1) := dk_42 (dk_at dksJ25_init_1 11 rfl rfl)
theorem dJ25_init_34 : decode cJ25_init 34 = .ok (.iconst 1, 1) := dk_4 (dk_at dksJ25_init_1 12 rfl rfl)
theorem dJ25_init_35 : decode cJ25_init 35 = .ok (.putfield 22, 3) := dk_181 0 22 (dk_at dksJ25_init_1 13 rfl rfl)
theorem dJ25_init_38 : decode cJ25_init 38 = .ok (.return_, 1) := dk_177 (dk_at dksJ25_init_1 16 rfl rfl)
abbrev cJ25_length : ByteArray := prog_15_method_6_code
def yJ25_length : MethodName := ⟨RJ25, "length", "()I"⟩
theorem dJ25_length_0 : decode cJ25_length 0 = .ok (.aload_n 0, 1) := by decide +kernel
theorem dJ25_length_1 : decode cJ25_length 1 = .ok (.getfield 79, 3) := by decide +kernel
theorem dJ25_length_4 : decode cJ25_length 4 = .ok (.ireturn, 1) := by decide +kernel
abbrev cJ25_setLength : ByteArray := prog_15_method_13_code
def yJ25_setLength : MethodName := ⟨RJ25, "setLength", "(I)V"⟩
def dkwJ25_setLength_3 : List UInt8 := [164, 0, 8, 42, 4, 181, 0, 73, 42, 27, 181, 0, 79, 177]
abbrev dktJ25_setLength_3 : List UInt8 := dkwJ25_setLength_3 ++ []
def dkwJ25_setLength_2 : List UInt8 := [167, 0, 31, 42, 180, 0, 15, 42, 180, 0, 79, 27, 184, 0, 137, 167, 0, 16, 42, 180, 0, 79, 27]
abbrev dktJ25_setLength_2 : List UInt8 := dkwJ25_setLength_2 ++ dktJ25_setLength_3
def dkwJ25_setLength_1 : List UInt8 := [162, 0, 40, 42, 182, 0, 83, 153, 0, 18, 42, 180, 0, 15, 42, 180, 0, 79, 27, 184, 0, 133]
abbrev dktJ25_setLength_1 : List UInt8 := dkwJ25_setLength_1 ++ dktJ25_setLength_2
def dkwJ25_setLength_0 : List UInt8 := [27, 156, 0, 12, 187, 0, 129, 89, 27, 183, 0, 131, 191, 42, 27, 182, 0, 100, 42, 180, 0, 79, 27]
abbrev dktJ25_setLength_0 : List UInt8 := dkwJ25_setLength_0 ++ dktJ25_setLength_1
theorem dksJ25_setLength_0 : cJ25_setLength.data.toList.drop 0 = dktJ25_setLength_0 := by decide +kernel
theorem dksJ25_setLength_1 : cJ25_setLength.data.toList.drop 23 = dktJ25_setLength_1 := dk_seg dksJ25_setLength_0 23 rfl rfl
theorem dksJ25_setLength_2 : cJ25_setLength.data.toList.drop 45 = dktJ25_setLength_2 := dk_seg dksJ25_setLength_1 22 rfl rfl
theorem dksJ25_setLength_3 : cJ25_setLength.data.toList.drop 68 = dktJ25_setLength_3 := dk_seg dksJ25_setLength_2 23 rfl rfl
theorem dJ25_setLength_0 : decode cJ25_setLength 0 = .ok (.iload_n 1, 1) := dk_27 (dk_at dksJ25_setLength_0 0 rfl rfl)
theorem dJ25_setLength_1 : decode cJ25_setLength 1 = .ok (.ifCond .ge 12, 3) := dk_156 0 12 (dk_at dksJ25_setLength_0 1 rfl rfl)
theorem dJ25_setLength_4 : decode cJ25_setLength 4 = .ok (.new 129, 3) := dk_187 0 129 (dk_at dksJ25_setLength_0 4 rfl rfl)
theorem dJ25_setLength_7 : decode cJ25_setLength 7 = .ok (.dup, 1) := dk_89 (dk_at dksJ25_setLength_0 7 rfl rfl)
theorem dJ25_setLength_8 : decode cJ25_setLength 8 = .ok (.iload_n 1, 1) := dk_27 (dk_at dksJ25_setLength_0 8 rfl rfl)
theorem dJ25_setLength_9 : decode cJ25_setLength 9 = .ok (.invokespecial 131, 3) := dk_183 0 131 (dk_at dksJ25_setLength_0 9 rfl rfl)
theorem dJ25_setLength_12 : decode cJ25_setLength 12 = .ok (.athrow, 1) := dk_191 (dk_at dksJ25_setLength_0 12 rfl rfl)
theorem dJ25_setLength_13 : decode cJ25_setLength 13 = .ok (.aload_n 0, 1) := dk_42 (dk_at dksJ25_setLength_0 13 rfl rfl)
theorem dJ25_setLength_14 : decode cJ25_setLength 14 = .ok (.iload_n 1, 1) := dk_27 (dk_at dksJ25_setLength_0 14 rfl rfl)
theorem dJ25_setLength_15 : decode cJ25_setLength 15 = .ok (.invokevirtual 100, 3) := dk_182 0 100 (dk_at dksJ25_setLength_0 15 rfl rfl)
theorem dJ25_setLength_18 : decode cJ25_setLength 18 = .ok (.aload_n 0, 1) := dk_42 (dk_at dksJ25_setLength_0 18 rfl rfl)
theorem dJ25_setLength_19 : decode cJ25_setLength 19 = .ok (.getfield 79, 3) := dk_180 0 79 (dk_at dksJ25_setLength_0 19 rfl rfl)
theorem dJ25_setLength_22 : decode cJ25_setLength 22 = .ok (.iload_n 1, 1) := dk_27 (dk_at dksJ25_setLength_0 22 rfl rfl)
theorem dJ25_setLength_23 : decode cJ25_setLength 23 = .ok (.if_icmp .ge 40, 3) := dk_162 0 40 (dk_at dksJ25_setLength_1 0 rfl rfl)
theorem dJ25_setLength_26 : decode cJ25_setLength 26 = .ok (.aload_n 0, 1) := dk_42 (dk_at dksJ25_setLength_1 3 rfl rfl)
theorem dJ25_setLength_27 : decode cJ25_setLength 27 = .ok (.invokevirtual 83, 3) := dk_182 0 83 (dk_at dksJ25_setLength_1 4 rfl rfl)
theorem dJ25_setLength_30 : decode cJ25_setLength 30 = .ok (.ifCond .eq 18, 3) := dk_153 0 18 (dk_at dksJ25_setLength_1 7 rfl rfl)
theorem dJ25_setLength_33 : decode cJ25_setLength 33 = .ok (.aload_n 0, 1) := dk_42 (dk_at dksJ25_setLength_1 10 rfl rfl)
theorem dJ25_setLength_34 : decode cJ25_setLength 34 = .ok (.getfield 15, 3) := dk_180 0 15 (dk_at dksJ25_setLength_1 11 rfl rfl)
theorem dJ25_setLength_37 : decode cJ25_setLength 37 = .ok (.aload_n 0, 1) := dk_42 (dk_at dksJ25_setLength_1 14 rfl rfl)
theorem dJ25_setLength_38 : decode cJ25_setLength 38 = .ok (.getfield 79, 3) := dk_180 0 79 (dk_at dksJ25_setLength_1 15 rfl rfl)
theorem dJ25_setLength_41 : decode cJ25_setLength 41 = .ok (.iload_n 1, 1) := dk_27 (dk_at dksJ25_setLength_1 18 rfl rfl)
theorem dJ25_setLength_42 : decode cJ25_setLength 42 = .ok (.invokestatic 133, 3) := dk_184 0 133 (dk_at dksJ25_setLength_1 19 rfl rfl)
theorem dJ25_setLength_45 : decode cJ25_setLength 45 = .ok (.goto 31, 3) := dk_167 0 31 (dk_at dksJ25_setLength_2 0 rfl rfl)
theorem dJ25_setLength_48 : decode cJ25_setLength 48 = .ok (.aload_n 0, 1) := dk_42 (dk_at dksJ25_setLength_2 3 rfl rfl)
theorem dJ25_setLength_49 : decode cJ25_setLength 49 = .ok (.getfield 15, 3) := dk_180 0 15 (dk_at dksJ25_setLength_2 4 rfl rfl)
theorem dJ25_setLength_52 : decode cJ25_setLength 52 = .ok (.aload_n 0, 1) := dk_42 (dk_at dksJ25_setLength_2 7 rfl rfl)
theorem dJ25_setLength_53 : decode cJ25_setLength 53 = .ok (.getfield 79, 3) := dk_180 0 79 (dk_at dksJ25_setLength_2 8 rfl rfl)
theorem dJ25_setLength_56 : decode cJ25_setLength 56 = .ok (.iload_n 1, 1) := dk_27 (dk_at dksJ25_setLength_2 11 rfl rfl)
theorem dJ25_setLength_57 : decode cJ25_setLength 57 = .ok (.invokestatic 137, 3) := dk_184 0 137 (dk_at dksJ25_setLength_2 12 rfl rfl)
theorem dJ25_setLength_60 : decode cJ25_setLength 60 = .ok (.goto 16, 3) := dk_167 0 16 (dk_at dksJ25_setLength_2 15 rfl rfl)
theorem dJ25_setLength_63 : decode cJ25_setLength 63 = .ok (.aload_n 0, 1) := dk_42 (dk_at dksJ25_setLength_2 18 rfl rfl)
theorem dJ25_setLength_64 : decode cJ25_setLength 64 = .ok (.getfield 79, 3) := dk_180 0 79 (dk_at dksJ25_setLength_2 19 rfl rfl)
theorem dJ25_setLength_67 : decode cJ25_setLength 67 = .ok (.iload_n 1, 1) := dk_27 (dk_at dksJ25_setLength_2 22 rfl rfl)
theorem dJ25_setLength_68 : decode cJ25_setLength 68 = .ok (.if_icmp .le 8, 3) := dk_164 0 8 (dk_at dksJ25_setLength_3 0 rfl rfl)
theorem dJ25_setLength_71 : decode cJ25_setLength 71 = .ok (.aload_n 0, 1) := dk_42 (dk_at dksJ25_setLength_3 3 rfl rfl)
theorem dJ25_setLength_72 : decode cJ25_setLength 72 = .ok (.iconst 1, 1) := dk_4 (dk_at dksJ25_setLength_3 4 rfl rfl)
theorem dJ25_setLength_73 : decode cJ25_setLength 73 = .ok (.putfield 73, 3) := dk_181 0 73 (dk_at dksJ25_setLength_3 5 rfl rfl)
theorem dJ25_setLength_76 : decode cJ25_setLength 76 = .ok (.aload_n 0, 1) := dk_42 (dk_at dksJ25_setLength_3 8 rfl rfl)
theorem dJ25_setLength_77 : decode cJ25_setLength 77 = .ok (.iload_n 1, 1) := dk_27 (dk_at dksJ25_setLength_3 9 rfl rfl)
theorem dJ25_setLength_78 : decode cJ25_setLength 78 = .ok (.putfield 79, 3) := dk_181 0 79 (dk_at dksJ25_setLength_3 10 rfl rfl)
theorem dJ25_setLength_81 : decode cJ25_setLength 81 = .ok (.return_, 1) := dk_177 (dk_at dksJ25_setLength_3 13 rfl rfl)
abbrev cJ25_append : ByteArray := prog_15_method_22_code
def yJ25_append : MethodName := ⟨RJ25, "append", "(Ljava/lang/String;)Ljava/lang/AbstractStringBuilder;"⟩
def dkwJ25_append_1 : List UInt8 := [42, 42, 180, 0, 79, 43, 182, 0, 208, 42, 89, 180, 0, 79, 28, 96, 181, 0, 79, 42, 176]
abbrev dktJ25_append_1 : List UInt8 := dkwJ25_append_1 ++ []
def dkwJ25_append_0 : List UInt8 := [43, 199, 0, 8, 42, 182, 0, 204, 176, 43, 182, 0, 32, 61, 42, 42, 180, 0, 79, 28, 96, 182, 0, 100]
abbrev dktJ25_append_0 : List UInt8 := dkwJ25_append_0 ++ dktJ25_append_1
theorem dksJ25_append_0 : cJ25_append.data.toList.drop 0 = dktJ25_append_0 := by decide +kernel
theorem dksJ25_append_1 : cJ25_append.data.toList.drop 24 = dktJ25_append_1 := dk_seg dksJ25_append_0 24 rfl rfl
theorem dJ25_append_0 : decode cJ25_append 0 = .ok (.aload_n 1, 1) := dk_43 (dk_at dksJ25_append_0 0 rfl rfl)
theorem dJ25_append_1 : decode cJ25_append 1 = .ok (.ifnonnull 8, 3) := dk_199 0 8 (dk_at dksJ25_append_0 1 rfl rfl)
theorem dJ25_append_4 : decode cJ25_append 4 = .ok (.aload_n 0, 1) := dk_42 (dk_at dksJ25_append_0 4 rfl rfl)
theorem dJ25_append_5 : decode cJ25_append 5 = .ok (.invokevirtual 204, 3) := dk_182 0 204 (dk_at dksJ25_append_0 5 rfl rfl)
theorem dJ25_append_8 : decode cJ25_append 8 = .ok (.areturn, 1) := dk_176 (dk_at dksJ25_append_0 8 rfl rfl)
theorem dJ25_append_9 : decode cJ25_append 9 = .ok (.aload_n 1, 1) := dk_43 (dk_at dksJ25_append_0 9 rfl rfl)
theorem dJ25_append_10 : decode cJ25_append 10 = .ok (.invokevirtual 32, 3) := dk_182 0 32 (dk_at dksJ25_append_0 10 rfl rfl)
theorem dJ25_append_13 : decode cJ25_append 13 = .ok (.istore_n 2, 1) := dk_61 (dk_at dksJ25_append_0 13 rfl rfl)
theorem dJ25_append_14 : decode cJ25_append 14 = .ok (.aload_n 0, 1) := dk_42 (dk_at dksJ25_append_0 14 rfl rfl)
theorem dJ25_append_15 : decode cJ25_append 15 = .ok (.aload_n 0, 1) := dk_42 (dk_at dksJ25_append_0 15 rfl rfl)
theorem dJ25_append_16 : decode cJ25_append 16 = .ok (.getfield 79, 3) := dk_180 0 79 (dk_at dksJ25_append_0 16 rfl rfl)
theorem dJ25_append_19 : decode cJ25_append 19 = .ok (.iload_n 2, 1) := dk_28 (dk_at dksJ25_append_0 19 rfl rfl)
theorem dJ25_append_20 : decode cJ25_append 20 = .ok (.iadd, 1) := dk_96 (dk_at dksJ25_append_0 20 rfl rfl)
theorem dJ25_append_21 : decode cJ25_append 21 = .ok (.invokevirtual 100, 3) := dk_182 0 100 (dk_at dksJ25_append_0 21 rfl rfl)
theorem dJ25_append_24 : decode cJ25_append 24 = .ok (.aload_n 0, 1) := dk_42 (dk_at dksJ25_append_1 0 rfl rfl)
theorem dJ25_append_25 : decode cJ25_append 25 = .ok (.aload_n 0, 1) := dk_42 (dk_at dksJ25_append_1 1 rfl rfl)
theorem dJ25_append_26 : decode cJ25_append 26 = .ok (.getfield 79, 3) := dk_180 0 79 (dk_at dksJ25_append_1 2 rfl rfl)
theorem dJ25_append_29 : decode cJ25_append 29 = .ok (.aload_n 1, 1) := dk_43 (dk_at dksJ25_append_1 5 rfl rfl)
theorem dJ25_append_30 : decode cJ25_append 30 = .ok (.invokevirtual 208, 3) := dk_182 0 208 (dk_at dksJ25_append_1 6 rfl rfl)
theorem dJ25_append_33 : decode cJ25_append 33 = .ok (.aload_n 0, 1) := dk_42 (dk_at dksJ25_append_1 9 rfl rfl)
theorem dJ25_append_34 : decode cJ25_append 34 = .ok (.dup, 1) := dk_89 (dk_at dksJ25_append_1 10 rfl rfl)
theorem dJ25_append_35 : decode cJ25_append 35 = .ok (.getfield 79, 3) := dk_180 0 79 (dk_at dksJ25_append_1 11 rfl rfl)
theorem dJ25_append_38 : decode cJ25_append 38 = .ok (.iload_n 2, 1) := dk_28 (dk_at dksJ25_append_1 14 rfl rfl)
theorem dJ25_append_39 : decode cJ25_append 39 = .ok (.iadd, 1) := dk_96 (dk_at dksJ25_append_1 15 rfl rfl)
theorem dJ25_append_40 : decode cJ25_append 40 = .ok (.putfield 79, 3) := dk_181 0 79 (dk_at dksJ25_append_1 16 rfl rfl)
theorem dJ25_append_43 : decode cJ25_append 43 = .ok (.aload_n 0, 1) := dk_42 (dk_at dksJ25_append_1 19 rfl rfl)
theorem dJ25_append_44 : decode cJ25_append 44 = .ok (.areturn, 1) := dk_176 (dk_at dksJ25_append_1 20 rfl rfl)
abbrev cJ25_appendNull : ByteArray := prog_15_method_26_code
def yJ25_appendNull : MethodName := ⟨RJ25, "appendNull", "()Ljava/lang/AbstractStringBuilder;"⟩
def dkwJ25_appendNull_3 : List UInt8 := [184, 0, 226, 60, 42, 27, 181, 0, 79, 42, 176]
abbrev dktJ25_appendNull_3 : List UInt8 := dkwJ25_appendNull_3 ++ []
def dkwJ25_appendNull_2 : List UInt8 := [16, 108, 84, 44, 27, 132, 1, 1, 16, 108, 84, 167, 0, 17, 44, 27, 16, 110, 16, 117, 16, 108, 16, 108]
abbrev dktJ25_appendNull_2 : List UInt8 := dkwJ25_appendNull_2 ++ dktJ25_appendNull_3
def dkwJ25_appendNull_1 : List UInt8 := [153, 0, 38, 44, 27, 132, 1, 1, 16, 110, 84, 44, 27, 132, 1, 1, 16, 117, 84, 44, 27, 132, 1, 1]
abbrev dktJ25_appendNull_1 : List UInt8 := dkwJ25_appendNull_1 ++ dktJ25_appendNull_2
def dkwJ25_appendNull_0 : List UInt8 := [42, 42, 180, 0, 79, 7, 96, 182, 0, 100, 42, 180, 0, 79, 60, 42, 180, 0, 15, 77, 42, 182, 0, 83]
abbrev dktJ25_appendNull_0 : List UInt8 := dkwJ25_appendNull_0 ++ dktJ25_appendNull_1
theorem dksJ25_appendNull_0 : cJ25_appendNull.data.toList.drop 0 = dktJ25_appendNull_0 := by decide +kernel
theorem dksJ25_appendNull_1 : cJ25_appendNull.data.toList.drop 24 = dktJ25_appendNull_1 := dk_seg dksJ25_appendNull_0 24 rfl rfl
theorem dksJ25_appendNull_2 : cJ25_appendNull.data.toList.drop 48 = dktJ25_appendNull_2 := dk_seg dksJ25_appendNull_1 24 rfl rfl
theorem dksJ25_appendNull_3 : cJ25_appendNull.data.toList.drop 72 = dktJ25_appendNull_3 := dk_seg dksJ25_appendNull_2 24 rfl rfl
theorem dJ25_appendNull_0 : decode cJ25_appendNull 0 = .ok (.aload_n 0, 1) := dk_42 (dk_at dksJ25_appendNull_0 0 rfl rfl)
theorem dJ25_appendNull_1 : decode cJ25_appendNull 1 = .ok (.aload_n 0, 1) := dk_42 (dk_at dksJ25_appendNull_0 1 rfl rfl)
theorem dJ25_appendNull_2 : decode cJ25_appendNull 2 = .ok (.getfield 79, 3) := dk_180 0 79 (dk_at dksJ25_appendNull_0 2 rfl rfl)
theorem dJ25_appendNull_5 : decode cJ25_appendNull 5 = .ok (.iconst 4, 1) := dk_7 (dk_at dksJ25_appendNull_0 5 rfl rfl)
theorem dJ25_appendNull_6 : decode cJ25_appendNull 6 = .ok (.iadd, 1) := dk_96 (dk_at dksJ25_appendNull_0 6 rfl rfl)
theorem dJ25_appendNull_7 : decode cJ25_appendNull 7 = .ok (.invokevirtual 100, 3) := dk_182 0 100 (dk_at dksJ25_appendNull_0 7 rfl rfl)
theorem dJ25_appendNull_10 : decode cJ25_appendNull 10 = .ok (.aload_n 0, 1) := dk_42 (dk_at dksJ25_appendNull_0 10 rfl rfl)
theorem dJ25_appendNull_11 : decode cJ25_appendNull 11 = .ok (.getfield 79, 3) := dk_180 0 79 (dk_at dksJ25_appendNull_0 11 rfl rfl)
theorem dJ25_appendNull_14 : decode cJ25_appendNull 14 = .ok (.istore_n 1, 1) := dk_60 (dk_at dksJ25_appendNull_0 14 rfl rfl)
theorem dJ25_appendNull_15 : decode cJ25_appendNull 15 = .ok (.aload_n 0, 1) := dk_42 (dk_at dksJ25_appendNull_0 15 rfl rfl)
theorem dJ25_appendNull_16 : decode cJ25_appendNull 16 = .ok (.getfield 15, 3) := dk_180 0 15 (dk_at dksJ25_appendNull_0 16 rfl rfl)
theorem dJ25_appendNull_19 : decode cJ25_appendNull 19 = .ok (.astore_n 2, 1) := dk_77 (dk_at dksJ25_appendNull_0 19 rfl rfl)
theorem dJ25_appendNull_20 : decode cJ25_appendNull 20 = .ok (.aload_n 0, 1) := dk_42 (dk_at dksJ25_appendNull_0 20 rfl rfl)
theorem dJ25_appendNull_21 : decode cJ25_appendNull 21 = .ok (.invokevirtual 83, 3) := dk_182 0 83 (dk_at dksJ25_appendNull_0 21 rfl rfl)
theorem dJ25_appendNull_24 : decode cJ25_appendNull 24 = .ok (.ifCond .eq 38, 3) := dk_153 0 38 (dk_at dksJ25_appendNull_1 0 rfl rfl)
theorem dJ25_appendNull_27 : decode cJ25_appendNull 27 = .ok (.aload_n 2, 1) := dk_44 (dk_at dksJ25_appendNull_1 3 rfl rfl)
theorem dJ25_appendNull_28 : decode cJ25_appendNull 28 = .ok (.iload_n 1, 1) := dk_27 (dk_at dksJ25_appendNull_1 4 rfl rfl)
theorem dJ25_appendNull_29 : decode cJ25_appendNull 29 = .ok (.iinc 1 1, 3) := dk_132 1 1 (dk_at dksJ25_appendNull_1 5 rfl rfl)
theorem dJ25_appendNull_32 : decode cJ25_appendNull 32 = .ok (.bipush 110, 2) := dk_16 110 (dk_at dksJ25_appendNull_1 8 rfl rfl)
theorem dJ25_appendNull_34 : decode cJ25_appendNull 34 = .ok (.bastore, 1) := dk_84 (dk_at dksJ25_appendNull_1 10 rfl rfl)
theorem dJ25_appendNull_35 : decode cJ25_appendNull 35 = .ok (.aload_n 2, 1) := dk_44 (dk_at dksJ25_appendNull_1 11 rfl rfl)
theorem dJ25_appendNull_36 : decode cJ25_appendNull 36 = .ok (.iload_n 1, 1) := dk_27 (dk_at dksJ25_appendNull_1 12 rfl rfl)
theorem dJ25_appendNull_37 : decode cJ25_appendNull 37 = .ok (.iinc 1 1, 3) := dk_132 1 1 (dk_at dksJ25_appendNull_1 13 rfl rfl)
theorem dJ25_appendNull_40 : decode cJ25_appendNull 40 = .ok (.bipush 117, 2) := dk_16 117 (dk_at dksJ25_appendNull_1 16 rfl rfl)
theorem dJ25_appendNull_42 : decode cJ25_appendNull 42 = .ok (.bastore, 1) := dk_84 (dk_at dksJ25_appendNull_1 18 rfl rfl)
theorem dJ25_appendNull_43 : decode cJ25_appendNull 43 = .ok (.aload_n 2, 1) := dk_44 (dk_at dksJ25_appendNull_1 19 rfl rfl)
theorem dJ25_appendNull_44 : decode cJ25_appendNull 44 = .ok (.iload_n 1, 1) := dk_27 (dk_at dksJ25_appendNull_1 20 rfl rfl)
theorem dJ25_appendNull_45 : decode cJ25_appendNull 45 = .ok (.iinc 1 1, 3) := dk_132 1 1 (dk_at dksJ25_appendNull_1 21 rfl rfl)
theorem dJ25_appendNull_48 : decode cJ25_appendNull 48 = .ok (.bipush 108, 2) := dk_16 108 (dk_at dksJ25_appendNull_2 0 rfl rfl)
theorem dJ25_appendNull_50 : decode cJ25_appendNull 50 = .ok (.bastore, 1) := dk_84 (dk_at dksJ25_appendNull_2 2 rfl rfl)
theorem dJ25_appendNull_51 : decode cJ25_appendNull 51 = .ok (.aload_n 2, 1) := dk_44 (dk_at dksJ25_appendNull_2 3 rfl rfl)
theorem dJ25_appendNull_52 : decode cJ25_appendNull 52 = .ok (.iload_n 1, 1) := dk_27 (dk_at dksJ25_appendNull_2 4 rfl rfl)
theorem dJ25_appendNull_53 : decode cJ25_appendNull 53 = .ok (.iinc 1 1, 3) := dk_132 1 1 (dk_at dksJ25_appendNull_2 5 rfl rfl)
theorem dJ25_appendNull_56 : decode cJ25_appendNull 56 = .ok (.bipush 108, 2) := dk_16 108 (dk_at dksJ25_appendNull_2 8 rfl rfl)
theorem dJ25_appendNull_58 : decode cJ25_appendNull 58 = .ok (.bastore, 1) := dk_84 (dk_at dksJ25_appendNull_2 10 rfl rfl)
theorem dJ25_appendNull_59 : decode cJ25_appendNull 59 = .ok (.goto 17, 3) := dk_167 0 17 (dk_at dksJ25_appendNull_2 11 rfl rfl)
theorem dJ25_appendNull_62 : decode cJ25_appendNull 62 = .ok (.aload_n 2, 1) := dk_44 (dk_at dksJ25_appendNull_2 14 rfl rfl)
theorem dJ25_appendNull_63 : decode cJ25_appendNull 63 = .ok (.iload_n 1, 1) := dk_27 (dk_at dksJ25_appendNull_2 15 rfl rfl)
theorem dJ25_appendNull_64 : decode cJ25_appendNull 64 = .ok (.bipush 110, 2) := dk_16 110 (dk_at dksJ25_appendNull_2 16 rfl rfl)
theorem dJ25_appendNull_66 : decode cJ25_appendNull 66 = .ok (.bipush 117, 2) := dk_16 117 (dk_at dksJ25_appendNull_2 18 rfl rfl)
theorem dJ25_appendNull_68 : decode cJ25_appendNull 68 = .ok (.bipush 108, 2) := dk_16 108 (dk_at dksJ25_appendNull_2 20 rfl rfl)
theorem dJ25_appendNull_70 : decode cJ25_appendNull 70 = .ok (.bipush 108, 2) := dk_16 108 (dk_at dksJ25_appendNull_2 22 rfl rfl)
theorem dJ25_appendNull_72 : decode cJ25_appendNull 72 = .ok (.invokestatic 226, 3) := dk_184 0 226 (dk_at dksJ25_appendNull_3 0 rfl rfl)
theorem dJ25_appendNull_75 : decode cJ25_appendNull 75 = .ok (.istore_n 1, 1) := dk_60 (dk_at dksJ25_appendNull_3 3 rfl rfl)
theorem dJ25_appendNull_76 : decode cJ25_appendNull 76 = .ok (.aload_n 0, 1) := dk_42 (dk_at dksJ25_appendNull_3 4 rfl rfl)
theorem dJ25_appendNull_77 : decode cJ25_appendNull 77 = .ok (.iload_n 1, 1) := dk_27 (dk_at dksJ25_appendNull_3 5 rfl rfl)
theorem dJ25_appendNull_78 : decode cJ25_appendNull 78 = .ok (.putfield 79, 3) := dk_181 0 79 (dk_at dksJ25_appendNull_3 6 rfl rfl)
theorem dJ25_appendNull_81 : decode cJ25_appendNull 81 = .ok (.aload_n 0, 1) := dk_42 (dk_at dksJ25_appendNull_3 9 rfl rfl)
theorem dJ25_appendNull_82 : decode cJ25_appendNull 82 = .ok (.areturn, 1) := dk_176 (dk_at dksJ25_appendNull_3 10 rfl rfl)
abbrev cJ25_ensureCapacityInternal : ByteArray := prog_15_method_9_code
def yJ25_ensureCapacityInternal : MethodName := ⟨RJ25, "ensureCapacityInternal", "(I)V"⟩
def dkwJ25_ensureCapacityInternal_1 : List UInt8 := [182, 0, 104, 42, 180, 0, 22, 120, 184, 0, 108, 181, 0, 15, 177]
abbrev dktJ25_ensureCapacityInternal_1 : List UInt8 := dkwJ25_ensureCapacityInternal_1 ++ []
def dkwJ25_ensureCapacityInternal_0 : List UInt8 := [42, 180, 0, 15, 190, 42, 180, 0, 22, 122, 61, 27, 28, 100, 158, 0, 24, 42, 42, 180, 0, 15, 42, 27]
abbrev dktJ25_ensureCapacityInternal_0 : List UInt8 := dkwJ25_ensureCapacityInternal_0 ++ dktJ25_ensureCapacityInternal_1
theorem dksJ25_ensureCapacityInternal_0 : cJ25_ensureCapacityInternal.data.toList.drop 0 = dktJ25_ensureCapacityInternal_0 := by decide +kernel
theorem dksJ25_ensureCapacityInternal_1 : cJ25_ensureCapacityInternal.data.toList.drop 24 = dktJ25_ensureCapacityInternal_1 := dk_seg dksJ25_ensureCapacityInternal_0 24 rfl rfl
theorem dJ25_ensureCapacityInternal_0 : decode cJ25_ensureCapacityInternal 0 = .ok (.aload_n 0, 1) := dk_42 (dk_at dksJ25_ensureCapacityInternal_0 0 rfl rfl)
theorem dJ25_ensureCapacityInternal_1 : decode cJ25_ensureCapacityInternal 1 = .ok (.getfield 15, 3) := dk_180 0 15 (dk_at dksJ25_ensureCapacityInternal_0 1 rfl rfl)
theorem dJ25_ensureCapacityInternal_4 : decode cJ25_ensureCapacityInternal 4 = .ok (.arraylength, 1) := dk_190 (dk_at dksJ25_ensureCapacityInternal_0 4 rfl rfl)
theorem dJ25_ensureCapacityInternal_5 : decode cJ25_ensureCapacityInternal 5 = .ok (.aload_n 0, 1) := dk_42 (dk_at dksJ25_ensureCapacityInternal_0 5 rfl rfl)
theorem dJ25_ensureCapacityInternal_6 : decode cJ25_ensureCapacityInternal 6 = .ok (.getfield 22, 3) := dk_180 0 22 (dk_at dksJ25_ensureCapacityInternal_0 6 rfl rfl)
theorem dJ25_ensureCapacityInternal_9 : decode cJ25_ensureCapacityInternal 9 = .ok (.ishr, 1) := dk_122 (dk_at dksJ25_ensureCapacityInternal_0 9 rfl rfl)
theorem dJ25_ensureCapacityInternal_10 : decode cJ25_ensureCapacityInternal 10 = .ok (.istore_n 2, 1) := dk_61 (dk_at dksJ25_ensureCapacityInternal_0 10 rfl rfl)
theorem dJ25_ensureCapacityInternal_11 : decode cJ25_ensureCapacityInternal 11 = .ok (.iload_n 1, 1) := dk_27 (dk_at dksJ25_ensureCapacityInternal_0 11 rfl rfl)
theorem dJ25_ensureCapacityInternal_12 : decode cJ25_ensureCapacityInternal 12 = .ok (.iload_n 2, 1) := dk_28 (dk_at dksJ25_ensureCapacityInternal_0 12 rfl rfl)
theorem dJ25_ensureCapacityInternal_13 : decode cJ25_ensureCapacityInternal 13 = .ok (.isub, 1) := dk_100 (dk_at dksJ25_ensureCapacityInternal_0 13 rfl rfl)
theorem dJ25_ensureCapacityInternal_14 : decode cJ25_ensureCapacityInternal 14 = .ok (.ifCond .le 24, 3) := dk_158 0 24 (dk_at dksJ25_ensureCapacityInternal_0 14 rfl rfl)
theorem dJ25_ensureCapacityInternal_17 : decode cJ25_ensureCapacityInternal 17 = .ok (.aload_n 0, 1) := dk_42 (dk_at dksJ25_ensureCapacityInternal_0 17 rfl rfl)
theorem dJ25_ensureCapacityInternal_18 : decode cJ25_ensureCapacityInternal 18 = .ok (.aload_n 0, 1) := dk_42 (dk_at dksJ25_ensureCapacityInternal_0 18 rfl rfl)
theorem dJ25_ensureCapacityInternal_19 : decode cJ25_ensureCapacityInternal 19 = .ok (.getfield 15, 3) := dk_180 0 15 (dk_at dksJ25_ensureCapacityInternal_0 19 rfl rfl)
theorem dJ25_ensureCapacityInternal_22 : decode cJ25_ensureCapacityInternal 22 = .ok (.aload_n 0, 1) := dk_42 (dk_at dksJ25_ensureCapacityInternal_0 22 rfl rfl)
theorem dJ25_ensureCapacityInternal_23 : decode cJ25_ensureCapacityInternal 23 = .ok (.iload_n 1, 1) := dk_27 (dk_at dksJ25_ensureCapacityInternal_0 23 rfl rfl)
theorem dJ25_ensureCapacityInternal_24 : decode cJ25_ensureCapacityInternal 24 = .ok (.invokevirtual 104, 3) := dk_182 0 104 (dk_at dksJ25_ensureCapacityInternal_1 0 rfl rfl)
theorem dJ25_ensureCapacityInternal_27 : decode cJ25_ensureCapacityInternal 27 = .ok (.aload_n 0, 1) := dk_42 (dk_at dksJ25_ensureCapacityInternal_1 3 rfl rfl)
theorem dJ25_ensureCapacityInternal_28 : decode cJ25_ensureCapacityInternal 28 = .ok (.getfield 22, 3) := dk_180 0 22 (dk_at dksJ25_ensureCapacityInternal_1 4 rfl rfl)
theorem dJ25_ensureCapacityInternal_31 : decode cJ25_ensureCapacityInternal 31 = .ok (.ishl, 1) := dk_120 (dk_at dksJ25_ensureCapacityInternal_1 7 rfl rfl)
theorem dJ25_ensureCapacityInternal_32 : decode cJ25_ensureCapacityInternal 32 = .ok (.invokestatic 108, 3) := dk_184 0 108 (dk_at dksJ25_ensureCapacityInternal_1 8 rfl rfl)
theorem dJ25_ensureCapacityInternal_35 : decode cJ25_ensureCapacityInternal 35 = .ok (.putfield 15, 3) := dk_181 0 15 (dk_at dksJ25_ensureCapacityInternal_1 11 rfl rfl)
theorem dJ25_ensureCapacityInternal_38 : decode cJ25_ensureCapacityInternal 38 = .ok (.return_, 1) := dk_177 (dk_at dksJ25_ensureCapacityInternal_1 14 rfl rfl)
abbrev cJ25_newCapacity : ByteArray := prog_15_method_10_code
def yJ25_newCapacity : MethodName := ⟨RJ25, "newCapacity", "(I)I"⟩
def dkwJ25_newCapacity_2 : List UInt8 := [183, 0, 124, 191, 21, 5, 42, 180, 0, 22, 122, 172]
abbrev dktJ25_newCapacity_2 : List UInt8 := dkwJ25_newCapacity_2 ++ []
def dkwJ25_newCapacity_1 : List UInt8 := [180, 0, 22, 120, 96, 184, 0, 114, 54, 5, 21, 5, 18, 39, 160, 0, 13, 187, 0, 120, 89, 18, 122]
abbrev dktJ25_newCapacity_1 : List UInt8 := dkwJ25_newCapacity_1 ++ dktJ25_newCapacity_2
def dkwJ25_newCapacity_0 : List UInt8 := [42, 180, 0, 15, 190, 61, 27, 42, 180, 0, 22, 120, 62, 29, 28, 100, 54, 4, 28, 21, 4, 28, 5, 42]
abbrev dktJ25_newCapacity_0 : List UInt8 := dkwJ25_newCapacity_0 ++ dktJ25_newCapacity_1
theorem dksJ25_newCapacity_0 : cJ25_newCapacity.data.toList.drop 0 = dktJ25_newCapacity_0 := by decide +kernel
theorem dksJ25_newCapacity_1 : cJ25_newCapacity.data.toList.drop 24 = dktJ25_newCapacity_1 := dk_seg dksJ25_newCapacity_0 24 rfl rfl
theorem dksJ25_newCapacity_2 : cJ25_newCapacity.data.toList.drop 47 = dktJ25_newCapacity_2 := dk_seg dksJ25_newCapacity_1 23 rfl rfl
theorem dJ25_newCapacity_0 : decode cJ25_newCapacity 0 = .ok (.aload_n 0, 1) := dk_42 (dk_at dksJ25_newCapacity_0 0 rfl rfl)
theorem dJ25_newCapacity_1 : decode cJ25_newCapacity 1 = .ok (.getfield 15, 3) := dk_180 0 15 (dk_at dksJ25_newCapacity_0 1 rfl rfl)
theorem dJ25_newCapacity_4 : decode cJ25_newCapacity 4 = .ok (.arraylength, 1) := dk_190 (dk_at dksJ25_newCapacity_0 4 rfl rfl)
theorem dJ25_newCapacity_5 : decode cJ25_newCapacity 5 = .ok (.istore_n 2, 1) := dk_61 (dk_at dksJ25_newCapacity_0 5 rfl rfl)
theorem dJ25_newCapacity_6 : decode cJ25_newCapacity 6 = .ok (.iload_n 1, 1) := dk_27 (dk_at dksJ25_newCapacity_0 6 rfl rfl)
theorem dJ25_newCapacity_7 : decode cJ25_newCapacity 7 = .ok (.aload_n 0, 1) := dk_42 (dk_at dksJ25_newCapacity_0 7 rfl rfl)
theorem dJ25_newCapacity_8 : decode cJ25_newCapacity 8 = .ok (.getfield 22, 3) := dk_180 0 22 (dk_at dksJ25_newCapacity_0 8 rfl rfl)
theorem dJ25_newCapacity_11 : decode cJ25_newCapacity 11 = .ok (.ishl, 1) := dk_120 (dk_at dksJ25_newCapacity_0 11 rfl rfl)
theorem dJ25_newCapacity_12 : decode cJ25_newCapacity 12 = .ok (.istore_n 3, 1) := dk_62 (dk_at dksJ25_newCapacity_0 12 rfl rfl)
theorem dJ25_newCapacity_13 : decode cJ25_newCapacity 13 = .ok (.iload_n 3, 1) := dk_29 (dk_at dksJ25_newCapacity_0 13 rfl rfl)
theorem dJ25_newCapacity_14 : decode cJ25_newCapacity 14 = .ok (.iload_n 2, 1) := dk_28 (dk_at dksJ25_newCapacity_0 14 rfl rfl)
theorem dJ25_newCapacity_15 : decode cJ25_newCapacity 15 = .ok (.isub, 1) := dk_100 (dk_at dksJ25_newCapacity_0 15 rfl rfl)
theorem dJ25_newCapacity_16 : decode cJ25_newCapacity 16 = .ok (.istore 4, 2) := dk_54 4 (dk_at dksJ25_newCapacity_0 16 rfl rfl)
theorem dJ25_newCapacity_18 : decode cJ25_newCapacity 18 = .ok (.iload_n 2, 1) := dk_28 (dk_at dksJ25_newCapacity_0 18 rfl rfl)
theorem dJ25_newCapacity_19 : decode cJ25_newCapacity 19 = .ok (.iload 4, 2) := dk_21 4 (dk_at dksJ25_newCapacity_0 19 rfl rfl)
theorem dJ25_newCapacity_21 : decode cJ25_newCapacity 21 = .ok (.iload_n 2, 1) := dk_28 (dk_at dksJ25_newCapacity_0 21 rfl rfl)
theorem dJ25_newCapacity_22 : decode cJ25_newCapacity 22 = .ok (.iconst 2, 1) := dk_5 (dk_at dksJ25_newCapacity_0 22 rfl rfl)
theorem dJ25_newCapacity_23 : decode cJ25_newCapacity 23 = .ok (.aload_n 0, 1) := dk_42 (dk_at dksJ25_newCapacity_0 23 rfl rfl)
theorem dJ25_newCapacity_24 : decode cJ25_newCapacity 24 = .ok (.getfield 22, 3) := dk_180 0 22 (dk_at dksJ25_newCapacity_1 0 rfl rfl)
theorem dJ25_newCapacity_27 : decode cJ25_newCapacity 27 = .ok (.ishl, 1) := dk_120 (dk_at dksJ25_newCapacity_1 3 rfl rfl)
theorem dJ25_newCapacity_28 : decode cJ25_newCapacity 28 = .ok (.iadd, 1) := dk_96 (dk_at dksJ25_newCapacity_1 4 rfl rfl)
theorem dJ25_newCapacity_29 : decode cJ25_newCapacity 29 = .ok (.invokestatic 114, 3) := dk_184 0 114 (dk_at dksJ25_newCapacity_1 5 rfl rfl)
theorem dJ25_newCapacity_32 : decode cJ25_newCapacity 32 = .ok (.istore 5, 2) := dk_54 5 (dk_at dksJ25_newCapacity_1 8 rfl rfl)
theorem dJ25_newCapacity_34 : decode cJ25_newCapacity 34 = .ok (.iload 5, 2) := dk_21 5 (dk_at dksJ25_newCapacity_1 10 rfl rfl)
theorem dJ25_newCapacity_36 : decode cJ25_newCapacity 36 = .ok (.ldc 39, 2) := dk_18 39 (dk_at dksJ25_newCapacity_1 12 rfl rfl)
theorem dJ25_newCapacity_38 : decode cJ25_newCapacity 38 = .ok (.if_icmp .ne 13, 3) := dk_160 0 13 (dk_at dksJ25_newCapacity_1 14 rfl rfl)
theorem dJ25_newCapacity_41 : decode cJ25_newCapacity 41 = .ok (.new 120, 3) := dk_187 0 120 (dk_at dksJ25_newCapacity_1 17 rfl rfl)
theorem dJ25_newCapacity_44 : decode cJ25_newCapacity 44 = .ok (.dup, 1) := dk_89 (dk_at dksJ25_newCapacity_1 20 rfl rfl)
theorem dJ25_newCapacity_45 : decode cJ25_newCapacity 45 = .ok (.ldc 122, 2) := dk_18 122 (dk_at dksJ25_newCapacity_1 21 rfl rfl)
theorem dJ25_newCapacity_47 : decode cJ25_newCapacity 47 = .ok (.invokespecial 124, 3) := dk_183 0 124 (dk_at dksJ25_newCapacity_2 0 rfl rfl)
theorem dJ25_newCapacity_50 : decode cJ25_newCapacity 50 = .ok (.athrow, 1) := dk_191 (dk_at dksJ25_newCapacity_2 3 rfl rfl)
theorem dJ25_newCapacity_51 : decode cJ25_newCapacity 51 = .ok (.iload 5, 2) := dk_21 5 (dk_at dksJ25_newCapacity_2 4 rfl rfl)
theorem dJ25_newCapacity_53 : decode cJ25_newCapacity 53 = .ok (.aload_n 0, 1) := dk_42 (dk_at dksJ25_newCapacity_2 6 rfl rfl)
theorem dJ25_newCapacity_54 : decode cJ25_newCapacity 54 = .ok (.getfield 22, 3) := dk_180 0 22 (dk_at dksJ25_newCapacity_2 7 rfl rfl)
theorem dJ25_newCapacity_57 : decode cJ25_newCapacity 57 = .ok (.ishr, 1) := dk_122 (dk_at dksJ25_newCapacity_2 10 rfl rfl)
theorem dJ25_newCapacity_58 : decode cJ25_newCapacity 58 = .ok (.ireturn, 1) := dk_172 (dk_at dksJ25_newCapacity_2 11 rfl rfl)
abbrev cJ25_putStringAt : ByteArray := prog_15_method_73_code
def yJ25_putStringAt : MethodName := ⟨RJ25, "putStringAt", "(ILjava/lang/String;)V"⟩
def dkwJ25_putStringAt_0 : List UInt8 := [42, 44, 182, 1, 141, 44, 42, 180, 0, 15, 27, 42, 180, 0, 22, 182, 1, 143, 177]
abbrev dktJ25_putStringAt_0 : List UInt8 := dkwJ25_putStringAt_0 ++ []
theorem dksJ25_putStringAt_0 : cJ25_putStringAt.data.toList.drop 0 = dktJ25_putStringAt_0 := by decide +kernel
theorem dJ25_putStringAt_0 : decode cJ25_putStringAt 0 = .ok (.aload_n 0, 1) := dk_42 (dk_at dksJ25_putStringAt_0 0 rfl rfl)
theorem dJ25_putStringAt_1 : decode cJ25_putStringAt 1 = .ok (.aload_n 2, 1) := dk_44 (dk_at dksJ25_putStringAt_0 1 rfl rfl)
theorem dJ25_putStringAt_2 : decode cJ25_putStringAt 2 = .ok (.invokevirtual 397, 3) := dk_182 1 141 (dk_at dksJ25_putStringAt_0 2 rfl rfl)
theorem dJ25_putStringAt_5 : decode cJ25_putStringAt 5 = .ok (.aload_n 2, 1) := dk_44 (dk_at dksJ25_putStringAt_0 5 rfl rfl)
theorem dJ25_putStringAt_6 : decode cJ25_putStringAt 6 = .ok (.aload_n 0, 1) := dk_42 (dk_at dksJ25_putStringAt_0 6 rfl rfl)
theorem dJ25_putStringAt_7 : decode cJ25_putStringAt 7 = .ok (.getfield 15, 3) := dk_180 0 15 (dk_at dksJ25_putStringAt_0 7 rfl rfl)
theorem dJ25_putStringAt_10 : decode cJ25_putStringAt 10 = .ok (.iload_n 1, 1) := dk_27 (dk_at dksJ25_putStringAt_0 10 rfl rfl)
theorem dJ25_putStringAt_11 : decode cJ25_putStringAt 11 = .ok (.aload_n 0, 1) := dk_42 (dk_at dksJ25_putStringAt_0 11 rfl rfl)
theorem dJ25_putStringAt_12 : decode cJ25_putStringAt 12 = .ok (.getfield 22, 3) := dk_180 0 22 (dk_at dksJ25_putStringAt_0 12 rfl rfl)
theorem dJ25_putStringAt_15 : decode cJ25_putStringAt 15 = .ok (.invokevirtual 399, 3) := dk_182 1 143 (dk_at dksJ25_putStringAt_0 15 rfl rfl)
theorem dJ25_putStringAt_18 : decode cJ25_putStringAt 18 = .ok (.return_, 1) := dk_177 (dk_at dksJ25_putStringAt_0 18 rfl rfl)
abbrev cJ25_inflateIfNeededFor : ByteArray := prog_15_method_71_code
def yJ25_inflateIfNeededFor : MethodName := ⟨RJ25, "inflateIfNeededFor", "(Ljava/lang/String;)V"⟩
def dkwJ25_inflateIfNeededFor_0 : List UInt8 := [178, 0, 18, 153, 0, 18, 42, 180, 0, 22, 43, 182, 0, 40, 159, 0, 7, 42, 182, 0, 195, 177]
abbrev dktJ25_inflateIfNeededFor_0 : List UInt8 := dkwJ25_inflateIfNeededFor_0 ++ []
theorem dksJ25_inflateIfNeededFor_0 : cJ25_inflateIfNeededFor.data.toList.drop 0 = dktJ25_inflateIfNeededFor_0 := by decide +kernel
theorem dJ25_inflateIfNeededFor_0 : decode cJ25_inflateIfNeededFor 0 = .ok (.getstatic 18, 3) := dk_178 0 18 (dk_at dksJ25_inflateIfNeededFor_0 0 rfl rfl)
theorem dJ25_inflateIfNeededFor_3 : decode cJ25_inflateIfNeededFor 3 = .ok (.ifCond .eq 18, 3) := dk_153 0 18 (dk_at dksJ25_inflateIfNeededFor_0 3 rfl rfl)
theorem dJ25_inflateIfNeededFor_6 : decode cJ25_inflateIfNeededFor 6 = .ok (.aload_n 0, 1) := dk_42 (dk_at dksJ25_inflateIfNeededFor_0 6 rfl rfl)
theorem dJ25_inflateIfNeededFor_7 : decode cJ25_inflateIfNeededFor 7 = .ok (.getfield 22, 3) := dk_180 0 22 (dk_at dksJ25_inflateIfNeededFor_0 7 rfl rfl)
theorem dJ25_inflateIfNeededFor_10 : decode cJ25_inflateIfNeededFor 10 = .ok (.aload_n 1, 1) := dk_43 (dk_at dksJ25_inflateIfNeededFor_0 10 rfl rfl)
theorem dJ25_inflateIfNeededFor_11 : decode cJ25_inflateIfNeededFor 11 = .ok (.invokevirtual 40, 3) := dk_182 0 40 (dk_at dksJ25_inflateIfNeededFor_0 11 rfl rfl)
theorem dJ25_inflateIfNeededFor_14 : decode cJ25_inflateIfNeededFor 14 = .ok (.if_icmp .eq 7, 3) := dk_159 0 7 (dk_at dksJ25_inflateIfNeededFor_0 14 rfl rfl)
theorem dJ25_inflateIfNeededFor_17 : decode cJ25_inflateIfNeededFor 17 = .ok (.aload_n 0, 1) := dk_42 (dk_at dksJ25_inflateIfNeededFor_0 17 rfl rfl)
theorem dJ25_inflateIfNeededFor_18 : decode cJ25_inflateIfNeededFor 18 = .ok (.invokevirtual 195, 3) := dk_182 0 195 (dk_at dksJ25_inflateIfNeededFor_0 18 rfl rfl)
theorem dJ25_inflateIfNeededFor_21 : decode cJ25_inflateIfNeededFor 21 = .ok (.return_, 1) := dk_177 (dk_at dksJ25_inflateIfNeededFor_0 21 rfl rfl)
abbrev cJ25_inflate : ByteArray := prog_15_method_11_code
def yJ25_inflate : MethodName := ⟨RJ25, "inflate", "()V"⟩
def dkwJ25_inflate_1 : List UInt8 := [42, 180, 0, 79, 184, 0, 125, 42, 43, 181, 0, 15, 42, 4, 181, 0, 22, 177]
abbrev dktJ25_inflate_1 : List UInt8 := dkwJ25_inflate_1 ++ []
def dkwJ25_inflate_0 : List UInt8 := [42, 182, 0, 83, 154, 0, 4, 177, 42, 180, 0, 15, 190, 184, 0, 26, 76, 42, 180, 0, 15, 3, 43, 3]
abbrev dktJ25_inflate_0 : List UInt8 := dkwJ25_inflate_0 ++ dktJ25_inflate_1
theorem dksJ25_inflate_0 : cJ25_inflate.data.toList.drop 0 = dktJ25_inflate_0 := by decide +kernel
theorem dksJ25_inflate_1 : cJ25_inflate.data.toList.drop 24 = dktJ25_inflate_1 := dk_seg dksJ25_inflate_0 24 rfl rfl
theorem dJ25_inflate_0 : decode cJ25_inflate 0 = .ok (.aload_n 0, 1) := dk_42 (dk_at dksJ25_inflate_0 0 rfl rfl)
theorem dJ25_inflate_1 : decode cJ25_inflate 1 = .ok (.invokevirtual 83, 3) := dk_182 0 83 (dk_at dksJ25_inflate_0 1 rfl rfl)
theorem dJ25_inflate_4 : decode cJ25_inflate 4 = .ok (.ifCond .ne 4, 3) := dk_154 0 4 (dk_at dksJ25_inflate_0 4 rfl rfl)
theorem dJ25_inflate_7 : decode cJ25_inflate 7 = .ok (.return_, 1) := dk_177 (dk_at dksJ25_inflate_0 7 rfl rfl)
theorem dJ25_inflate_8 : decode cJ25_inflate 8 = .ok (.aload_n 0, 1) := dk_42 (dk_at dksJ25_inflate_0 8 rfl rfl)
theorem dJ25_inflate_9 : decode cJ25_inflate 9 = .ok (.getfield 15, 3) := dk_180 0 15 (dk_at dksJ25_inflate_0 9 rfl rfl)
theorem dJ25_inflate_12 : decode cJ25_inflate 12 = .ok (.arraylength, 1) := dk_190 (dk_at dksJ25_inflate_0 12 rfl rfl)
theorem dJ25_inflate_13 : decode cJ25_inflate 13 = .ok (.invokestatic 26, 3) := dk_184 0 26 (dk_at dksJ25_inflate_0 13 rfl rfl)
theorem dJ25_inflate_16 : decode cJ25_inflate 16 = .ok (.astore_n 1, 1) := dk_76 (dk_at dksJ25_inflate_0 16 rfl rfl)
theorem dJ25_inflate_17 : decode cJ25_inflate 17 = .ok (.aload_n 0, 1) := dk_42 (dk_at dksJ25_inflate_0 17 rfl rfl)
theorem dJ25_inflate_18 : decode cJ25_inflate 18 = .ok (.getfield 15, 3) := dk_180 0 15 (dk_at dksJ25_inflate_0 18 rfl rfl)
theorem dJ25_inflate_21 : decode cJ25_inflate 21 = .ok (.iconst 0, 1) := dk_3 (dk_at dksJ25_inflate_0 21 rfl rfl)
theorem dJ25_inflate_22 : decode cJ25_inflate 22 = .ok (.aload_n 1, 1) := dk_43 (dk_at dksJ25_inflate_0 22 rfl rfl)
theorem dJ25_inflate_23 : decode cJ25_inflate 23 = .ok (.iconst 0, 1) := dk_3 (dk_at dksJ25_inflate_0 23 rfl rfl)
theorem dJ25_inflate_24 : decode cJ25_inflate 24 = .ok (.aload_n 0, 1) := dk_42 (dk_at dksJ25_inflate_1 0 rfl rfl)
theorem dJ25_inflate_25 : decode cJ25_inflate 25 = .ok (.getfield 79, 3) := dk_180 0 79 (dk_at dksJ25_inflate_1 1 rfl rfl)
theorem dJ25_inflate_28 : decode cJ25_inflate 28 = .ok (.invokestatic 125, 3) := dk_184 0 125 (dk_at dksJ25_inflate_1 4 rfl rfl)
theorem dJ25_inflate_31 : decode cJ25_inflate 31 = .ok (.aload_n 0, 1) := dk_42 (dk_at dksJ25_inflate_1 7 rfl rfl)
theorem dJ25_inflate_32 : decode cJ25_inflate 32 = .ok (.aload_n 1, 1) := dk_43 (dk_at dksJ25_inflate_1 8 rfl rfl)
theorem dJ25_inflate_33 : decode cJ25_inflate 33 = .ok (.putfield 15, 3) := dk_181 0 15 (dk_at dksJ25_inflate_1 9 rfl rfl)
theorem dJ25_inflate_36 : decode cJ25_inflate 36 = .ok (.aload_n 0, 1) := dk_42 (dk_at dksJ25_inflate_1 12 rfl rfl)
theorem dJ25_inflate_37 : decode cJ25_inflate 37 = .ok (.iconst 1, 1) := dk_4 (dk_at dksJ25_inflate_1 13 rfl rfl)
theorem dJ25_inflate_38 : decode cJ25_inflate 38 = .ok (.putfield 22, 3) := dk_181 0 22 (dk_at dksJ25_inflate_1 14 rfl rfl)
theorem dJ25_inflate_41 : decode cJ25_inflate 41 = .ok (.return_, 1) := dk_177 (dk_at dksJ25_inflate_1 17 rfl rfl)
abbrev cJ25_append_2 : ByteArray := prog_15_method_32_code
def yJ25_append_2 : MethodName := ⟨RJ25, "append", "(I)Ljava/lang/AbstractStringBuilder;"⟩
def dkwJ25_append_2_2 : List UInt8 := [42, 29, 181, 0, 79, 42, 176]
abbrev dktJ25_append_2_2 : List UInt8 := dkwJ25_append_2_2 ++ []
def dkwJ25_append_2_1 : List UInt8 := [27, 29, 42, 180, 0, 15, 184, 0, 248, 87, 167, 0, 14, 27, 28, 29, 42, 180, 0, 15, 184, 0, 251, 87]
abbrev dktJ25_append_2_1 : List UInt8 := dkwJ25_append_2_1 ++ dktJ25_append_2_2
def dkwJ25_append_2_0 : List UInt8 := [42, 180, 0, 79, 61, 28, 27, 184, 0, 245, 96, 62, 42, 29, 182, 0, 100, 42, 182, 0, 83, 153, 0, 16]
abbrev dktJ25_append_2_0 : List UInt8 := dkwJ25_append_2_0 ++ dktJ25_append_2_1
theorem dksJ25_append_2_0 : cJ25_append_2.data.toList.drop 0 = dktJ25_append_2_0 := by decide +kernel
theorem dksJ25_append_2_1 : cJ25_append_2.data.toList.drop 24 = dktJ25_append_2_1 := dk_seg dksJ25_append_2_0 24 rfl rfl
theorem dksJ25_append_2_2 : cJ25_append_2.data.toList.drop 48 = dktJ25_append_2_2 := dk_seg dksJ25_append_2_1 24 rfl rfl
theorem dJ25_append_2_0 : decode cJ25_append_2 0 = .ok (.aload_n 0, 1) := dk_42 (dk_at dksJ25_append_2_0 0 rfl rfl)
theorem dJ25_append_2_1 : decode cJ25_append_2 1 = .ok (.getfield 79, 3) := dk_180 0 79 (dk_at dksJ25_append_2_0 1 rfl rfl)
theorem dJ25_append_2_4 : decode cJ25_append_2 4 = .ok (.istore_n 2, 1) := dk_61 (dk_at dksJ25_append_2_0 4 rfl rfl)
theorem dJ25_append_2_5 : decode cJ25_append_2 5 = .ok (.iload_n 2, 1) := dk_28 (dk_at dksJ25_append_2_0 5 rfl rfl)
theorem dJ25_append_2_6 : decode cJ25_append_2 6 = .ok (.iload_n 1, 1) := dk_27 (dk_at dksJ25_append_2_0 6 rfl rfl)
theorem dJ25_append_2_7 : decode cJ25_append_2 7 = .ok (.invokestatic 245, 3) := dk_184 0 245 (dk_at dksJ25_append_2_0 7 rfl rfl)
theorem dJ25_append_2_10 : decode cJ25_append_2 10 = .ok (.iadd, 1) := dk_96 (dk_at dksJ25_append_2_0 10 rfl rfl)
theorem dJ25_append_2_11 : decode cJ25_append_2 11 = .ok (.istore_n 3, 1) := dk_62 (dk_at dksJ25_append_2_0 11 rfl rfl)
theorem dJ25_append_2_12 : decode cJ25_append_2 12 = .ok (.aload_n 0, 1) := dk_42 (dk_at dksJ25_append_2_0 12 rfl rfl)
theorem dJ25_append_2_13 : decode cJ25_append_2 13 = .ok (.iload_n 3, 1) := dk_29 (dk_at dksJ25_append_2_0 13 rfl rfl)
theorem dJ25_append_2_14 : decode cJ25_append_2 14 = .ok (.invokevirtual 100, 3) := dk_182 0 100 (dk_at dksJ25_append_2_0 14 rfl rfl)
theorem dJ25_append_2_17 : decode cJ25_append_2 17 = .ok (.aload_n 0, 1) := dk_42 (dk_at dksJ25_append_2_0 17 rfl rfl)
theorem dJ25_append_2_18 : decode cJ25_append_2 18 = .ok (.invokevirtual 83, 3) := dk_182 0 83 (dk_at dksJ25_append_2_0 18 rfl rfl)
theorem dJ25_append_2_21 : decode cJ25_append_2 21 = .ok (.ifCond .eq 16, 3) := dk_153 0 16 (dk_at dksJ25_append_2_0 21 rfl rfl)
theorem dJ25_append_2_24 : decode cJ25_append_2 24 = .ok (.iload_n 1, 1) := dk_27 (dk_at dksJ25_append_2_1 0 rfl rfl)
theorem dJ25_append_2_25 : decode cJ25_append_2 25 = .ok (.iload_n 3, 1) := dk_29 (dk_at dksJ25_append_2_1 1 rfl rfl)
theorem dJ25_append_2_26 : decode cJ25_append_2 26 = .ok (.aload_n 0, 1) := dk_42 (dk_at dksJ25_append_2_1 2 rfl rfl)
theorem dJ25_append_2_27 : decode cJ25_append_2 27 = .ok (.getfield 15, 3) := dk_180 0 15 (dk_at dksJ25_append_2_1 3 rfl rfl)
theorem dJ25_append_2_30 : decode cJ25_append_2 30 = .ok (.invokestatic 248, 3) := dk_184 0 248 (dk_at dksJ25_append_2_1 6 rfl rfl)
theorem dJ25_append_2_33 : decode cJ25_append_2 33 = .ok (.pop, 1) := dk_87 (dk_at dksJ25_append_2_1 9 rfl rfl)
theorem dJ25_append_2_34 : decode cJ25_append_2 34 = .ok (.goto 14, 3) := dk_167 0 14 (dk_at dksJ25_append_2_1 10 rfl rfl)
theorem dJ25_append_2_37 : decode cJ25_append_2 37 = .ok (.iload_n 1, 1) := dk_27 (dk_at dksJ25_append_2_1 13 rfl rfl)
theorem dJ25_append_2_38 : decode cJ25_append_2 38 = .ok (.iload_n 2, 1) := dk_28 (dk_at dksJ25_append_2_1 14 rfl rfl)
theorem dJ25_append_2_39 : decode cJ25_append_2 39 = .ok (.iload_n 3, 1) := dk_29 (dk_at dksJ25_append_2_1 15 rfl rfl)
theorem dJ25_append_2_40 : decode cJ25_append_2 40 = .ok (.aload_n 0, 1) := dk_42 (dk_at dksJ25_append_2_1 16 rfl rfl)
theorem dJ25_append_2_41 : decode cJ25_append_2 41 = .ok (.getfield 15, 3) := dk_180 0 15 (dk_at dksJ25_append_2_1 17 rfl rfl)
theorem dJ25_append_2_44 : decode cJ25_append_2 44 = .ok (.invokestatic 251, 3) := dk_184 0 251 (dk_at dksJ25_append_2_1 20 rfl rfl)
theorem dJ25_append_2_47 : decode cJ25_append_2 47 = .ok (.pop, 1) := dk_87 (dk_at dksJ25_append_2_1 23 rfl rfl)
theorem dJ25_append_2_48 : decode cJ25_append_2 48 = .ok (.aload_n 0, 1) := dk_42 (dk_at dksJ25_append_2_2 0 rfl rfl)
theorem dJ25_append_2_49 : decode cJ25_append_2 49 = .ok (.iload_n 3, 1) := dk_29 (dk_at dksJ25_append_2_2 1 rfl rfl)
theorem dJ25_append_2_50 : decode cJ25_append_2 50 = .ok (.putfield 79, 3) := dk_181 0 79 (dk_at dksJ25_append_2_2 2 rfl rfl)
theorem dJ25_append_2_53 : decode cJ25_append_2 53 = .ok (.aload_n 0, 1) := dk_42 (dk_at dksJ25_append_2_2 5 rfl rfl)
theorem dJ25_append_2_54 : decode cJ25_append_2 54 = .ok (.areturn, 1) := dk_176 (dk_at dksJ25_append_2_2 6 rfl rfl)
abbrev cJ25_getValue : ByteArray := prog_15_method_64_code
def yJ25_getValue : MethodName := ⟨RJ25, "getValue", "()[B"⟩
theorem dJ25_getValue_0 : decode cJ25_getValue 0 = .ok (.aload_n 0, 1) := by decide +kernel
theorem dJ25_getValue_1 : decode cJ25_getValue 1 = .ok (.getfield 15, 3) := by decide +kernel
theorem dJ25_getValue_4 : decode cJ25_getValue 4 = .ok (.areturn, 1) := by decide +kernel
abbrev cJ25_charAt : ByteArray := prog_15_method_14_code
def yJ25_charAt : MethodName := ⟨RJ25, "charAt", "(I)C"⟩
def dkwJ25_charAt_1 : List UInt8 := [21, 4, 184, 0, 144, 28, 154, 0, 12, 45, 27, 51, 17, 0, 255, 126, 146, 172, 45, 27, 184, 0, 148, 172]
abbrev dktJ25_charAt_1 : List UInt8 := dkwJ25_charAt_1 ++ []
def dkwJ25_charAt_0 : List UInt8 := [42, 180, 0, 22, 61, 42, 180, 0, 15, 78, 42, 180, 0, 79, 45, 190, 28, 122, 184, 0, 138, 54, 4, 27]
abbrev dktJ25_charAt_0 : List UInt8 := dkwJ25_charAt_0 ++ dktJ25_charAt_1
theorem dksJ25_charAt_0 : cJ25_charAt.data.toList.drop 0 = dktJ25_charAt_0 := by decide +kernel
theorem dksJ25_charAt_1 : cJ25_charAt.data.toList.drop 24 = dktJ25_charAt_1 := dk_seg dksJ25_charAt_0 24 rfl rfl
theorem dJ25_charAt_0 : decode cJ25_charAt 0 = .ok (.aload_n 0, 1) := dk_42 (dk_at dksJ25_charAt_0 0 rfl rfl)
theorem dJ25_charAt_1 : decode cJ25_charAt 1 = .ok (.getfield 22, 3) := dk_180 0 22 (dk_at dksJ25_charAt_0 1 rfl rfl)
theorem dJ25_charAt_4 : decode cJ25_charAt 4 = .ok (.istore_n 2, 1) := dk_61 (dk_at dksJ25_charAt_0 4 rfl rfl)
theorem dJ25_charAt_5 : decode cJ25_charAt 5 = .ok (.aload_n 0, 1) := dk_42 (dk_at dksJ25_charAt_0 5 rfl rfl)
theorem dJ25_charAt_6 : decode cJ25_charAt 6 = .ok (.getfield 15, 3) := dk_180 0 15 (dk_at dksJ25_charAt_0 6 rfl rfl)
theorem dJ25_charAt_9 : decode cJ25_charAt 9 = .ok (.astore_n 3, 1) := dk_78 (dk_at dksJ25_charAt_0 9 rfl rfl)
theorem dJ25_charAt_10 : decode cJ25_charAt 10 = .ok (.aload_n 0, 1) := dk_42 (dk_at dksJ25_charAt_0 10 rfl rfl)
theorem dJ25_charAt_11 : decode cJ25_charAt 11 = .ok (.getfield 79, 3) := dk_180 0 79 (dk_at dksJ25_charAt_0 11 rfl rfl)
theorem dJ25_charAt_14 : decode cJ25_charAt 14 = .ok (.aload_n 3, 1) := dk_45 (dk_at dksJ25_charAt_0 14 rfl rfl)
theorem dJ25_charAt_15 : decode cJ25_charAt 15 = .ok (.arraylength, 1) := dk_190 (dk_at dksJ25_charAt_0 15 rfl rfl)
theorem dJ25_charAt_16 : decode cJ25_charAt 16 = .ok (.iload_n 2, 1) := dk_28 (dk_at dksJ25_charAt_0 16 rfl rfl)
theorem dJ25_charAt_17 : decode cJ25_charAt 17 = .ok (.ishr, 1) := dk_122 (dk_at dksJ25_charAt_0 17 rfl rfl)
theorem dJ25_charAt_18 : decode cJ25_charAt 18 = .ok (.invokestatic 138, 3) := dk_184 0 138 (dk_at dksJ25_charAt_0 18 rfl rfl)
theorem dJ25_charAt_21 : decode cJ25_charAt 21 = .ok (.istore 4, 2) := dk_54 4 (dk_at dksJ25_charAt_0 21 rfl rfl)
theorem dJ25_charAt_23 : decode cJ25_charAt 23 = .ok (.iload_n 1, 1) := dk_27 (dk_at dksJ25_charAt_0 23 rfl rfl)
theorem dJ25_charAt_24 : decode cJ25_charAt 24 = .ok (.iload 4, 2) := dk_21 4 (dk_at dksJ25_charAt_1 0 rfl rfl)
theorem dJ25_charAt_26 : decode cJ25_charAt 26 = .ok (.invokestatic 144, 3) := dk_184 0 144 (dk_at dksJ25_charAt_1 2 rfl rfl)
theorem dJ25_charAt_29 : decode cJ25_charAt 29 = .ok (.iload_n 2, 1) := dk_28 (dk_at dksJ25_charAt_1 5 rfl rfl)
theorem dJ25_charAt_30 : decode cJ25_charAt 30 = .ok (.ifCond .ne 12, 3) := dk_154 0 12 (dk_at dksJ25_charAt_1 6 rfl rfl)
theorem dJ25_charAt_33 : decode cJ25_charAt 33 = .ok (.aload_n 3, 1) := dk_45 (dk_at dksJ25_charAt_1 9 rfl rfl)
theorem dJ25_charAt_34 : decode cJ25_charAt 34 = .ok (.iload_n 1, 1) := dk_27 (dk_at dksJ25_charAt_1 10 rfl rfl)
theorem dJ25_charAt_35 : decode cJ25_charAt 35 = .ok (.baload, 1) := dk_51 (dk_at dksJ25_charAt_1 11 rfl rfl)
theorem dJ25_charAt_36 : decode cJ25_charAt 36 = .ok (.sipush 255, 3) := dk_17 0 255 (dk_at dksJ25_charAt_1 12 rfl rfl)
theorem dJ25_charAt_39 : decode cJ25_charAt 39 = .ok (.iand, 1) := dk_126 (dk_at dksJ25_charAt_1 15 rfl rfl)
theorem dJ25_charAt_40 : decode cJ25_charAt 40 = .ok (.i2c, 1) := dk_146 (dk_at dksJ25_charAt_1 16 rfl rfl)
theorem dJ25_charAt_41 : decode cJ25_charAt 41 = .ok (.ireturn, 1) := dk_172 (dk_at dksJ25_charAt_1 17 rfl rfl)
theorem dJ25_charAt_42 : decode cJ25_charAt 42 = .ok (.aload_n 3, 1) := dk_45 (dk_at dksJ25_charAt_1 18 rfl rfl)
theorem dJ25_charAt_43 : decode cJ25_charAt 43 = .ok (.iload_n 1, 1) := dk_27 (dk_at dksJ25_charAt_1 19 rfl rfl)
theorem dJ25_charAt_44 : decode cJ25_charAt 44 = .ok (.invokestatic 148, 3) := dk_184 0 148 (dk_at dksJ25_charAt_1 20 rfl rfl)
theorem dJ25_charAt_47 : decode cJ25_charAt 47 = .ok (.ireturn, 1) := dk_172 (dk_at dksJ25_charAt_1 23 rfl rfl)
abbrev cJ25_append_3 : ByteArray := prog_15_method_31_code
def yJ25_append_3 : MethodName := ⟨RJ25, "append", "(C)Ljava/lang/AbstractStringBuilder;"⟩
def dkwJ25_append_3_3 : List UInt8 := [181, 0, 79, 27, 184, 0, 197, 42, 176]
abbrev dktJ25_append_3_3 : List UInt8 := dkwJ25_append_3_3 ++ []
def dkwJ25_append_3_2 : List UInt8 := [182, 0, 83, 153, 0, 7, 42, 182, 0, 195, 42, 180, 0, 15, 42, 89, 180, 0, 79, 90, 4, 96]
abbrev dktJ25_append_3_2 : List UInt8 := dkwJ25_append_3_2 ++ dktJ25_append_3_3
def dkwJ25_append_3_1 : List UInt8 := [42, 180, 0, 15, 42, 89, 180, 0, 79, 90, 4, 96, 181, 0, 79, 27, 145, 84, 167, 0, 33, 42]
abbrev dktJ25_append_3_1 : List UInt8 := dkwJ25_append_3_1 ++ dktJ25_append_3_2
def dkwJ25_append_3_0 : List UInt8 := [42, 42, 180, 0, 79, 4, 96, 182, 0, 100, 42, 182, 0, 83, 153, 0, 31, 27, 184, 0, 191, 153, 0, 24]
abbrev dktJ25_append_3_0 : List UInt8 := dkwJ25_append_3_0 ++ dktJ25_append_3_1
theorem dksJ25_append_3_0 : cJ25_append_3.data.toList.drop 0 = dktJ25_append_3_0 := by decide +kernel
theorem dksJ25_append_3_1 : cJ25_append_3.data.toList.drop 24 = dktJ25_append_3_1 := dk_seg dksJ25_append_3_0 24 rfl rfl
theorem dksJ25_append_3_2 : cJ25_append_3.data.toList.drop 46 = dktJ25_append_3_2 := dk_seg dksJ25_append_3_1 22 rfl rfl
theorem dksJ25_append_3_3 : cJ25_append_3.data.toList.drop 68 = dktJ25_append_3_3 := dk_seg dksJ25_append_3_2 22 rfl rfl
theorem dJ25_append_3_0 : decode cJ25_append_3 0 = .ok (.aload_n 0, 1) := dk_42 (dk_at dksJ25_append_3_0 0 rfl rfl)
theorem dJ25_append_3_1 : decode cJ25_append_3 1 = .ok (.aload_n 0, 1) := dk_42 (dk_at dksJ25_append_3_0 1 rfl rfl)
theorem dJ25_append_3_2 : decode cJ25_append_3 2 = .ok (.getfield 79, 3) := dk_180 0 79 (dk_at dksJ25_append_3_0 2 rfl rfl)
theorem dJ25_append_3_5 : decode cJ25_append_3 5 = .ok (.iconst 1, 1) := dk_4 (dk_at dksJ25_append_3_0 5 rfl rfl)
theorem dJ25_append_3_6 : decode cJ25_append_3 6 = .ok (.iadd, 1) := dk_96 (dk_at dksJ25_append_3_0 6 rfl rfl)
theorem dJ25_append_3_7 : decode cJ25_append_3 7 = .ok (.invokevirtual 100, 3) := dk_182 0 100 (dk_at dksJ25_append_3_0 7 rfl rfl)
theorem dJ25_append_3_10 : decode cJ25_append_3 10 = .ok (.aload_n 0, 1) := dk_42 (dk_at dksJ25_append_3_0 10 rfl rfl)
theorem dJ25_append_3_11 : decode cJ25_append_3 11 = .ok (.invokevirtual 83, 3) := dk_182 0 83 (dk_at dksJ25_append_3_0 11 rfl rfl)
theorem dJ25_append_3_14 : decode cJ25_append_3 14 = .ok (.ifCond .eq 31, 3) := dk_153 0 31 (dk_at dksJ25_append_3_0 14 rfl rfl)
theorem dJ25_append_3_17 : decode cJ25_append_3 17 = .ok (.iload_n 1, 1) := dk_27 (dk_at dksJ25_append_3_0 17 rfl rfl)
theorem dJ25_append_3_18 : decode cJ25_append_3 18 = .ok (.invokestatic 191, 3) := dk_184 0 191 (dk_at dksJ25_append_3_0 18 rfl rfl)
theorem dJ25_append_3_21 : decode cJ25_append_3 21 = .ok (.ifCond .eq 24, 3) := dk_153 0 24 (dk_at dksJ25_append_3_0 21 rfl rfl)
theorem dJ25_append_3_24 : decode cJ25_append_3 24 = .ok (.aload_n 0, 1) := dk_42 (dk_at dksJ25_append_3_1 0 rfl rfl)
theorem dJ25_append_3_25 : decode cJ25_append_3 25 = .ok (.getfield 15, 3) := dk_180 0 15 (dk_at dksJ25_append_3_1 1 rfl rfl)
theorem dJ25_append_3_28 : decode cJ25_append_3 28 = .ok (.aload_n 0, 1) := dk_42 (dk_at dksJ25_append_3_1 4 rfl rfl)
theorem dJ25_append_3_29 : decode cJ25_append_3 29 = .ok (.dup, 1) := dk_89 (dk_at dksJ25_append_3_1 5 rfl rfl)
theorem dJ25_append_3_30 : decode cJ25_append_3 30 = .ok (.getfield 79, 3) := dk_180 0 79 (dk_at dksJ25_append_3_1 6 rfl rfl)
theorem dJ25_append_3_33 : decode cJ25_append_3 33 = .ok (.dup_x1, 1) := dk_90 (dk_at dksJ25_append_3_1 9 rfl rfl)
theorem dJ25_append_3_34 : decode cJ25_append_3 34 = .ok (.iconst 1, 1) := dk_4 (dk_at dksJ25_append_3_1 10 rfl rfl)
theorem dJ25_append_3_35 : decode cJ25_append_3 35 = .ok (.iadd, 1) := dk_96 (dk_at dksJ25_append_3_1 11 rfl rfl)
theorem dJ25_append_3_36 : decode cJ25_append_3 36 = .ok (.putfield 79, 3) := dk_181 0 79 (dk_at dksJ25_append_3_1 12 rfl rfl)
theorem dJ25_append_3_39 : decode cJ25_append_3 39 = .ok (.iload_n 1, 1) := dk_27 (dk_at dksJ25_append_3_1 15 rfl rfl)
theorem dJ25_append_3_40 : decode cJ25_append_3 40 = .ok (.i2b, 1) := dk_145 (dk_at dksJ25_append_3_1 16 rfl rfl)
theorem dJ25_append_3_41 : decode cJ25_append_3 41 = .ok (.bastore, 1) := dk_84 (dk_at dksJ25_append_3_1 17 rfl rfl)
theorem dJ25_append_3_42 : decode cJ25_append_3 42 = .ok (.goto 33, 3) := dk_167 0 33 (dk_at dksJ25_append_3_1 18 rfl rfl)
theorem dJ25_append_3_45 : decode cJ25_append_3 45 = .ok (.aload_n 0, 1) := dk_42 (dk_at dksJ25_append_3_1 21 rfl rfl)
theorem dJ25_append_3_46 : decode cJ25_append_3 46 = .ok (.invokevirtual 83, 3) := dk_182 0 83 (dk_at dksJ25_append_3_2 0 rfl rfl)
theorem dJ25_append_3_49 : decode cJ25_append_3 49 = .ok (.ifCond .eq 7, 3) := dk_153 0 7 (dk_at dksJ25_append_3_2 3 rfl rfl)
theorem dJ25_append_3_52 : decode cJ25_append_3 52 = .ok (.aload_n 0, 1) := dk_42 (dk_at dksJ25_append_3_2 6 rfl rfl)
theorem dJ25_append_3_53 : decode cJ25_append_3 53 = .ok (.invokevirtual 195, 3) := dk_182 0 195 (dk_at dksJ25_append_3_2 7 rfl rfl)
theorem dJ25_append_3_56 : decode cJ25_append_3 56 = .ok (.aload_n 0, 1) := dk_42 (dk_at dksJ25_append_3_2 10 rfl rfl)
theorem dJ25_append_3_57 : decode cJ25_append_3 57 = .ok (.getfield 15, 3) := dk_180 0 15 (dk_at dksJ25_append_3_2 11 rfl rfl)
theorem dJ25_append_3_60 : decode cJ25_append_3 60 = .ok (.aload_n 0, 1) := dk_42 (dk_at dksJ25_append_3_2 14 rfl rfl)
theorem dJ25_append_3_61 : decode cJ25_append_3 61 = .ok (.dup, 1) := dk_89 (dk_at dksJ25_append_3_2 15 rfl rfl)
theorem dJ25_append_3_62 : decode cJ25_append_3 62 = .ok (.getfield 79, 3) := dk_180 0 79 (dk_at dksJ25_append_3_2 16 rfl rfl)
theorem dJ25_append_3_65 : decode cJ25_append_3 65 = .ok (.dup_x1, 1) := dk_90 (dk_at dksJ25_append_3_2 19 rfl rfl)
theorem dJ25_append_3_66 : decode cJ25_append_3 66 = .ok (.iconst 1, 1) := dk_4 (dk_at dksJ25_append_3_2 20 rfl rfl)
theorem dJ25_append_3_67 : decode cJ25_append_3 67 = .ok (.iadd, 1) := dk_96 (dk_at dksJ25_append_3_2 21 rfl rfl)
theorem dJ25_append_3_68 : decode cJ25_append_3 68 = .ok (.putfield 79, 3) := dk_181 0 79 (dk_at dksJ25_append_3_3 0 rfl rfl)
theorem dJ25_append_3_71 : decode cJ25_append_3 71 = .ok (.iload_n 1, 1) := dk_27 (dk_at dksJ25_append_3_3 3 rfl rfl)
theorem dJ25_append_3_72 : decode cJ25_append_3 72 = .ok (.invokestatic 197, 3) := dk_184 0 197 (dk_at dksJ25_append_3_3 4 rfl rfl)
theorem dJ25_append_3_75 : decode cJ25_append_3 75 = .ok (.aload_n 0, 1) := dk_42 (dk_at dksJ25_append_3_3 7 rfl rfl)
theorem dJ25_append_3_76 : decode cJ25_append_3 76 = .ok (.areturn, 1) := dk_176 (dk_at dksJ25_append_3_3 8 rfl rfl)
theorem q110 : (Jvm.Cond.initialized "java/lang/AbstractStringBuilder") ∈ lw_all := lw_g (lw_at lw_m1 34 rfl) rfl
theorem q837 : (Jvm.Cond.instanceMethod ({ cls := "java/lang/AbstractStringBuilder", name := "compareTo", desc := "(Ljava/lang/AbstractStringBuilder;)I" } : Jvm.MethodName)) ∈ lw_all := lw_g (lw_at lw_m4 41 rfl) rfl
theorem q838 : (Jvm.Cond.code ({ cls := "java/lang/AbstractStringBuilder", name := "compareTo", desc := "(Ljava/lang/AbstractStringBuilder;)I" } : Jvm.MethodName) prog_15_method_5_code (6 : Nat) (Option.some Jvm.ClassFile.FieldType.int)) ∈ lw_all := lw_g (lw_at lw_m4 42 rfl) rfl
theorem q839 : (Jvm.Cond.methodLink "java/lang/AbstractStringBuilder" (83 : Nat) ({ cls := "java/lang/AbstractStringBuilder", name := "isLatin1", desc := "()Z" } : Jvm.MethodName)) ∈ lw_all := lw_g (lw_at lw_m4 43 rfl) rfl
theorem q840 : (Jvm.Cond.instanceMethod ({ cls := "java/lang/AbstractStringBuilder", name := "isLatin1", desc := "()Z" } : Jvm.MethodName)) ∈ lw_all := lw_g (lw_at lw_m4 44 rfl) rfl
theorem q841 : (Jvm.Cond.sameMethod "java/lang/AbstractStringBuilder" "java/lang/AbstractStringBuilder" "isLatin1" "()Z") ∈ lw_all := lw_g (lw_at lw_m4 45 rfl) rfl
theorem q843 : (Jvm.Cond.code ({ cls := "java/lang/AbstractStringBuilder", name := "isLatin1", desc := "()Z" } : Jvm.MethodName) prog_15_method_68_code (1 : Nat) (Option.some Jvm.ClassFile.FieldType.boolean)) ∈ lw_all := lw_g (lw_at lw_m4 47 rfl) rfl
theorem q844 : (Jvm.Cond.fieldLink "java/lang/AbstractStringBuilder" (18 : Nat) "java/lang/String" "COMPACT_STRINGS" "Z") ∈ lw_all := lw_g (lw_at lw_m4 48 rfl) rfl
theorem q845 : (Jvm.Cond.methodLink "java/lang/AbstractStringBuilder" (87 : Nat) ({ cls := "java/lang/StringLatin1", name := "compareTo", desc := "([B[BII)I" } : Jvm.MethodName)) ∈ lw_all := lw_g (lw_at lw_m4 49 rfl) rfl
theorem q846 : (Jvm.Cond.methodLink "java/lang/AbstractStringBuilder" (93 : Nat) ({ cls := "java/lang/StringUTF16", name := "compareTo", desc := "([B[BII)I" } : Jvm.MethodName)) ∈ lw_all := lw_g (lw_at lw_m4 50 rfl) rfl
theorem q860 : (Jvm.Cond.methodLink "java/lang/AbstractStringBuilder" (94 : Nat) ({ cls := "java/lang/StringLatin1", name := "compareToUTF16", desc := "([B[BII)I" } : Jvm.MethodName)) ∈ lw_all := lw_g (lw_at lw_m4 64 rfl) rfl
theorem q864 : (Jvm.Cond.methodLink "java/lang/AbstractStringBuilder" (97 : Nat) ({ cls := "java/lang/StringUTF16", name := "compareToLatin1", desc := "([B[BII)I" } : Jvm.MethodName)) ∈ lw_all := lw_g (lw_at lw_m4 68 rfl) rfl
theorem q970 : (Jvm.Cond.instanceMethod ({ cls := "java/lang/AbstractStringBuilder", name := "<init>", desc := "(I)V" } : Jvm.MethodName)) ∈ lw_all := lw_g (lw_at lw_m4 174 rfl) rfl
theorem q971 : (Jvm.Cond.code ({ cls := "java/lang/AbstractStringBuilder", name := "<init>", desc := "(I)V" } : Jvm.MethodName) prog_15_method_2_code (2 : Nat) (Option.none : Option Jvm.ClassFile.FieldType)) ∈ lw_all := lw_g (lw_at lw_m4 175 rfl) rfl
theorem q972 : (Jvm.Cond.methodLink "java/lang/AbstractStringBuilder" (3 : Nat) ({ cls := "java/lang/Object", name := "<init>", desc := "()V" } : Jvm.MethodName)) ∈ lw_all := lw_g (lw_at lw_m4 176 rfl) rfl
theorem q973 : (Jvm.Cond.methodLink "java/lang/AbstractStringBuilder" (26 : Nat) ({ cls := "java/lang/StringUTF16", name := "newBytesFor", desc := "(I)[B" } : Jvm.MethodName)) ∈ lw_all := lw_g (lw_at lw_m4 177 rfl) rfl
theorem q980 : (Jvm.Cond.fieldLink "java/lang/AbstractStringBuilder" (15 : Nat) "java/lang/AbstractStringBuilder" "value" "[B") ∈ lw_all := lw_g (lw_at lw_m4 184 rfl) rfl
theorem q981 : (Jvm.Cond.fieldLink "java/lang/AbstractStringBuilder" (22 : Nat) "java/lang/AbstractStringBuilder" "coder" "B") ∈ lw_all := lw_g (lw_at lw_m4 185 rfl) rfl
theorem q982 : (Jvm.Cond.fieldLink "java/lang/AbstractStringBuilder" (73 : Nat) "java/lang/AbstractStringBuilder" "maybeLatin1" "Z") ∈ lw_all := lw_g (lw_at lw_m4 186 rfl) rfl
theorem q984 : (Jvm.Cond.fieldLink "java/lang/AbstractStringBuilder" (79 : Nat) "java/lang/AbstractStringBuilder" "count" "I") ∈ lw_all := lw_g (lw_at lw_m4 188 rfl) rfl
theorem q986 : (Jvm.Cond.soleField "java/lang/AbstractStringBuilder" "value") ∈ lw_all := lw_g (lw_at lw_m4 190 rfl) rfl
theorem q988 : (Jvm.Cond.soleField "java/lang/AbstractStringBuilder" "coder") ∈ lw_all := lw_g (lw_at lw_m4 192 rfl) rfl
theorem q990 : (Jvm.Cond.soleField "java/lang/AbstractStringBuilder" "maybeLatin1") ∈ lw_all := lw_g (lw_at lw_m4 194 rfl) rfl
theorem q992 : (Jvm.Cond.soleField "java/lang/AbstractStringBuilder" "count") ∈ lw_all := lw_g (lw_at lw_m4 196 rfl) rfl
theorem q1186 : (Jvm.Cond.instanceMethod ({ cls := "java/lang/AbstractStringBuilder", name := "length", desc := "()I" } : Jvm.MethodName)) ∈ lw_all := lw_g (lw_at lw_m5 150 rfl) rfl
theorem q1187 : (Jvm.Cond.code ({ cls := "java/lang/AbstractStringBuilder", name := "length", desc := "()I" } : Jvm.MethodName) prog_15_method_6_code (1 : Nat) (Option.some Jvm.ClassFile.FieldType.int)) ∈ lw_all := lw_g (lw_at lw_m5 151 rfl) rfl
theorem q1193 : (Jvm.Cond.instanceMethod ({ cls := "java/lang/AbstractStringBuilder", name := "setLength", desc := "(I)V" } : Jvm.MethodName)) ∈ lw_all := lw_g (lw_at lw_m5 157 rfl) rfl
theorem q1194 : (Jvm.Cond.code ({ cls := "java/lang/AbstractStringBuilder", name := "setLength", desc := "(I)V" } : Jvm.MethodName) prog_15_method_13_code (2 : Nat) (Option.none : Option Jvm.ClassFile.FieldType)) ∈ lw_all := lw_g (lw_at lw_m5 158 rfl) rfl
theorem q1195 : (Jvm.Cond.classLink "java/lang/AbstractStringBuilder" (129 : Nat) "java/lang/StringIndexOutOfBoundsException") ∈ lw_all := lw_g (lw_at lw_m5 159 rfl) rfl
theorem q1197 : (Jvm.Cond.methodLink "java/lang/AbstractStringBuilder" (131 : Nat) ({ cls := "java/lang/StringIndexOutOfBoundsException", name := "<init>", desc := "(I)V" } : Jvm.MethodName)) ∈ lw_all := lw_g (lw_at lw_m5 161 rfl) rfl
theorem q1208 : (Jvm.Cond.instanceMethod ({ cls := "java/lang/AbstractStringBuilder", name := "append", desc := "(Ljava/lang/String;)Ljava/lang/AbstractStringBuilder;" } : Jvm.MethodName)) ∈ lw_all := lw_g (lw_at lw_m5 172 rfl) rfl
theorem q1209 : (Jvm.Cond.code ({ cls := "java/lang/AbstractStringBuilder", name := "append", desc := "(Ljava/lang/String;)Ljava/lang/AbstractStringBuilder;" } : Jvm.MethodName) prog_15_method_22_code (3 : Nat) (Option.some (Jvm.ClassFile.FieldType.object "java/lang/AbstractStringBuilder"))) ∈ lw_all := lw_g (lw_at lw_m5 173 rfl) rfl
theorem q1210 : (Jvm.Cond.methodLink "java/lang/AbstractStringBuilder" (204 : Nat) ({ cls := "java/lang/AbstractStringBuilder", name := "appendNull", desc := "()Ljava/lang/AbstractStringBuilder;" } : Jvm.MethodName)) ∈ lw_all := lw_g (lw_at lw_m5 174 rfl) rfl
theorem q1211 : (Jvm.Cond.privateMethod ({ cls := "java/lang/AbstractStringBuilder", name := "appendNull", desc := "()Ljava/lang/AbstractStringBuilder;" } : Jvm.MethodName)) ∈ lw_tbl := lw_at lw_m5 175 rfl
theorem q1212 : (Jvm.Cond.instanceMethod ({ cls := "java/lang/AbstractStringBuilder", name := "appendNull", desc := "()Ljava/lang/AbstractStringBuilder;" } : Jvm.MethodName)) ∈ lw_all := lw_g (lw_at lw_m5 176 rfl) rfl
theorem q1213 : (Jvm.Cond.code ({ cls := "java/lang/AbstractStringBuilder", name := "appendNull", desc := "()Ljava/lang/AbstractStringBuilder;" } : Jvm.MethodName) prog_15_method_26_code (3 : Nat) (Option.some (Jvm.ClassFile.FieldType.object "java/lang/AbstractStringBuilder"))) ∈ lw_all := lw_g (lw_at lw_m5 177 rfl) rfl
theorem q1214 : (Jvm.Cond.methodLink "java/lang/AbstractStringBuilder" (100 : Nat) ({ cls := "java/lang/AbstractStringBuilder", name := "ensureCapacityInternal", desc := "(I)V" } : Jvm.MethodName)) ∈ lw_all := lw_g (lw_at lw_m5 178 rfl) rfl
theorem q1215 : (Jvm.Cond.privateMethod ({ cls := "java/lang/AbstractStringBuilder", name := "ensureCapacityInternal", desc := "(I)V" } : Jvm.MethodName)) ∈ lw_tbl := lw_at lw_m5 179 rfl
theorem q1216 : (Jvm.Cond.instanceMethod ({ cls := "java/lang/AbstractStringBuilder", name := "ensureCapacityInternal", desc := "(I)V" } : Jvm.MethodName)) ∈ lw_all := lw_g (lw_at lw_m5 180 rfl) rfl
theorem q1217 : (Jvm.Cond.code ({ cls := "java/lang/AbstractStringBuilder", name := "ensureCapacityInternal", desc := "(I)V" } : Jvm.MethodName) prog_15_method_9_code (3 : Nat) (Option.none : Option Jvm.ClassFile.FieldType)) ∈ lw_all := lw_g (lw_at lw_m5 181 rfl) rfl
theorem q1218 : (Jvm.Cond.methodLink "java/lang/AbstractStringBuilder" (104 : Nat) ({ cls := "java/lang/AbstractStringBuilder", name := "newCapacity", desc := "(I)I" } : Jvm.MethodName)) ∈ lw_all := lw_g (lw_at lw_m5 182 rfl) rfl
theorem q1219 : (Jvm.Cond.privateMethod ({ cls := "java/lang/AbstractStringBuilder", name := "newCapacity", desc := "(I)I" } : Jvm.MethodName)) ∈ lw_tbl := lw_at lw_m5 183 rfl
theorem q1220 : (Jvm.Cond.instanceMethod ({ cls := "java/lang/AbstractStringBuilder", name := "newCapacity", desc := "(I)I" } : Jvm.MethodName)) ∈ lw_all := lw_g (lw_at lw_m5 184 rfl) rfl
theorem q1221 : (Jvm.Cond.code ({ cls := "java/lang/AbstractStringBuilder", name := "newCapacity", desc := "(I)I" } : Jvm.MethodName) prog_15_method_10_code (6 : Nat) (Option.some Jvm.ClassFile.FieldType.int)) ∈ lw_all := lw_g (lw_at lw_m5 185 rfl) rfl
theorem q1222 : (Jvm.Cond.methodLink "java/lang/AbstractStringBuilder" (114 : Nat) ({ cls := "jdk/internal/util/ArraysSupport", name := "newLength", desc := "(III)I" } : Jvm.MethodName)) ∈ lw_all := lw_g (lw_at lw_m5 186 rfl) rfl
theorem q1223 : (Jvm.Cond.constant "java/lang/AbstractStringBuilder" (39 : Nat) (2147483647 : Int32)) ∈ lw_all := lw_g (lw_at lw_m5 187 rfl) rfl
theorem q1224 : (Jvm.Cond.methodLink "java/lang/AbstractStringBuilder" (108 : Nat) ({ cls := "java/util/Arrays", name := "copyOf", desc := "([BI)[B" } : Jvm.MethodName)) ∈ lw_all := lw_g (lw_at lw_m5 188 rfl) rfl
theorem q1234 : (Jvm.Cond.methodLink "java/lang/AbstractStringBuilder" (226 : Nat) ({ cls := "java/lang/StringUTF16", name := "putCharsAt", desc := "([BICCCC)I" } : Jvm.MethodName)) ∈ lw_all := lw_g (lw_at lw_m5 198 rfl) rfl
theorem q1246 : (Jvm.Cond.methodLink "java/lang/AbstractStringBuilder" (32 : Nat) ({ cls := "java/lang/String", name := "length", desc := "()I" } : Jvm.MethodName)) ∈ lw_all := lw_g (lw_at lw_m5 210 rfl) rfl
theorem q1250 : (Jvm.Cond.methodLink "java/lang/AbstractStringBuilder" (208 : Nat) ({ cls := "java/lang/AbstractStringBuilder", name := "putStringAt", desc := "(ILjava/lang/String;)V" } : Jvm.MethodName)) ∈ lw_all := lw_g (lw_at lw_m5 214 rfl) rfl
theorem q1251 : (Jvm.Cond.privateMethod ({ cls := "java/lang/AbstractStringBuilder", name := "putStringAt", desc := "(ILjava/lang/String;)V" } : Jvm.MethodName)) ∈ lw_tbl := lw_at lw_m5 215 rfl
theorem q1252 : (Jvm.Cond.instanceMethod ({ cls := "java/lang/AbstractStringBuilder", name := "putStringAt", desc := "(ILjava/lang/String;)V" } : Jvm.MethodName)) ∈ lw_all := lw_g (lw_at lw_m5 216 rfl) rfl
theorem q1253 : (Jvm.Cond.code ({ cls := "java/lang/AbstractStringBuilder", name := "putStringAt", desc := "(ILjava/lang/String;)V" } : Jvm.MethodName) prog_15_method_73_code (3 : Nat) (Option.none : Option Jvm.ClassFile.FieldType)) ∈ lw_all := lw_g (lw_at lw_m5 217 rfl) rfl
theorem q1254 : (Jvm.Cond.methodLink "java/lang/AbstractStringBuilder" (397 : Nat) ({ cls := "java/lang/AbstractStringBuilder", name := "inflateIfNeededFor", desc := "(Ljava/lang/String;)V" } : Jvm.MethodName)) ∈ lw_all := lw_g (lw_at lw_m5 218 rfl) rfl
theorem q1255 : (Jvm.Cond.privateMethod ({ cls := "java/lang/AbstractStringBuilder", name := "inflateIfNeededFor", desc := "(Ljava/lang/String;)V" } : Jvm.MethodName)) ∈ lw_tbl := lw_at lw_m5 219 rfl
theorem q1256 : (Jvm.Cond.instanceMethod ({ cls := "java/lang/AbstractStringBuilder", name := "inflateIfNeededFor", desc := "(Ljava/lang/String;)V" } : Jvm.MethodName)) ∈ lw_all := lw_g (lw_at lw_m5 220 rfl) rfl
theorem q1257 : (Jvm.Cond.code ({ cls := "java/lang/AbstractStringBuilder", name := "inflateIfNeededFor", desc := "(Ljava/lang/String;)V" } : Jvm.MethodName) prog_15_method_71_code (2 : Nat) (Option.none : Option Jvm.ClassFile.FieldType)) ∈ lw_all := lw_g (lw_at lw_m5 221 rfl) rfl
theorem q1258 : (Jvm.Cond.methodLink "java/lang/AbstractStringBuilder" (40 : Nat) ({ cls := "java/lang/String", name := "coder", desc := "()B" } : Jvm.MethodName)) ∈ lw_all := lw_g (lw_at lw_m5 222 rfl) rfl
theorem q1259 : (Jvm.Cond.methodLink "java/lang/AbstractStringBuilder" (195 : Nat) ({ cls := "java/lang/AbstractStringBuilder", name := "inflate", desc := "()V" } : Jvm.MethodName)) ∈ lw_all := lw_g (lw_at lw_m5 223 rfl) rfl
theorem q1260 : (Jvm.Cond.privateMethod ({ cls := "java/lang/AbstractStringBuilder", name := "inflate", desc := "()V" } : Jvm.MethodName)) ∈ lw_tbl := lw_at lw_m5 224 rfl
theorem q1261 : (Jvm.Cond.instanceMethod ({ cls := "java/lang/AbstractStringBuilder", name := "inflate", desc := "()V" } : Jvm.MethodName)) ∈ lw_all := lw_g (lw_at lw_m5 225 rfl) rfl
theorem q1262 : (Jvm.Cond.code ({ cls := "java/lang/AbstractStringBuilder", name := "inflate", desc := "()V" } : Jvm.MethodName) prog_15_method_11_code (2 : Nat) (Option.none : Option Jvm.ClassFile.FieldType)) ∈ lw_all := lw_g (lw_at lw_m5 226 rfl) rfl
theorem q1263 : (Jvm.Cond.methodLink "java/lang/AbstractStringBuilder" (125 : Nat) ({ cls := "java/lang/StringLatin1", name := "inflate", desc := "([BI[BII)V" } : Jvm.MethodName)) ∈ lw_all := lw_g (lw_at lw_m5 227 rfl) rfl
theorem q1278 : (Jvm.Cond.methodLink "java/lang/AbstractStringBuilder" (399 : Nat) ({ cls := "java/lang/String", name := "getBytes", desc := "([BIB)V" } : Jvm.MethodName)) ∈ lw_all := lw_g (lw_at lw_m6 2 rfl) rfl
theorem q1289 : (Jvm.Cond.instanceMethod ({ cls := "java/lang/AbstractStringBuilder", name := "append", desc := "(I)Ljava/lang/AbstractStringBuilder;" } : Jvm.MethodName)) ∈ lw_all := lw_g (lw_at lw_m6 13 rfl) rfl
theorem q1290 : (Jvm.Cond.code ({ cls := "java/lang/AbstractStringBuilder", name := "append", desc := "(I)Ljava/lang/AbstractStringBuilder;" } : Jvm.MethodName) prog_15_method_32_code (4 : Nat) (Option.some (Jvm.ClassFile.FieldType.object "java/lang/AbstractStringBuilder"))) ∈ lw_all := lw_g (lw_at lw_m6 14 rfl) rfl
theorem q1291 : (Jvm.Cond.methodLink "java/lang/AbstractStringBuilder" (245 : Nat) ({ cls := "java/lang/Integer", name := "stringSize", desc := "(I)I" } : Jvm.MethodName)) ∈ lw_all := lw_g (lw_at lw_m6 15 rfl) rfl
theorem q1294 : (Jvm.Cond.methodLink "java/lang/AbstractStringBuilder" (248 : Nat) ({ cls := "java/lang/Integer", name := "getChars", desc := "(II[B)I" } : Jvm.MethodName)) ∈ lw_all := lw_g (lw_at lw_m6 18 rfl) rfl
theorem q1301 : (Jvm.Cond.methodLink "java/lang/AbstractStringBuilder" (251 : Nat) ({ cls := "java/lang/StringUTF16", name := "getChars", desc := "(III[B)I" } : Jvm.MethodName)) ∈ lw_all := lw_g (lw_at lw_m6 25 rfl) rfl
theorem q1323 : (Jvm.Cond.instanceMethod ({ cls := "java/lang/AbstractStringBuilder", name := "getValue", desc := "()[B" } : Jvm.MethodName)) ∈ lw_all := lw_g (lw_at lw_m6 47 rfl) rfl
theorem q1324 : (Jvm.Cond.sameMethod "java/lang/AbstractStringBuilder" "java/lang/AbstractStringBuilder" "getValue" "()[B") ∈ lw_all := lw_g (lw_at lw_m6 48 rfl) rfl
theorem q1326 : (Jvm.Cond.code ({ cls := "java/lang/AbstractStringBuilder", name := "getValue", desc := "()[B" } : Jvm.MethodName) prog_15_method_64_code (1 : Nat) (Option.some (Jvm.ClassFile.FieldType.array Jvm.ClassFile.FieldType.byte))) ∈ lw_all := lw_g (lw_at lw_m6 50 rfl) rfl
theorem q1391 : (Jvm.Cond.methodLink "java/lang/AbstractStringBuilder" (133 : Nat) ({ cls := "java/lang/StringLatin1", name := "fillNull", desc := "([BII)V" } : Jvm.MethodName)) ∈ lw_all := lw_g (lw_at lw_m6 115 rfl) rfl
theorem q1426 : (Jvm.Cond.methodLink "java/lang/AbstractStringBuilder" (137 : Nat) ({ cls := "java/lang/StringUTF16", name := "fillNull", desc := "([BII)V" } : Jvm.MethodName)) ∈ lw_all := lw_g (lw_at lw_m6 150 rfl) rfl
theorem q1487 : (Jvm.Cond.instanceMethod ({ cls := "java/lang/AbstractStringBuilder", name := "charAt", desc := "(I)C" } : Jvm.MethodName)) ∈ lw_all := lw_g (lw_at lw_m6 211 rfl) rfl
theorem q1488 : (Jvm.Cond.code ({ cls := "java/lang/AbstractStringBuilder", name := "charAt", desc := "(I)C" } : Jvm.MethodName) prog_15_method_14_code (5 : Nat) (Option.some Jvm.ClassFile.FieldType.char)) ∈ lw_all := lw_g (lw_at lw_m6 212 rfl) rfl
theorem q1489 : (Jvm.Cond.methodLink "java/lang/AbstractStringBuilder" (138 : Nat) ({ cls := "java/lang/Math", name := "min", desc := "(II)I" } : Jvm.MethodName)) ∈ lw_all := lw_g (lw_at lw_m6 213 rfl) rfl
theorem q1490 : (Jvm.Cond.methodLink "java/lang/AbstractStringBuilder" (144 : Nat) ({ cls := "java/lang/String", name := "checkIndex", desc := "(II)V" } : Jvm.MethodName)) ∈ lw_all := lw_g (lw_at lw_m6 214 rfl) rfl
theorem q1494 : (Jvm.Cond.methodLink "java/lang/AbstractStringBuilder" (148 : Nat) ({ cls := "java/lang/StringUTF16", name := "getChar", desc := "([BI)C" } : Jvm.MethodName)) ∈ lw_all := lw_g (lw_at lw_m6 218 rfl) rfl
theorem q1500 : (Jvm.Cond.instanceMethod ({ cls := "java/lang/AbstractStringBuilder", name := "append", desc := "(C)Ljava/lang/AbstractStringBuilder;" } : Jvm.MethodName)) ∈ lw_all := lw_g (lw_at lw_m6 224 rfl) rfl
theorem q1501 : (Jvm.Cond.code ({ cls := "java/lang/AbstractStringBuilder", name := "append", desc := "(C)Ljava/lang/AbstractStringBuilder;" } : Jvm.MethodName) prog_15_method_31_code (2 : Nat) (Option.some (Jvm.ClassFile.FieldType.object "java/lang/AbstractStringBuilder"))) ∈ lw_all := lw_g (lw_at lw_m6 225 rfl) rfl
theorem q1502 : (Jvm.Cond.methodLink "java/lang/AbstractStringBuilder" (191 : Nat) ({ cls := "java/lang/StringLatin1", name := "canEncode", desc := "(C)Z" } : Jvm.MethodName)) ∈ lw_all := lw_g (lw_at lw_m6 226 rfl) rfl
theorem q1505 : (Jvm.Cond.methodLink "java/lang/AbstractStringBuilder" (197 : Nat) ({ cls := "java/lang/StringUTF16", name := "putCharSB", desc := "([BII)V" } : Jvm.MethodName)) ∈ lw_all := lw_g (lw_at lw_m6 229 rfl) rfl
theorem q2972 : (Jvm.Cond.sameMethod "java/lang/AbstractStringBuilder" "java/lang/AbstractStringBuilder" "compareTo" "(Ljava/lang/AbstractStringBuilder;)I") ∈ lw_all := lw_g (lw_at lw_m13 16 rfl) rfl
theorem q2973 : (Jvm.Cond.sameMethod "java/lang/AbstractStringBuilder" "java/lang/AbstractStringBuilder" "length" "()I") ∈ lw_all := lw_g (lw_at lw_m13 17 rfl) rfl
theorem q2974 : (Jvm.Cond.sameMethod "java/lang/AbstractStringBuilder" "java/lang/AbstractStringBuilder" "setLength" "(I)V") ∈ lw_all := lw_g (lw_at lw_m13 18 rfl) rfl
theorem q2975 : (Jvm.Cond.sameMethod "java/lang/AbstractStringBuilder" "java/lang/AbstractStringBuilder" "append" "(Ljava/lang/String;)Ljava/lang/AbstractStringBuilder;") ∈ lw_all := lw_g (lw_at lw_m13 19 rfl) rfl
theorem q2976 : (Jvm.Cond.sameMethod "java/lang/AbstractStringBuilder" "java/lang/AbstractStringBuilder" "appendNull" "()Ljava/lang/AbstractStringBuilder;") ∈ lw_all := lw_g (lw_at lw_m13 20 rfl) rfl
theorem q2977 : (Jvm.Cond.sameMethod "java/lang/AbstractStringBuilder" "java/lang/AbstractStringBuilder" "ensureCapacityInternal" "(I)V") ∈ lw_all := lw_g (lw_at lw_m13 21 rfl) rfl
theorem q2978 : (Jvm.Cond.sameMethod "java/lang/AbstractStringBuilder" "java/lang/AbstractStringBuilder" "newCapacity" "(I)I") ∈ lw_all := lw_g (lw_at lw_m13 22 rfl) rfl
theorem q2979 : (Jvm.Cond.sameMethod "java/lang/AbstractStringBuilder" "java/lang/AbstractStringBuilder" "putStringAt" "(ILjava/lang/String;)V") ∈ lw_all := lw_g (lw_at lw_m13 23 rfl) rfl
theorem q2980 : (Jvm.Cond.sameMethod "java/lang/AbstractStringBuilder" "java/lang/AbstractStringBuilder" "inflateIfNeededFor" "(Ljava/lang/String;)V") ∈ lw_all := lw_g (lw_at lw_m13 24 rfl) rfl
theorem q2981 : (Jvm.Cond.sameMethod "java/lang/AbstractStringBuilder" "java/lang/AbstractStringBuilder" "inflate" "()V") ∈ lw_all := lw_g (lw_at lw_m13 25 rfl) rfl
theorem q2982 : (Jvm.Cond.sameMethod "java/lang/AbstractStringBuilder" "java/lang/AbstractStringBuilder" "append" "(I)Ljava/lang/AbstractStringBuilder;") ∈ lw_all := lw_g (lw_at lw_m13 26 rfl) rfl
theorem q2984 : (Jvm.Cond.sameMethod "java/lang/AbstractStringBuilder" "java/lang/AbstractStringBuilder" "charAt" "(I)C") ∈ lw_all := lw_g (lw_at lw_m13 28 rfl) rfl
theorem q2985 : (Jvm.Cond.sameMethod "java/lang/AbstractStringBuilder" "java/lang/AbstractStringBuilder" "append" "(C)Ljava/lang/AbstractStringBuilder;") ∈ lw_all := lw_g (lw_at lw_m13 29 rfl) rfl

/-! java/lang/StringBuilder -/
set_option maxRecDepth 100000
def RJ26 : String := "java/lang/StringBuilder"
def TJ26 : u_T := fun k => match k with
  | 0 => ("java/lang/AbstractStringBuilder", "value", "[B", false)
  | 1 => ("java/lang/AbstractStringBuilder", "coder", "B", false)
  | 2 => ("java/lang/AbstractStringBuilder", "maybeLatin1", "Z", false)
  | _ => ("java/lang/AbstractStringBuilder", "count", "I", false)
def tyJ26 : Nat → FieldType := fun k => match k with
  | 0 => .array .byte
  | 1 => .byte
  | 2 => .boolean
  | _ => .int
abbrev wsJ260 : List Cond := u_ws RJ26 TJ26 4
theorem nmJ26 : ∀ a, a < 4 → ∀ b, b < 4 → a ≠ b → (TJ26 a).2.1 ≠ (TJ26 b).2.1 := by decide +kernel
theorem tyJ26_ok : ∀ k, k < 4 → parseFieldDescriptor (TJ26 k).2.2.1 = some (tyJ26 k) := by decide +kernel
abbrev cJ26_compareTo : ByteArray := prog_34_method_97_code
def yJ26_compareTo : MethodName := ⟨RJ26, "compareTo", "(Ljava/lang/Object;)I"⟩
def dkwJ26_compareTo_0 : List UInt8 := [42, 43, 192, 0, 24, 182, 1, 90, 172]
abbrev dktJ26_compareTo_0 : List UInt8 := dkwJ26_compareTo_0 ++ []
theorem dksJ26_compareTo_0 : cJ26_compareTo.data.toList.drop 0 = dktJ26_compareTo_0 := by decide +kernel
theorem dJ26_compareTo_0 : decode cJ26_compareTo 0 = .ok (.aload_n 0, 1) := dk_42 (dk_at dksJ26_compareTo_0 0 rfl rfl)
theorem dJ26_compareTo_1 : decode cJ26_compareTo 1 = .ok (.aload_n 1, 1) := dk_43 (dk_at dksJ26_compareTo_0 1 rfl rfl)
theorem dJ26_compareTo_2 : decode cJ26_compareTo 2 = .ok (.checkcast 24, 3) := dk_192 0 24 (dk_at dksJ26_compareTo_0 2 rfl rfl)
theorem dJ26_compareTo_5 : decode cJ26_compareTo 5 = .ok (.invokevirtual 346, 3) := dk_182 1 90 (dk_at dksJ26_compareTo_0 5 rfl rfl)
theorem dJ26_compareTo_8 : decode cJ26_compareTo 8 = .ok (.ireturn, 1) := dk_172 (dk_at dksJ26_compareTo_0 8 rfl rfl)
abbrev cJ26_compareTo_2 : ByteArray := prog_34_method_5_code
def yJ26_compareTo_2 : MethodName := ⟨RJ26, "compareTo", "(Ljava/lang/StringBuilder;)I"⟩
def dkwJ26_compareTo_2_0 : List UInt8 := [42, 43, 183, 0, 13, 172]
abbrev dktJ26_compareTo_2_0 : List UInt8 := dkwJ26_compareTo_2_0 ++ []
theorem dksJ26_compareTo_2_0 : cJ26_compareTo_2.data.toList.drop 0 = dktJ26_compareTo_2_0 := by decide +kernel
theorem dJ26_compareTo_2_0 : decode cJ26_compareTo_2 0 = .ok (.aload_n 0, 1) := dk_42 (dk_at dksJ26_compareTo_2_0 0 rfl rfl)
theorem dJ26_compareTo_2_1 : decode cJ26_compareTo_2 1 = .ok (.aload_n 1, 1) := dk_43 (dk_at dksJ26_compareTo_2_0 1 rfl rfl)
theorem dJ26_compareTo_2_2 : decode cJ26_compareTo_2 2 = .ok (.invokespecial 13, 3) := dk_183 0 13 (dk_at dksJ26_compareTo_2_0 2 rfl rfl)
theorem dJ26_compareTo_2_5 : decode cJ26_compareTo_2 5 = .ok (.ireturn, 1) := dk_172 (dk_at dksJ26_compareTo_2_0 5 rfl rfl)
abbrev cJ26_init : ByteArray := prog_34_method_1_code
def yJ26_init : MethodName := ⟨RJ26, "<init>", "()V"⟩
def dkwJ26_init_0 : List UInt8 := [42, 16, 16, 183, 0, 1, 177]
abbrev dktJ26_init_0 : List UInt8 := dkwJ26_init_0 ++ []
theorem dksJ26_init_0 : cJ26_init.data.toList.drop 0 = dktJ26_init_0 := by decide +kernel
theorem dJ26_init_0 : decode cJ26_init 0 = .ok (.aload_n 0, 1) := dk_42 (dk_at dksJ26_init_0 0 rfl rfl)
theorem dJ26_init_1 : decode cJ26_init 1 = .ok (.bipush 16, 2) := dk_16 16 (dk_at dksJ26_init_0 1 rfl rfl)
theorem dJ26_init_3 : decode cJ26_init 3 = .ok (.invokespecial 1, 3) := dk_183 0 1 (dk_at dksJ26_init_0 3 rfl rfl)
theorem dJ26_init_6 : decode cJ26_init 6 = .ok (.return_, 1) := dk_177 (dk_at dksJ26_init_0 6 rfl rfl)
abbrev cJ26_length : ByteArray := prog_34_method_93_code
def yJ26_length : MethodName := ⟨RJ26, "length", "()I"⟩
theorem dJ26_length_0 : decode cJ26_length 0 = .ok (.aload_n 0, 1) := by decide +kernel
theorem dJ26_length_1 : decode cJ26_length 1 = .ok (.invokespecial 343, 3) := by decide +kernel
theorem dJ26_length_4 : decode cJ26_length 4 = .ok (.ireturn, 1) := by decide +kernel
abbrev cJ26_setLength : ByteArray := prog_34_method_89_code
def yJ26_setLength : MethodName := ⟨RJ26, "setLength", "(I)V"⟩
def dkwJ26_setLength_0 : List UInt8 := [42, 27, 183, 1, 77, 177]
abbrev dktJ26_setLength_0 : List UInt8 := dkwJ26_setLength_0 ++ []
theorem dksJ26_setLength_0 : cJ26_setLength.data.toList.drop 0 = dktJ26_setLength_0 := by decide +kernel
theorem dJ26_setLength_0 : decode cJ26_setLength 0 = .ok (.aload_n 0, 1) := dk_42 (dk_at dksJ26_setLength_0 0 rfl rfl)
theorem dJ26_setLength_1 : decode cJ26_setLength 1 = .ok (.iload_n 1, 1) := dk_27 (dk_at dksJ26_setLength_0 1 rfl rfl)
theorem dJ26_setLength_2 : decode cJ26_setLength 2 = .ok (.invokespecial 333, 3) := dk_183 1 77 (dk_at dksJ26_setLength_0 2 rfl rfl)
theorem dJ26_setLength_5 : decode cJ26_setLength 5 = .ok (.return_, 1) := dk_177 (dk_at dksJ26_setLength_0 5 rfl rfl)
abbrev cJ26_append : ByteArray := prog_34_method_7_code
def yJ26_append : MethodName := ⟨RJ26, "append", "(Ljava/lang/String;)Ljava/lang/StringBuilder;"⟩
def dkwJ26_append_0 : List UInt8 := [42, 43, 183, 0, 29, 87, 42, 176]
abbrev dktJ26_append_0 : List UInt8 := dkwJ26_append_0 ++ []
theorem dksJ26_append_0 : cJ26_append.data.toList.drop 0 = dktJ26_append_0 := by decide +kernel
theorem dJ26_append_0 : decode cJ26_append 0 = .ok (.aload_n 0, 1) := dk_42 (dk_at dksJ26_append_0 0 rfl rfl)
theorem dJ26_append_1 : decode cJ26_append 1 = .ok (.aload_n 1, 1) := dk_43 (dk_at dksJ26_append_0 1 rfl rfl)
theorem dJ26_append_2 : decode cJ26_append 2 = .ok (.invokespecial 29, 3) := dk_183 0 29 (dk_at dksJ26_append_0 2 rfl rfl)
theorem dJ26_append_5 : decode cJ26_append 5 = .ok (.pop, 1) := dk_87 (dk_at dksJ26_append_0 5 rfl rfl)
theorem dJ26_append_6 : decode cJ26_append 6 = .ok (.aload_n 0, 1) := dk_42 (dk_at dksJ26_append_0 6 rfl rfl)
theorem dJ26_append_7 : decode cJ26_append 7 = .ok (.areturn, 1) := dk_176 (dk_at dksJ26_append_0 7 rfl rfl)
abbrev cJ26_append_2 : ByteArray := prog_34_method_15_code
def yJ26_append_2 : MethodName := ⟨RJ26, "append", "(I)Ljava/lang/StringBuilder;"⟩
def dkwJ26_append_2_0 : List UInt8 := [42, 27, 183, 0, 53, 87, 42, 176]
abbrev dktJ26_append_2_0 : List UInt8 := dkwJ26_append_2_0 ++ []
theorem dksJ26_append_2_0 : cJ26_append_2.data.toList.drop 0 = dktJ26_append_2_0 := by decide +kernel
theorem dJ26_append_2_0 : decode cJ26_append_2 0 = .ok (.aload_n 0, 1) := dk_42 (dk_at dksJ26_append_2_0 0 rfl rfl)
theorem dJ26_append_2_1 : decode cJ26_append_2 1 = .ok (.iload_n 1, 1) := dk_27 (dk_at dksJ26_append_2_0 1 rfl rfl)
theorem dJ26_append_2_2 : decode cJ26_append_2 2 = .ok (.invokespecial 53, 3) := dk_183 0 53 (dk_at dksJ26_append_2_0 2 rfl rfl)
theorem dJ26_append_2_5 : decode cJ26_append_2 5 = .ok (.pop, 1) := dk_87 (dk_at dksJ26_append_2_0 5 rfl rfl)
theorem dJ26_append_2_6 : decode cJ26_append_2 6 = .ok (.aload_n 0, 1) := dk_42 (dk_at dksJ26_append_2_0 6 rfl rfl)
theorem dJ26_append_2_7 : decode cJ26_append_2 7 = .ok (.areturn, 1) := dk_176 (dk_at dksJ26_append_2_0 7 rfl rfl)
abbrev cJ26_toString : ByteArray := prog_34_method_42_code
def yJ26_toString : MethodName := ⟨RJ26, "toString", "()Ljava/lang/String;"⟩
def dkwJ26_toString_0 : List UInt8 := [187, 0, 18, 89, 42, 183, 0, 137, 176]
abbrev dktJ26_toString_0 : List UInt8 := dkwJ26_toString_0 ++ []
theorem dksJ26_toString_0 : cJ26_toString.data.toList.drop 0 = dktJ26_toString_0 := by decide +kernel
theorem dJ26_toString_0 : decode cJ26_toString 0 = .ok (.new 18, 3) := dk_187 0 18 (dk_at dksJ26_toString_0 0 rfl rfl)
theorem dJ26_toString_3 : decode cJ26_toString 3 = .ok (.dup, 1) := dk_89 (dk_at dksJ26_toString_0 3 rfl rfl)
theorem dJ26_toString_4 : decode cJ26_toString 4 = .ok (.aload_n 0, 1) := dk_42 (dk_at dksJ26_toString_0 4 rfl rfl)
theorem dJ26_toString_5 : decode cJ26_toString 5 = .ok (.invokespecial 137, 3) := dk_183 0 137 (dk_at dksJ26_toString_0 5 rfl rfl)
theorem dJ26_toString_8 : decode cJ26_toString 8 = .ok (.areturn, 1) := dk_176 (dk_at dksJ26_toString_0 8 rfl rfl)
abbrev cJ26_charAt : ByteArray := prog_34_method_88_code
def yJ26_charAt : MethodName := ⟨RJ26, "charAt", "(I)C"⟩
def dkwJ26_charAt_0 : List UInt8 := [42, 27, 183, 1, 73, 172]
abbrev dktJ26_charAt_0 : List UInt8 := dkwJ26_charAt_0 ++ []
theorem dksJ26_charAt_0 : cJ26_charAt.data.toList.drop 0 = dktJ26_charAt_0 := by decide +kernel
theorem dJ26_charAt_0 : decode cJ26_charAt 0 = .ok (.aload_n 0, 1) := dk_42 (dk_at dksJ26_charAt_0 0 rfl rfl)
theorem dJ26_charAt_1 : decode cJ26_charAt 1 = .ok (.iload_n 1, 1) := dk_27 (dk_at dksJ26_charAt_0 1 rfl rfl)
theorem dJ26_charAt_2 : decode cJ26_charAt 2 = .ok (.invokespecial 329, 3) := dk_183 1 73 (dk_at dksJ26_charAt_0 2 rfl rfl)
theorem dJ26_charAt_5 : decode cJ26_charAt 5 = .ok (.ireturn, 1) := dk_172 (dk_at dksJ26_charAt_0 5 rfl rfl)
abbrev cJ26_append_3 : ByteArray := prog_34_method_14_code
def yJ26_append_3 : MethodName := ⟨RJ26, "append", "(C)Ljava/lang/StringBuilder;"⟩
def dkwJ26_append_3_0 : List UInt8 := [42, 27, 183, 0, 50, 87, 42, 176]
abbrev dktJ26_append_3_0 : List UInt8 := dkwJ26_append_3_0 ++ []
theorem dksJ26_append_3_0 : cJ26_append_3.data.toList.drop 0 = dktJ26_append_3_0 := by decide +kernel
theorem dJ26_append_3_0 : decode cJ26_append_3 0 = .ok (.aload_n 0, 1) := dk_42 (dk_at dksJ26_append_3_0 0 rfl rfl)
theorem dJ26_append_3_1 : decode cJ26_append_3 1 = .ok (.iload_n 1, 1) := dk_27 (dk_at dksJ26_append_3_0 1 rfl rfl)
theorem dJ26_append_3_2 : decode cJ26_append_3 2 = .ok (.invokespecial 50, 3) := dk_183 0 50 (dk_at dksJ26_append_3_0 2 rfl rfl)
theorem dJ26_append_3_5 : decode cJ26_append_3 5 = .ok (.pop, 1) := dk_87 (dk_at dksJ26_append_3_0 5 rfl rfl)
theorem dJ26_append_3_6 : decode cJ26_append_3 6 = .ok (.aload_n 0, 1) := dk_42 (dk_at dksJ26_append_3_0 6 rfl rfl)
theorem dJ26_append_3_7 : decode cJ26_append_3 7 = .ok (.areturn, 1) := dk_176 (dk_at dksJ26_append_3_0 7 rfl rfl)
theorem q111 : (Jvm.Cond.initialized "java/lang/StringBuilder") ∈ lw_all := lw_g (lw_at lw_m1 35 rfl) rfl
theorem q462 : (Jvm.Cond.selects "java/lang/StringBuilder" ({ cls := "java/lang/Object", name := "getClass", desc := "()Ljava/lang/Class;" } : Jvm.MethodName) ({ cls := "java/lang/Object", name := "getClass", desc := "()Ljava/lang/Class;" } : Jvm.MethodName)) ∈ lw_all := lw_g (lw_at lw_m2 146 rfl) rfl
theorem q824 : (Jvm.Cond.castable "java/lang/StringBuilder" "java/lang/Comparable") ∈ lw_tbl := lw_at lw_m4 28 rfl
theorem q825 : (Jvm.Cond.selects "java/lang/StringBuilder" ({ cls := "java/lang/Comparable", name := "compareTo", desc := "(Ljava/lang/Object;)I" } : Jvm.MethodName) ({ cls := "java/lang/StringBuilder", name := "compareTo", desc := "(Ljava/lang/Object;)I" } : Jvm.MethodName)) ∈ lw_all := lw_g (lw_at lw_m4 29 rfl) rfl
theorem q826 : (Jvm.Cond.unhidden "java/lang/StringBuilder" "compareTo" "(Ljava/lang/Object;)I") ∈ lw_tbl := lw_at lw_m4 30 rfl
theorem q827 : (Jvm.Cond.instanceMethod ({ cls := "java/lang/StringBuilder", name := "compareTo", desc := "(Ljava/lang/Object;)I" } : Jvm.MethodName)) ∈ lw_all := lw_g (lw_at lw_m4 31 rfl) rfl
theorem q828 : (Jvm.Cond.publicMethod ({ cls := "java/lang/StringBuilder", name := "compareTo", desc := "(Ljava/lang/Object;)I" } : Jvm.MethodName)) ∈ lw_tbl := lw_at lw_m4 32 rfl
theorem q829 : (Jvm.Cond.code ({ cls := "java/lang/StringBuilder", name := "compareTo", desc := "(Ljava/lang/Object;)I" } : Jvm.MethodName) prog_34_method_97_code (2 : Nat) (Option.some Jvm.ClassFile.FieldType.int)) ∈ lw_all := lw_g (lw_at lw_m4 33 rfl) rfl
theorem q830 : (Jvm.Cond.classLink "java/lang/StringBuilder" (24 : Nat) "java/lang/StringBuilder") ∈ lw_all := lw_g (lw_at lw_m4 34 rfl) rfl
theorem q831 : (Jvm.Cond.methodLink "java/lang/StringBuilder" (346 : Nat) ({ cls := "java/lang/StringBuilder", name := "compareTo", desc := "(Ljava/lang/StringBuilder;)I" } : Jvm.MethodName)) ∈ lw_all := lw_g (lw_at lw_m4 35 rfl) rfl
theorem q832 : (Jvm.Cond.instanceMethod ({ cls := "java/lang/StringBuilder", name := "compareTo", desc := "(Ljava/lang/StringBuilder;)I" } : Jvm.MethodName)) ∈ lw_all := lw_g (lw_at lw_m4 36 rfl) rfl
theorem q833 : (Jvm.Cond.selects "java/lang/StringBuilder" ({ cls := "java/lang/StringBuilder", name := "compareTo", desc := "(Ljava/lang/StringBuilder;)I" } : Jvm.MethodName) ({ cls := "java/lang/StringBuilder", name := "compareTo", desc := "(Ljava/lang/StringBuilder;)I" } : Jvm.MethodName)) ∈ lw_all := lw_g (lw_at lw_m4 37 rfl) rfl
theorem q834 : (Jvm.Cond.code ({ cls := "java/lang/StringBuilder", name := "compareTo", desc := "(Ljava/lang/StringBuilder;)I" } : Jvm.MethodName) prog_34_method_5_code (2 : Nat) (Option.some Jvm.ClassFile.FieldType.int)) ∈ lw_all := lw_g (lw_at lw_m4 38 rfl) rfl
theorem q835 : (Jvm.Cond.methodLink "java/lang/StringBuilder" (13 : Nat) ({ cls := "java/lang/AbstractStringBuilder", name := "compareTo", desc := "(Ljava/lang/AbstractStringBuilder;)I" } : Jvm.MethodName)) ∈ lw_all := lw_g (lw_at lw_m4 39 rfl) rfl
theorem q836 : (Jvm.Cond.superclass "java/lang/StringBuilder" "java/lang/AbstractStringBuilder") ∈ lw_all := lw_g (lw_at lw_m4 40 rfl) rfl
theorem q842 : (Jvm.Cond.selects "java/lang/StringBuilder" ({ cls := "java/lang/AbstractStringBuilder", name := "isLatin1", desc := "()Z" } : Jvm.MethodName) ({ cls := "java/lang/AbstractStringBuilder", name := "isLatin1", desc := "()Z" } : Jvm.MethodName)) ∈ lw_all := lw_g (lw_at lw_m4 46 rfl) rfl
theorem q965 : (Jvm.Cond.instantiable "java/lang/StringBuilder" (4 : Nat)) ∈ lw_all := lw_g (lw_at lw_m4 169 rfl) rfl
theorem q967 : (Jvm.Cond.instanceMethod ({ cls := "java/lang/StringBuilder", name := "<init>", desc := "()V" } : Jvm.MethodName)) ∈ lw_all := lw_g (lw_at lw_m4 171 rfl) rfl
theorem q968 : (Jvm.Cond.code ({ cls := "java/lang/StringBuilder", name := "<init>", desc := "()V" } : Jvm.MethodName) prog_34_method_1_code (1 : Nat) (Option.none : Option Jvm.ClassFile.FieldType)) ∈ lw_all := lw_g (lw_at lw_m4 172 rfl) rfl
theorem q969 : (Jvm.Cond.methodLink "java/lang/StringBuilder" (1 : Nat) ({ cls := "java/lang/AbstractStringBuilder", name := "<init>", desc := "(I)V" } : Jvm.MethodName)) ∈ lw_all := lw_g (lw_at lw_m4 173 rfl) rfl
theorem q985 : (Jvm.Cond.lays "java/lang/StringBuilder" "java/lang/AbstractStringBuilder" "value" "[B") ∈ lw_all := lw_g (lw_at lw_m4 189 rfl) rfl
theorem q987 : (Jvm.Cond.lays "java/lang/StringBuilder" "java/lang/AbstractStringBuilder" "coder" "B") ∈ lw_all := lw_g (lw_at lw_m4 191 rfl) rfl
theorem q989 : (Jvm.Cond.lays "java/lang/StringBuilder" "java/lang/AbstractStringBuilder" "maybeLatin1" "Z") ∈ lw_all := lw_g (lw_at lw_m4 193 rfl) rfl
theorem q991 : (Jvm.Cond.lays "java/lang/StringBuilder" "java/lang/AbstractStringBuilder" "count" "I") ∈ lw_all := lw_g (lw_at lw_m4 195 rfl) rfl
theorem q1182 : (Jvm.Cond.instanceMethod ({ cls := "java/lang/StringBuilder", name := "length", desc := "()I" } : Jvm.MethodName)) ∈ lw_all := lw_g (lw_at lw_m5 146 rfl) rfl
theorem q1183 : (Jvm.Cond.selects "java/lang/StringBuilder" ({ cls := "java/lang/StringBuilder", name := "length", desc := "()I" } : Jvm.MethodName) ({ cls := "java/lang/StringBuilder", name := "length", desc := "()I" } : Jvm.MethodName)) ∈ lw_all := lw_g (lw_at lw_m5 147 rfl) rfl
theorem q1184 : (Jvm.Cond.code ({ cls := "java/lang/StringBuilder", name := "length", desc := "()I" } : Jvm.MethodName) prog_34_method_93_code (1 : Nat) (Option.some Jvm.ClassFile.FieldType.int)) ∈ lw_all := lw_g (lw_at lw_m5 148 rfl) rfl
theorem q1185 : (Jvm.Cond.methodLink "java/lang/StringBuilder" (343 : Nat) ({ cls := "java/lang/AbstractStringBuilder", name := "length", desc := "()I" } : Jvm.MethodName)) ∈ lw_all := lw_g (lw_at lw_m5 149 rfl) rfl
theorem q1189 : (Jvm.Cond.instanceMethod ({ cls := "java/lang/StringBuilder", name := "setLength", desc := "(I)V" } : Jvm.MethodName)) ∈ lw_all := lw_g (lw_at lw_m5 153 rfl) rfl
theorem q1190 : (Jvm.Cond.selects "java/lang/StringBuilder" ({ cls := "java/lang/StringBuilder", name := "setLength", desc := "(I)V" } : Jvm.MethodName) ({ cls := "java/lang/StringBuilder", name := "setLength", desc := "(I)V" } : Jvm.MethodName)) ∈ lw_all := lw_g (lw_at lw_m5 154 rfl) rfl
theorem q1191 : (Jvm.Cond.code ({ cls := "java/lang/StringBuilder", name := "setLength", desc := "(I)V" } : Jvm.MethodName) prog_34_method_89_code (2 : Nat) (Option.none : Option Jvm.ClassFile.FieldType)) ∈ lw_all := lw_g (lw_at lw_m5 155 rfl) rfl
theorem q1192 : (Jvm.Cond.methodLink "java/lang/StringBuilder" (333 : Nat) ({ cls := "java/lang/AbstractStringBuilder", name := "setLength", desc := "(I)V" } : Jvm.MethodName)) ∈ lw_all := lw_g (lw_at lw_m5 156 rfl) rfl
theorem q1204 : (Jvm.Cond.instanceMethod ({ cls := "java/lang/StringBuilder", name := "append", desc := "(Ljava/lang/String;)Ljava/lang/StringBuilder;" } : Jvm.MethodName)) ∈ lw_all := lw_g (lw_at lw_m5 168 rfl) rfl
theorem q1205 : (Jvm.Cond.selects "java/lang/StringBuilder" ({ cls := "java/lang/StringBuilder", name := "append", desc := "(Ljava/lang/String;)Ljava/lang/StringBuilder;" } : Jvm.MethodName) ({ cls := "java/lang/StringBuilder", name := "append", desc := "(Ljava/lang/String;)Ljava/lang/StringBuilder;" } : Jvm.MethodName)) ∈ lw_all := lw_g (lw_at lw_m5 169 rfl) rfl
theorem q1206 : (Jvm.Cond.code ({ cls := "java/lang/StringBuilder", name := "append", desc := "(Ljava/lang/String;)Ljava/lang/StringBuilder;" } : Jvm.MethodName) prog_34_method_7_code (2 : Nat) (Option.some (Jvm.ClassFile.FieldType.object "java/lang/StringBuilder"))) ∈ lw_all := lw_g (lw_at lw_m5 170 rfl) rfl
theorem q1207 : (Jvm.Cond.methodLink "java/lang/StringBuilder" (29 : Nat) ({ cls := "java/lang/AbstractStringBuilder", name := "append", desc := "(Ljava/lang/String;)Ljava/lang/AbstractStringBuilder;" } : Jvm.MethodName)) ∈ lw_all := lw_g (lw_at lw_m5 171 rfl) rfl
theorem q1285 : (Jvm.Cond.instanceMethod ({ cls := "java/lang/StringBuilder", name := "append", desc := "(I)Ljava/lang/StringBuilder;" } : Jvm.MethodName)) ∈ lw_all := lw_g (lw_at lw_m6 9 rfl) rfl
theorem q1286 : (Jvm.Cond.selects "java/lang/StringBuilder" ({ cls := "java/lang/StringBuilder", name := "append", desc := "(I)Ljava/lang/StringBuilder;" } : Jvm.MethodName) ({ cls := "java/lang/StringBuilder", name := "append", desc := "(I)Ljava/lang/StringBuilder;" } : Jvm.MethodName)) ∈ lw_all := lw_g (lw_at lw_m6 10 rfl) rfl
theorem q1287 : (Jvm.Cond.code ({ cls := "java/lang/StringBuilder", name := "append", desc := "(I)Ljava/lang/StringBuilder;" } : Jvm.MethodName) prog_34_method_15_code (2 : Nat) (Option.some (Jvm.ClassFile.FieldType.object "java/lang/StringBuilder"))) ∈ lw_all := lw_g (lw_at lw_m6 11 rfl) rfl
theorem q1288 : (Jvm.Cond.methodLink "java/lang/StringBuilder" (53 : Nat) ({ cls := "java/lang/AbstractStringBuilder", name := "append", desc := "(I)Ljava/lang/AbstractStringBuilder;" } : Jvm.MethodName)) ∈ lw_all := lw_g (lw_at lw_m6 12 rfl) rfl
theorem q1310 : (Jvm.Cond.instanceMethod ({ cls := "java/lang/StringBuilder", name := "toString", desc := "()Ljava/lang/String;" } : Jvm.MethodName)) ∈ lw_all := lw_g (lw_at lw_m6 34 rfl) rfl
theorem q1311 : (Jvm.Cond.selects "java/lang/StringBuilder" ({ cls := "java/lang/StringBuilder", name := "toString", desc := "()Ljava/lang/String;" } : Jvm.MethodName) ({ cls := "java/lang/StringBuilder", name := "toString", desc := "()Ljava/lang/String;" } : Jvm.MethodName)) ∈ lw_all := lw_g (lw_at lw_m6 35 rfl) rfl
theorem q1312 : (Jvm.Cond.code ({ cls := "java/lang/StringBuilder", name := "toString", desc := "()Ljava/lang/String;" } : Jvm.MethodName) prog_34_method_42_code (1 : Nat) (Option.some (Jvm.ClassFile.FieldType.object "java/lang/String"))) ∈ lw_all := lw_g (lw_at lw_m6 36 rfl) rfl
theorem q1313 : (Jvm.Cond.classLink "java/lang/StringBuilder" (18 : Nat) "java/lang/String") ∈ lw_all := lw_g (lw_at lw_m6 37 rfl) rfl
theorem q1315 : (Jvm.Cond.methodLink "java/lang/StringBuilder" (137 : Nat) ({ cls := "java/lang/String", name := "<init>", desc := "(Ljava/lang/StringBuilder;)V" } : Jvm.MethodName)) ∈ lw_all := lw_g (lw_at lw_m6 39 rfl) rfl
theorem q1325 : (Jvm.Cond.selects "java/lang/StringBuilder" ({ cls := "java/lang/AbstractStringBuilder", name := "getValue", desc := "()[B" } : Jvm.MethodName) ({ cls := "java/lang/AbstractStringBuilder", name := "getValue", desc := "()[B" } : Jvm.MethodName)) ∈ lw_all := lw_g (lw_at lw_m6 49 rfl) rfl
theorem q1483 : (Jvm.Cond.instanceMethod ({ cls := "java/lang/StringBuilder", name := "charAt", desc := "(I)C" } : Jvm.MethodName)) ∈ lw_all := lw_g (lw_at lw_m6 207 rfl) rfl
theorem q1484 : (Jvm.Cond.selects "java/lang/StringBuilder" ({ cls := "java/lang/StringBuilder", name := "charAt", desc := "(I)C" } : Jvm.MethodName) ({ cls := "java/lang/StringBuilder", name := "charAt", desc := "(I)C" } : Jvm.MethodName)) ∈ lw_all := lw_g (lw_at lw_m6 208 rfl) rfl
theorem q1485 : (Jvm.Cond.code ({ cls := "java/lang/StringBuilder", name := "charAt", desc := "(I)C" } : Jvm.MethodName) prog_34_method_88_code (2 : Nat) (Option.some Jvm.ClassFile.FieldType.char)) ∈ lw_all := lw_g (lw_at lw_m6 209 rfl) rfl
theorem q1486 : (Jvm.Cond.methodLink "java/lang/StringBuilder" (329 : Nat) ({ cls := "java/lang/AbstractStringBuilder", name := "charAt", desc := "(I)C" } : Jvm.MethodName)) ∈ lw_all := lw_g (lw_at lw_m6 210 rfl) rfl
theorem q1496 : (Jvm.Cond.instanceMethod ({ cls := "java/lang/StringBuilder", name := "append", desc := "(C)Ljava/lang/StringBuilder;" } : Jvm.MethodName)) ∈ lw_all := lw_g (lw_at lw_m6 220 rfl) rfl
theorem q1497 : (Jvm.Cond.selects "java/lang/StringBuilder" ({ cls := "java/lang/StringBuilder", name := "append", desc := "(C)Ljava/lang/StringBuilder;" } : Jvm.MethodName) ({ cls := "java/lang/StringBuilder", name := "append", desc := "(C)Ljava/lang/StringBuilder;" } : Jvm.MethodName)) ∈ lw_all := lw_g (lw_at lw_m6 221 rfl) rfl
theorem q1498 : (Jvm.Cond.code ({ cls := "java/lang/StringBuilder", name := "append", desc := "(C)Ljava/lang/StringBuilder;" } : Jvm.MethodName) prog_34_method_14_code (2 : Nat) (Option.some (Jvm.ClassFile.FieldType.object "java/lang/StringBuilder"))) ∈ lw_all := lw_g (lw_at lw_m6 222 rfl) rfl
theorem q1499 : (Jvm.Cond.methodLink "java/lang/StringBuilder" (50 : Nat) ({ cls := "java/lang/AbstractStringBuilder", name := "append", desc := "(C)Ljava/lang/AbstractStringBuilder;" } : Jvm.MethodName)) ∈ lw_all := lw_g (lw_at lw_m6 223 rfl) rfl
theorem q2126 : (Jvm.Cond.selects "java/lang/StringBuilder" ({ cls := "java/lang/Object", name := "equals", desc := "(Ljava/lang/Object;)Z" } : Jvm.MethodName) ({ cls := "java/lang/Object", name := "equals", desc := "(Ljava/lang/Object;)Z" } : Jvm.MethodName)) ∈ lw_all := lw_g (lw_at lw_m9 130 rfl) rfl
theorem q2983 : (Jvm.Cond.selects "java/lang/StringBuilder" ({ cls := "java/lang/AbstractStringBuilder", name := "length", desc := "()I" } : Jvm.MethodName) ({ cls := "java/lang/StringBuilder", name := "length", desc := "()I" } : Jvm.MethodName)) ∈ lw_all := lw_g (lw_at lw_m13 27 rfl) rfl
theorem q3007 : (Jvm.Cond.castable "java/lang/StringBuilder" "java/lang/Object") ∈ lw_tbl := lw_at lw_m13 51 rfl
theorem in_J26 : ∀ w ∈ wsJ260, w ∈ lw_all := lw_in wsJ260 [985, 987, 989, 991] (by decide +kernel) (by decide +kernel)

/-! java/lang/IndexOutOfBoundsException -/
set_option maxRecDepth 100000
def RJ27 : String := "java/lang/IndexOutOfBoundsException"
def TJ27 : u_T := fun k => match k with
  | 0 => ("java/lang/Throwable", "cause", "Ljava/lang/Throwable;", false)
  | 1 => ("java/lang/Throwable", "stackTrace", "[Ljava/lang/StackTraceElement;", false)
  | 2 => ("java/lang/Throwable", "suppressedExceptions", "Ljava/util/List;", false)
  | 3 => ("java/lang/Throwable", "detailMessage", "Ljava/lang/String;", false)
  | 4 => ("java/lang/Throwable", "backtrace", "Ljava/lang/Object;", false)
  | _ => ("java/lang/Throwable", "depth", "I", false)
def tyJ27 : Nat → FieldType := fun k => match k with
  | 0 => .object "java/lang/Throwable"
  | 1 => .array (.object "java/lang/StackTraceElement")
  | 2 => .object "java/util/List"
  | 3 => .object "java/lang/String"
  | 4 => .object "java/lang/Object"
  | _ => .int
abbrev wsJ270 : List Cond := u_ws RJ27 TJ27 6
theorem nmJ27 : ∀ a, a < 6 → ∀ b, b < 6 → a ≠ b → (TJ27 a).2.1 ≠ (TJ27 b).2.1 := by decide +kernel
theorem tyJ27_ok : ∀ k, k < 6 → parseFieldDescriptor (TJ27 k).2.2.1 = some (tyJ27 k) := by decide +kernel
abbrev cJ27_init : ByteArray := prog_25_method_2_code
def yJ27_init : MethodName := ⟨RJ27, "<init>", "(Ljava/lang/String;)V"⟩
def dkwJ27_init_0 : List UInt8 := [42, 43, 183, 0, 7, 177]
abbrev dktJ27_init_0 : List UInt8 := dkwJ27_init_0 ++ []
theorem dksJ27_init_0 : cJ27_init.data.toList.drop 0 = dktJ27_init_0 := by decide +kernel
theorem dJ27_init_0 : decode cJ27_init 0 = .ok (.aload_n 0, 1) := dk_42 (dk_at dksJ27_init_0 0 rfl rfl)
theorem dJ27_init_1 : decode cJ27_init 1 = .ok (.aload_n 1, 1) := dk_43 (dk_at dksJ27_init_0 1 rfl rfl)
theorem dJ27_init_2 : decode cJ27_init 2 = .ok (.invokespecial 7, 3) := dk_183 0 7 (dk_at dksJ27_init_0 2 rfl rfl)
theorem dJ27_init_5 : decode cJ27_init 5 = .ok (.return_, 1) := dk_177 (dk_at dksJ27_init_0 5 rfl rfl)
abbrev cJ27_init_2 : ByteArray := prog_25_method_1_code
def yJ27_init_2 : MethodName := ⟨RJ27, "<init>", "()V"⟩
theorem dJ27_init_2_0 : decode cJ27_init_2 0 = .ok (.aload_n 0, 1) := by decide +kernel
theorem dJ27_init_2_1 : decode cJ27_init_2 1 = .ok (.invokespecial 1, 3) := by decide +kernel
theorem dJ27_init_2_4 : decode cJ27_init_2 4 = .ok (.return_, 1) := by decide +kernel
theorem q113 : (Jvm.Cond.initialized "java/lang/IndexOutOfBoundsException") ∈ lw_all := lw_g (lw_at lw_m1 37 rfl) rfl
theorem q231 : (Jvm.Cond.selects "java/lang/IndexOutOfBoundsException" ({ cls := "java/lang/Throwable", name := "fillInStackTrace", desc := "()Ljava/lang/Throwable;" } : Jvm.MethodName) ({ cls := "java/lang/Throwable", name := "fillInStackTrace", desc := "()Ljava/lang/Throwable;" } : Jvm.MethodName)) ∈ lw_all := lw_g (lw_at lw_m1 155 rfl) rfl
theorem q459 : (Jvm.Cond.selects "java/lang/IndexOutOfBoundsException" ({ cls := "java/lang/Object", name := "getClass", desc := "()Ljava/lang/Class;" } : Jvm.MethodName) ({ cls := "java/lang/Object", name := "getClass", desc := "()Ljava/lang/Class;" } : Jvm.MethodName)) ∈ lw_all := lw_g (lw_at lw_m2 143 rfl) rfl
theorem q1381 : (Jvm.Cond.instanceMethod ({ cls := "java/lang/IndexOutOfBoundsException", name := "<init>", desc := "(Ljava/lang/String;)V" } : Jvm.MethodName)) ∈ lw_all := lw_g (lw_at lw_m6 105 rfl) rfl
theorem q1382 : (Jvm.Cond.code ({ cls := "java/lang/IndexOutOfBoundsException", name := "<init>", desc := "(Ljava/lang/String;)V" } : Jvm.MethodName) prog_25_method_2_code (2 : Nat) (Option.none : Option Jvm.ClassFile.FieldType)) ∈ lw_all := lw_g (lw_at lw_m6 106 rfl) rfl
theorem q1383 : (Jvm.Cond.methodLink "java/lang/IndexOutOfBoundsException" (7 : Nat) ({ cls := "java/lang/RuntimeException", name := "<init>", desc := "(Ljava/lang/String;)V" } : Jvm.MethodName)) ∈ lw_all := lw_g (lw_at lw_m6 107 rfl) rfl
theorem q1406 : (Jvm.Cond.declares ({ cls := "java/lang/IndexOutOfBoundsException", name := "<init>", desc := "()V" } : Jvm.MethodName)) ∈ lw_tbl := lw_at lw_m6 130 rfl
theorem q1407 : (Jvm.Cond.declares ({ cls := "java/lang/IndexOutOfBoundsException", name := "<init>", desc := "(Ljava/lang/String;)V" } : Jvm.MethodName)) ∈ lw_tbl := lw_at lw_m6 131 rfl
theorem q1756 : (Jvm.Cond.instantiable "java/lang/IndexOutOfBoundsException" (6 : Nat)) ∈ lw_all := lw_g (lw_at lw_m8 0 rfl) rfl
theorem q1757 : (Jvm.Cond.castable "java/lang/IndexOutOfBoundsException" "java/lang/IndexOutOfBoundsException") ∈ lw_tbl := lw_at lw_m8 1 rfl
theorem q1758 : (Jvm.Cond.selects "java/lang/IndexOutOfBoundsException" ({ cls := "java/lang/Throwable", name := "fillInStackTrace", desc := "(I)Ljava/lang/Throwable;" } : Jvm.MethodName) ({ cls := "java/lang/Throwable", name := "fillInStackTrace", desc := "(I)Ljava/lang/Throwable;" } : Jvm.MethodName)) ∈ lw_all := lw_g (lw_at lw_m8 2 rfl) rfl
theorem q1759 : (Jvm.Cond.lays "java/lang/IndexOutOfBoundsException" "java/lang/Throwable" "cause" "Ljava/lang/Throwable;") ∈ lw_all := lw_g (lw_at lw_m8 3 rfl) rfl
theorem q1760 : (Jvm.Cond.lays "java/lang/IndexOutOfBoundsException" "java/lang/Throwable" "stackTrace" "[Ljava/lang/StackTraceElement;") ∈ lw_all := lw_g (lw_at lw_m8 4 rfl) rfl
theorem q1761 : (Jvm.Cond.lays "java/lang/IndexOutOfBoundsException" "java/lang/Throwable" "suppressedExceptions" "Ljava/util/List;") ∈ lw_all := lw_g (lw_at lw_m8 5 rfl) rfl
theorem q1762 : (Jvm.Cond.lays "java/lang/IndexOutOfBoundsException" "java/lang/Throwable" "detailMessage" "Ljava/lang/String;") ∈ lw_all := lw_g (lw_at lw_m8 6 rfl) rfl
theorem q1763 : (Jvm.Cond.lays "java/lang/IndexOutOfBoundsException" "java/lang/Throwable" "backtrace" "Ljava/lang/Object;") ∈ lw_all := lw_g (lw_at lw_m8 7 rfl) rfl
theorem q1765 : (Jvm.Cond.instanceMethod ({ cls := "java/lang/IndexOutOfBoundsException", name := "<init>", desc := "()V" } : Jvm.MethodName)) ∈ lw_all := lw_g (lw_at lw_m8 9 rfl) rfl
theorem q1766 : (Jvm.Cond.code ({ cls := "java/lang/IndexOutOfBoundsException", name := "<init>", desc := "()V" } : Jvm.MethodName) prog_25_method_1_code (1 : Nat) (Option.none : Option Jvm.ClassFile.FieldType)) ∈ lw_all := lw_g (lw_at lw_m8 10 rfl) rfl
theorem q1767 : (Jvm.Cond.methodLink "java/lang/IndexOutOfBoundsException" (1 : Nat) ({ cls := "java/lang/RuntimeException", name := "<init>", desc := "()V" } : Jvm.MethodName)) ∈ lw_all := lw_g (lw_at lw_m8 11 rfl) rfl
theorem q1768 : (Jvm.Cond.lays "java/lang/IndexOutOfBoundsException" "java/lang/Throwable" "depth" "I") ∈ lw_all := lw_g (lw_at lw_m8 12 rfl) rfl
theorem q1769 : (Jvm.Cond.superclass "java/lang/IndexOutOfBoundsException" "java/lang/RuntimeException") ∈ lw_all := lw_g (lw_at lw_m8 13 rfl) rfl
theorem q2120 : (Jvm.Cond.selects "java/lang/IndexOutOfBoundsException" ({ cls := "java/lang/Object", name := "equals", desc := "(Ljava/lang/Object;)Z" } : Jvm.MethodName) ({ cls := "java/lang/Object", name := "equals", desc := "(Ljava/lang/Object;)Z" } : Jvm.MethodName)) ∈ lw_all := lw_g (lw_at lw_m9 124 rfl) rfl
theorem q3010 : (Jvm.Cond.castable "java/lang/IndexOutOfBoundsException" "java/lang/Object") ∈ lw_tbl := lw_at lw_m13 54 rfl
theorem in_J27 : ∀ w ∈ wsJ270, w ∈ lw_all := lw_in wsJ270 [1759, 1760, 1761, 1762, 1763, 1768] (by decide +kernel) (by decide +kernel)

/-! java/lang/ArrayIndexOutOfBoundsException -/
set_option maxRecDepth 100000
def RJ28 : String := "java/lang/ArrayIndexOutOfBoundsException"
def TJ28 : u_T := fun k => match k with
  | 0 => ("java/lang/Throwable", "cause", "Ljava/lang/Throwable;", false)
  | 1 => ("java/lang/Throwable", "stackTrace", "[Ljava/lang/StackTraceElement;", false)
  | 2 => ("java/lang/Throwable", "suppressedExceptions", "Ljava/util/List;", false)
  | 3 => ("java/lang/Throwable", "detailMessage", "Ljava/lang/String;", false)
  | 4 => ("java/lang/Throwable", "backtrace", "Ljava/lang/Object;", false)
  | _ => ("java/lang/Throwable", "depth", "I", false)
def tyJ28 : Nat → FieldType := fun k => match k with
  | 0 => .object "java/lang/Throwable"
  | 1 => .array (.object "java/lang/StackTraceElement")
  | 2 => .object "java/util/List"
  | 3 => .object "java/lang/String"
  | 4 => .object "java/lang/Object"
  | _ => .int
abbrev wsJ280 : List Cond := u_ws RJ28 TJ28 6
theorem nmJ28 : ∀ a, a < 6 → ∀ b, b < 6 → a ≠ b → (TJ28 a).2.1 ≠ (TJ28 b).2.1 := by decide +kernel
theorem tyJ28_ok : ∀ k, k < 6 → parseFieldDescriptor (TJ28 k).2.2.1 = some (tyJ28 k) := by decide +kernel
abbrev cJ28_init : ByteArray := prog_17_method_3_code
def yJ28_init : MethodName := ⟨RJ28, "<init>", "(I)V"⟩
def dkwJ28_init_0 : List UInt8 := [42, 187, 0, 10, 89, 183, 0, 12, 18, 13, 182, 0, 15, 27, 182, 0, 19, 182, 0, 22, 183, 0, 7, 177]
abbrev dktJ28_init_0 : List UInt8 := dkwJ28_init_0 ++ []
theorem dksJ28_init_0 : cJ28_init.data.toList.drop 0 = dktJ28_init_0 := by decide +kernel
theorem dJ28_init_0 : decode cJ28_init 0 = .ok (.aload_n 0, 1) := dk_42 (dk_at dksJ28_init_0 0 rfl rfl)
theorem dJ28_init_1 : decode cJ28_init 1 = .ok (.new 10, 3) := dk_187 0 10 (dk_at dksJ28_init_0 1 rfl rfl)
theorem dJ28_init_4 : decode cJ28_init 4 = .ok (.dup, 1) := dk_89 (dk_at dksJ28_init_0 4 rfl rfl)
theorem dJ28_init_5 : decode cJ28_init 5 = .ok (.invokespecial 12, 3) := dk_183 0 12 (dk_at dksJ28_init_0 5 rfl rfl)
theorem dJ28_init_8 : decode cJ28_init 8 = .ok (.ldc 13, 2) := dk_18 13 (dk_at dksJ28_init_0 8 rfl rfl)
theorem dJ28_init_10 : decode cJ28_init 10 = .ok (.invokevirtual 15, 3) := dk_182 0 15 (dk_at dksJ28_init_0 10 rfl rfl)
theorem dJ28_init_13 : decode cJ28_init 13 = .ok (.iload_n 1, 1) := dk_27 (dk_at dksJ28_init_0 13 rfl rfl)
theorem dJ28_init_14 : decode cJ28_init 14 = .ok (.invokevirtual 19, 3) := dk_182 0 19 (dk_at dksJ28_init_0 14 rfl rfl)
theorem dJ28_init_17 : decode cJ28_init 17 = .ok (.invokevirtual 22, 3) := dk_182 0 22 (dk_at dksJ28_init_0 17 rfl rfl)
theorem dJ28_init_20 : decode cJ28_init 20 = .ok (.invokespecial 7, 3) := dk_183 0 7 (dk_at dksJ28_init_0 20 rfl rfl)
theorem dJ28_init_23 : decode cJ28_init 23 = .ok (.return_, 1) := dk_177 (dk_at dksJ28_init_0 23 rfl rfl)
abbrev cJ28_init_2 : ByteArray := prog_17_method_2_code
def yJ28_init_2 : MethodName := ⟨RJ28, "<init>", "(Ljava/lang/String;)V"⟩
def dkwJ28_init_2_0 : List UInt8 := [42, 43, 183, 0, 7, 177]
abbrev dktJ28_init_2_0 : List UInt8 := dkwJ28_init_2_0 ++ []
theorem dksJ28_init_2_0 : cJ28_init_2.data.toList.drop 0 = dktJ28_init_2_0 := by decide +kernel
theorem dJ28_init_2_0 : decode cJ28_init_2 0 = .ok (.aload_n 0, 1) := dk_42 (dk_at dksJ28_init_2_0 0 rfl rfl)
theorem dJ28_init_2_1 : decode cJ28_init_2 1 = .ok (.aload_n 1, 1) := dk_43 (dk_at dksJ28_init_2_0 1 rfl rfl)
theorem dJ28_init_2_2 : decode cJ28_init_2 2 = .ok (.invokespecial 7, 3) := dk_183 0 7 (dk_at dksJ28_init_2_0 2 rfl rfl)
theorem dJ28_init_2_5 : decode cJ28_init_2 5 = .ok (.return_, 1) := dk_177 (dk_at dksJ28_init_2_0 5 rfl rfl)
theorem q114 : (Jvm.Cond.initialized "java/lang/ArrayIndexOutOfBoundsException") ∈ lw_all := lw_g (lw_at lw_m1 38 rfl) rfl
theorem q229 : (Jvm.Cond.selects "java/lang/ArrayIndexOutOfBoundsException" ({ cls := "java/lang/Throwable", name := "fillInStackTrace", desc := "()Ljava/lang/Throwable;" } : Jvm.MethodName) ({ cls := "java/lang/Throwable", name := "fillInStackTrace", desc := "()Ljava/lang/Throwable;" } : Jvm.MethodName)) ∈ lw_all := lw_g (lw_at lw_m1 153 rfl) rfl
theorem q456 : (Jvm.Cond.selects "java/lang/ArrayIndexOutOfBoundsException" ({ cls := "java/lang/Object", name := "getClass", desc := "()Ljava/lang/Class;" } : Jvm.MethodName) ({ cls := "java/lang/Object", name := "getClass", desc := "()Ljava/lang/Class;" } : Jvm.MethodName)) ∈ lw_all := lw_g (lw_at lw_m2 140 rfl) rfl
theorem q1404 : (Jvm.Cond.instantiable "java/lang/ArrayIndexOutOfBoundsException" (6 : Nat)) ∈ lw_all := lw_g (lw_at lw_m6 128 rfl) rfl
theorem q1405 : (Jvm.Cond.castable "java/lang/ArrayIndexOutOfBoundsException" "java/lang/ArrayIndexOutOfBoundsException") ∈ lw_tbl := lw_at lw_m6 129 rfl
theorem q1408 : (Jvm.Cond.selects "java/lang/ArrayIndexOutOfBoundsException" ({ cls := "java/lang/Throwable", name := "fillInStackTrace", desc := "(I)Ljava/lang/Throwable;" } : Jvm.MethodName) ({ cls := "java/lang/Throwable", name := "fillInStackTrace", desc := "(I)Ljava/lang/Throwable;" } : Jvm.MethodName)) ∈ lw_all := lw_g (lw_at lw_m6 132 rfl) rfl
theorem q1409 : (Jvm.Cond.lays "java/lang/ArrayIndexOutOfBoundsException" "java/lang/Throwable" "cause" "Ljava/lang/Throwable;") ∈ lw_all := lw_g (lw_at lw_m6 133 rfl) rfl
theorem q1410 : (Jvm.Cond.lays "java/lang/ArrayIndexOutOfBoundsException" "java/lang/Throwable" "stackTrace" "[Ljava/lang/StackTraceElement;") ∈ lw_all := lw_g (lw_at lw_m6 134 rfl) rfl
theorem q1411 : (Jvm.Cond.lays "java/lang/ArrayIndexOutOfBoundsException" "java/lang/Throwable" "suppressedExceptions" "Ljava/util/List;") ∈ lw_all := lw_g (lw_at lw_m6 135 rfl) rfl
theorem q1412 : (Jvm.Cond.lays "java/lang/ArrayIndexOutOfBoundsException" "java/lang/Throwable" "detailMessage" "Ljava/lang/String;") ∈ lw_all := lw_g (lw_at lw_m6 136 rfl) rfl
theorem q1413 : (Jvm.Cond.lays "java/lang/ArrayIndexOutOfBoundsException" "java/lang/Throwable" "backtrace" "Ljava/lang/Object;") ∈ lw_all := lw_g (lw_at lw_m6 137 rfl) rfl
theorem q1415 : (Jvm.Cond.instanceMethod ({ cls := "java/lang/ArrayIndexOutOfBoundsException", name := "<init>", desc := "(I)V" } : Jvm.MethodName)) ∈ lw_all := lw_g (lw_at lw_m6 139 rfl) rfl
theorem q1416 : (Jvm.Cond.code ({ cls := "java/lang/ArrayIndexOutOfBoundsException", name := "<init>", desc := "(I)V" } : Jvm.MethodName) prog_17_method_3_code (2 : Nat) (Option.none : Option Jvm.ClassFile.FieldType)) ∈ lw_all := lw_g (lw_at lw_m6 140 rfl) rfl
theorem q1417 : (Jvm.Cond.classLink "java/lang/ArrayIndexOutOfBoundsException" (10 : Nat) "java/lang/StringBuilder") ∈ lw_all := lw_g (lw_at lw_m6 141 rfl) rfl
theorem q1418 : (Jvm.Cond.methodLink "java/lang/ArrayIndexOutOfBoundsException" (12 : Nat) ({ cls := "java/lang/StringBuilder", name := "<init>", desc := "()V" } : Jvm.MethodName)) ∈ lw_all := lw_g (lw_at lw_m6 142 rfl) rfl
theorem q1419 : (Jvm.Cond.stringRef "java/lang/ArrayIndexOutOfBoundsException" (13 : Nat) "Array index out of range: ") ∈ lw_tbl := lw_at lw_m6 143 rfl
theorem q1420 : (Jvm.Cond.methodLink "java/lang/ArrayIndexOutOfBoundsException" (15 : Nat) ({ cls := "java/lang/StringBuilder", name := "append", desc := "(Ljava/lang/String;)Ljava/lang/StringBuilder;" } : Jvm.MethodName)) ∈ lw_all := lw_g (lw_at lw_m6 144 rfl) rfl
theorem q1421 : (Jvm.Cond.methodLink "java/lang/ArrayIndexOutOfBoundsException" (19 : Nat) ({ cls := "java/lang/StringBuilder", name := "append", desc := "(I)Ljava/lang/StringBuilder;" } : Jvm.MethodName)) ∈ lw_all := lw_g (lw_at lw_m6 145 rfl) rfl
theorem q1422 : (Jvm.Cond.methodLink "java/lang/ArrayIndexOutOfBoundsException" (22 : Nat) ({ cls := "java/lang/StringBuilder", name := "toString", desc := "()Ljava/lang/String;" } : Jvm.MethodName)) ∈ lw_all := lw_g (lw_at lw_m6 146 rfl) rfl
theorem q1423 : (Jvm.Cond.methodLink "java/lang/ArrayIndexOutOfBoundsException" (7 : Nat) ({ cls := "java/lang/IndexOutOfBoundsException", name := "<init>", desc := "(Ljava/lang/String;)V" } : Jvm.MethodName)) ∈ lw_all := lw_g (lw_at lw_m6 147 rfl) rfl
theorem q1424 : (Jvm.Cond.lays "java/lang/ArrayIndexOutOfBoundsException" "java/lang/Throwable" "depth" "I") ∈ lw_all := lw_g (lw_at lw_m6 148 rfl) rfl
theorem q1425 : (Jvm.Cond.superclass "java/lang/ArrayIndexOutOfBoundsException" "java/lang/IndexOutOfBoundsException") ∈ lw_all := lw_g (lw_at lw_m6 149 rfl) rfl
theorem q1740 : (Jvm.Cond.instanceMethod ({ cls := "java/lang/ArrayIndexOutOfBoundsException", name := "<init>", desc := "(Ljava/lang/String;)V" } : Jvm.MethodName)) ∈ lw_all := lw_g (lw_at lw_m7 224 rfl) rfl
theorem q1741 : (Jvm.Cond.code ({ cls := "java/lang/ArrayIndexOutOfBoundsException", name := "<init>", desc := "(Ljava/lang/String;)V" } : Jvm.MethodName) prog_17_method_2_code (2 : Nat) (Option.none : Option Jvm.ClassFile.FieldType)) ∈ lw_all := lw_g (lw_at lw_m7 225 rfl) rfl
theorem q2117 : (Jvm.Cond.selects "java/lang/ArrayIndexOutOfBoundsException" ({ cls := "java/lang/Object", name := "equals", desc := "(Ljava/lang/Object;)Z" } : Jvm.MethodName) ({ cls := "java/lang/Object", name := "equals", desc := "(Ljava/lang/Object;)Z" } : Jvm.MethodName)) ∈ lw_all := lw_g (lw_at lw_m9 121 rfl) rfl
theorem q2988 : (Jvm.Cond.castable "java/lang/ArrayIndexOutOfBoundsException" "java/lang/IndexOutOfBoundsException") ∈ lw_tbl := lw_at lw_m13 32 rfl
theorem q3009 : (Jvm.Cond.castable "java/lang/ArrayIndexOutOfBoundsException" "java/lang/Object") ∈ lw_tbl := lw_at lw_m13 53 rfl
theorem in_J28 : ∀ w ∈ wsJ280, w ∈ lw_all := lw_in wsJ280 [1409, 1410, 1411, 1412, 1413, 1424] (by decide +kernel) (by decide +kernel)

/-! java/lang/IllegalStateException -/
set_option maxRecDepth 100000
def RJ29 : String := "java/lang/IllegalStateException"
def TJ29 : u_T := fun k => match k with
  | 0 => ("java/lang/Throwable", "cause", "Ljava/lang/Throwable;", false)
  | 1 => ("java/lang/Throwable", "stackTrace", "[Ljava/lang/StackTraceElement;", false)
  | 2 => ("java/lang/Throwable", "suppressedExceptions", "Ljava/util/List;", false)
  | 3 => ("java/lang/Throwable", "detailMessage", "Ljava/lang/String;", false)
  | 4 => ("java/lang/Throwable", "backtrace", "Ljava/lang/Object;", false)
  | _ => ("java/lang/Throwable", "depth", "I", false)
def tyJ29 : Nat → FieldType := fun k => match k with
  | 0 => .object "java/lang/Throwable"
  | 1 => .array (.object "java/lang/StackTraceElement")
  | 2 => .object "java/util/List"
  | 3 => .object "java/lang/String"
  | 4 => .object "java/lang/Object"
  | _ => .int
abbrev wsJ290 : List Cond := u_ws RJ29 TJ29 6
theorem nmJ29 : ∀ a, a < 6 → ∀ b, b < 6 → a ≠ b → (TJ29 a).2.1 ≠ (TJ29 b).2.1 := by decide +kernel
theorem tyJ29_ok : ∀ k, k < 6 → parseFieldDescriptor (TJ29 k).2.2.1 = some (tyJ29 k) := by decide +kernel
abbrev cJ29_init : ByteArray := prog_24_method_1_code
def yJ29_init : MethodName := ⟨RJ29, "<init>", "()V"⟩
theorem dJ29_init_0 : decode cJ29_init 0 = .ok (.aload_n 0, 1) := by decide +kernel
theorem dJ29_init_1 : decode cJ29_init 1 = .ok (.invokespecial 1, 3) := by decide +kernel
theorem dJ29_init_4 : decode cJ29_init 4 = .ok (.return_, 1) := by decide +kernel
abbrev cJ29_init_2 : ByteArray := prog_24_method_2_code
def yJ29_init_2 : MethodName := ⟨RJ29, "<init>", "(Ljava/lang/String;)V"⟩
def dkwJ29_init_2_0 : List UInt8 := [42, 43, 183, 0, 7, 177]
abbrev dktJ29_init_2_0 : List UInt8 := dkwJ29_init_2_0 ++ []
theorem dksJ29_init_2_0 : cJ29_init_2.data.toList.drop 0 = dktJ29_init_2_0 := by decide +kernel
theorem dJ29_init_2_0 : decode cJ29_init_2 0 = .ok (.aload_n 0, 1) := dk_42 (dk_at dksJ29_init_2_0 0 rfl rfl)
theorem dJ29_init_2_1 : decode cJ29_init_2 1 = .ok (.aload_n 1, 1) := dk_43 (dk_at dksJ29_init_2_0 1 rfl rfl)
theorem dJ29_init_2_2 : decode cJ29_init_2 2 = .ok (.invokespecial 7, 3) := dk_183 0 7 (dk_at dksJ29_init_2_0 2 rfl rfl)
theorem dJ29_init_2_5 : decode cJ29_init_2 5 = .ok (.return_, 1) := dk_177 (dk_at dksJ29_init_2_0 5 rfl rfl)
theorem q115 : (Jvm.Cond.initialized "java/lang/IllegalStateException") ∈ lw_all := lw_g (lw_at lw_m1 39 rfl) rfl
theorem q230 : (Jvm.Cond.selects "java/lang/IllegalStateException" ({ cls := "java/lang/Throwable", name := "fillInStackTrace", desc := "()Ljava/lang/Throwable;" } : Jvm.MethodName) ({ cls := "java/lang/Throwable", name := "fillInStackTrace", desc := "()Ljava/lang/Throwable;" } : Jvm.MethodName)) ∈ lw_all := lw_g (lw_at lw_m1 154 rfl) rfl
theorem q458 : (Jvm.Cond.selects "java/lang/IllegalStateException" ({ cls := "java/lang/Object", name := "getClass", desc := "()Ljava/lang/Class;" } : Jvm.MethodName) ({ cls := "java/lang/Object", name := "getClass", desc := "()Ljava/lang/Class;" } : Jvm.MethodName)) ∈ lw_all := lw_g (lw_at lw_m2 142 rfl) rfl
theorem q1778 : (Jvm.Cond.instantiable "java/lang/IllegalStateException" (6 : Nat)) ∈ lw_all := lw_g (lw_at lw_m8 22 rfl) rfl
theorem q1779 : (Jvm.Cond.castable "java/lang/IllegalStateException" "java/lang/IllegalStateException") ∈ lw_tbl := lw_at lw_m8 23 rfl
theorem q1780 : (Jvm.Cond.selects "java/lang/IllegalStateException" ({ cls := "java/lang/Throwable", name := "fillInStackTrace", desc := "(I)Ljava/lang/Throwable;" } : Jvm.MethodName) ({ cls := "java/lang/Throwable", name := "fillInStackTrace", desc := "(I)Ljava/lang/Throwable;" } : Jvm.MethodName)) ∈ lw_all := lw_g (lw_at lw_m8 24 rfl) rfl
theorem q1781 : (Jvm.Cond.lays "java/lang/IllegalStateException" "java/lang/Throwable" "cause" "Ljava/lang/Throwable;") ∈ lw_all := lw_g (lw_at lw_m8 25 rfl) rfl
theorem q1782 : (Jvm.Cond.lays "java/lang/IllegalStateException" "java/lang/Throwable" "stackTrace" "[Ljava/lang/StackTraceElement;") ∈ lw_all := lw_g (lw_at lw_m8 26 rfl) rfl
theorem q1783 : (Jvm.Cond.lays "java/lang/IllegalStateException" "java/lang/Throwable" "suppressedExceptions" "Ljava/util/List;") ∈ lw_all := lw_g (lw_at lw_m8 27 rfl) rfl
theorem q1784 : (Jvm.Cond.lays "java/lang/IllegalStateException" "java/lang/Throwable" "detailMessage" "Ljava/lang/String;") ∈ lw_all := lw_g (lw_at lw_m8 28 rfl) rfl
theorem q1785 : (Jvm.Cond.lays "java/lang/IllegalStateException" "java/lang/Throwable" "backtrace" "Ljava/lang/Object;") ∈ lw_all := lw_g (lw_at lw_m8 29 rfl) rfl
theorem q1787 : (Jvm.Cond.instanceMethod ({ cls := "java/lang/IllegalStateException", name := "<init>", desc := "()V" } : Jvm.MethodName)) ∈ lw_all := lw_g (lw_at lw_m8 31 rfl) rfl
theorem q1788 : (Jvm.Cond.code ({ cls := "java/lang/IllegalStateException", name := "<init>", desc := "()V" } : Jvm.MethodName) prog_24_method_1_code (1 : Nat) (Option.none : Option Jvm.ClassFile.FieldType)) ∈ lw_all := lw_g (lw_at lw_m8 32 rfl) rfl
theorem q1789 : (Jvm.Cond.methodLink "java/lang/IllegalStateException" (1 : Nat) ({ cls := "java/lang/RuntimeException", name := "<init>", desc := "()V" } : Jvm.MethodName)) ∈ lw_all := lw_g (lw_at lw_m8 33 rfl) rfl
theorem q1790 : (Jvm.Cond.lays "java/lang/IllegalStateException" "java/lang/Throwable" "depth" "I") ∈ lw_all := lw_g (lw_at lw_m8 34 rfl) rfl
theorem q1791 : (Jvm.Cond.superclass "java/lang/IllegalStateException" "java/lang/RuntimeException") ∈ lw_all := lw_g (lw_at lw_m8 35 rfl) rfl
theorem q1841 : (Jvm.Cond.instanceMethod ({ cls := "java/lang/IllegalStateException", name := "<init>", desc := "(Ljava/lang/String;)V" } : Jvm.MethodName)) ∈ lw_all := lw_g (lw_at lw_m8 85 rfl) rfl
theorem q1842 : (Jvm.Cond.code ({ cls := "java/lang/IllegalStateException", name := "<init>", desc := "(Ljava/lang/String;)V" } : Jvm.MethodName) prog_24_method_2_code (2 : Nat) (Option.none : Option Jvm.ClassFile.FieldType)) ∈ lw_all := lw_g (lw_at lw_m8 86 rfl) rfl
theorem q1843 : (Jvm.Cond.methodLink "java/lang/IllegalStateException" (7 : Nat) ({ cls := "java/lang/RuntimeException", name := "<init>", desc := "(Ljava/lang/String;)V" } : Jvm.MethodName)) ∈ lw_all := lw_g (lw_at lw_m8 87 rfl) rfl
theorem q2119 : (Jvm.Cond.selects "java/lang/IllegalStateException" ({ cls := "java/lang/Object", name := "equals", desc := "(Ljava/lang/Object;)Z" } : Jvm.MethodName) ({ cls := "java/lang/Object", name := "equals", desc := "(Ljava/lang/Object;)Z" } : Jvm.MethodName)) ∈ lw_all := lw_g (lw_at lw_m9 123 rfl) rfl
theorem q3011 : (Jvm.Cond.castable "java/lang/IllegalStateException" "java/lang/Object") ∈ lw_tbl := lw_at lw_m13 55 rfl
theorem in_J29 : ∀ w ∈ wsJ290, w ∈ lw_all := lw_in wsJ290 [1781, 1782, 1783, 1784, 1785, 1790] (by decide +kernel) (by decide +kernel)

/-! java/util/AbstractQueue -/
set_option maxRecDepth 100000
def RJ3 : String := "java/util/AbstractQueue"
abbrev cJ3_init : ByteArray := prog_46_method_1_code
def yJ3_init : MethodName := ⟨RJ3, "<init>", "()V"⟩
theorem dJ3_init_0 : decode cJ3_init 0 = .ok (.aload_n 0, 1) := by decide +kernel
theorem dJ3_init_1 : decode cJ3_init 1 = .ok (.invokespecial 1, 3) := by decide +kernel
theorem dJ3_init_4 : decode cJ3_init 4 = .ok (.return_, 1) := by decide +kernel
theorem q82 : (Jvm.Cond.initialized "java/util/AbstractQueue") ∈ lw_all := lw_g (lw_at lw_m1 6 rfl) rfl
theorem q193 : (Jvm.Cond.instanceMethod ({ cls := "java/util/AbstractQueue", name := "<init>", desc := "()V" } : Jvm.MethodName)) ∈ lw_all := lw_g (lw_at lw_m1 117 rfl) rfl
theorem q194 : (Jvm.Cond.code ({ cls := "java/util/AbstractQueue", name := "<init>", desc := "()V" } : Jvm.MethodName) prog_46_method_1_code (1 : Nat) (Option.none : Option Jvm.ClassFile.FieldType)) ∈ lw_all := lw_g (lw_at lw_m1 118 rfl) rfl
theorem q195 : (Jvm.Cond.methodLink "java/util/AbstractQueue" (1 : Nat) ({ cls := "java/util/AbstractCollection", name := "<init>", desc := "()V" } : Jvm.MethodName)) ∈ lw_all := lw_g (lw_at lw_m1 119 rfl) rfl

/-! java/util/NoSuchElementException -/
set_option maxRecDepth 100000
def RJ30 : String := "java/util/NoSuchElementException"
def TJ30 : u_T := fun k => match k with
  | 0 => ("java/lang/Throwable", "cause", "Ljava/lang/Throwable;", false)
  | 1 => ("java/lang/Throwable", "stackTrace", "[Ljava/lang/StackTraceElement;", false)
  | 2 => ("java/lang/Throwable", "suppressedExceptions", "Ljava/util/List;", false)
  | 3 => ("java/lang/Throwable", "detailMessage", "Ljava/lang/String;", false)
  | 4 => ("java/lang/Throwable", "backtrace", "Ljava/lang/Object;", false)
  | _ => ("java/lang/Throwable", "depth", "I", false)
def tyJ30 : Nat → FieldType := fun k => match k with
  | 0 => .object "java/lang/Throwable"
  | 1 => .array (.object "java/lang/StackTraceElement")
  | 2 => .object "java/util/List"
  | 3 => .object "java/lang/String"
  | 4 => .object "java/lang/Object"
  | _ => .int
abbrev wsJ300 : List Cond := u_ws RJ30 TJ30 6
theorem nmJ30 : ∀ a, a < 6 → ∀ b, b < 6 → a ≠ b → (TJ30 a).2.1 ≠ (TJ30 b).2.1 := by decide +kernel
theorem tyJ30_ok : ∀ k, k < 6 → parseFieldDescriptor (TJ30 k).2.2.1 = some (tyJ30 k) := by decide +kernel
abbrev cJ30_init : ByteArray := prog_59_method_1_code
def yJ30_init : MethodName := ⟨RJ30, "<init>", "()V"⟩
theorem dJ30_init_0 : decode cJ30_init 0 = .ok (.aload_n 0, 1) := by decide +kernel
theorem dJ30_init_1 : decode cJ30_init 1 = .ok (.invokespecial 1, 3) := by decide +kernel
theorem dJ30_init_4 : decode cJ30_init 4 = .ok (.return_, 1) := by decide +kernel
theorem q116 : (Jvm.Cond.initialized "java/util/NoSuchElementException") ∈ lw_all := lw_g (lw_at lw_m1 40 rfl) rfl
theorem q233 : (Jvm.Cond.selects "java/util/NoSuchElementException" ({ cls := "java/lang/Throwable", name := "fillInStackTrace", desc := "()Ljava/lang/Throwable;" } : Jvm.MethodName) ({ cls := "java/lang/Throwable", name := "fillInStackTrace", desc := "()Ljava/lang/Throwable;" } : Jvm.MethodName)) ∈ lw_all := lw_g (lw_at lw_m1 157 rfl) rfl
theorem q467 : (Jvm.Cond.selects "java/util/NoSuchElementException" ({ cls := "java/lang/Object", name := "getClass", desc := "()Ljava/lang/Class;" } : Jvm.MethodName) ({ cls := "java/lang/Object", name := "getClass", desc := "()Ljava/lang/Class;" } : Jvm.MethodName)) ∈ lw_all := lw_g (lw_at lw_m2 151 rfl) rfl
theorem q1811 : (Jvm.Cond.instantiable "java/util/NoSuchElementException" (6 : Nat)) ∈ lw_all := lw_g (lw_at lw_m8 55 rfl) rfl
theorem q1812 : (Jvm.Cond.castable "java/util/NoSuchElementException" "java/util/NoSuchElementException") ∈ lw_tbl := lw_at lw_m8 56 rfl
theorem q1813 : (Jvm.Cond.selects "java/util/NoSuchElementException" ({ cls := "java/lang/Throwable", name := "fillInStackTrace", desc := "(I)Ljava/lang/Throwable;" } : Jvm.MethodName) ({ cls := "java/lang/Throwable", name := "fillInStackTrace", desc := "(I)Ljava/lang/Throwable;" } : Jvm.MethodName)) ∈ lw_all := lw_g (lw_at lw_m8 57 rfl) rfl
theorem q1814 : (Jvm.Cond.lays "java/util/NoSuchElementException" "java/lang/Throwable" "cause" "Ljava/lang/Throwable;") ∈ lw_all := lw_g (lw_at lw_m8 58 rfl) rfl
theorem q1815 : (Jvm.Cond.lays "java/util/NoSuchElementException" "java/lang/Throwable" "stackTrace" "[Ljava/lang/StackTraceElement;") ∈ lw_all := lw_g (lw_at lw_m8 59 rfl) rfl
theorem q1816 : (Jvm.Cond.lays "java/util/NoSuchElementException" "java/lang/Throwable" "suppressedExceptions" "Ljava/util/List;") ∈ lw_all := lw_g (lw_at lw_m8 60 rfl) rfl
theorem q1817 : (Jvm.Cond.lays "java/util/NoSuchElementException" "java/lang/Throwable" "detailMessage" "Ljava/lang/String;") ∈ lw_all := lw_g (lw_at lw_m8 61 rfl) rfl
theorem q1818 : (Jvm.Cond.lays "java/util/NoSuchElementException" "java/lang/Throwable" "backtrace" "Ljava/lang/Object;") ∈ lw_all := lw_g (lw_at lw_m8 62 rfl) rfl
theorem q1820 : (Jvm.Cond.instanceMethod ({ cls := "java/util/NoSuchElementException", name := "<init>", desc := "()V" } : Jvm.MethodName)) ∈ lw_all := lw_g (lw_at lw_m8 64 rfl) rfl
theorem q1821 : (Jvm.Cond.code ({ cls := "java/util/NoSuchElementException", name := "<init>", desc := "()V" } : Jvm.MethodName) prog_59_method_1_code (1 : Nat) (Option.none : Option Jvm.ClassFile.FieldType)) ∈ lw_all := lw_g (lw_at lw_m8 65 rfl) rfl
theorem q1822 : (Jvm.Cond.methodLink "java/util/NoSuchElementException" (1 : Nat) ({ cls := "java/lang/RuntimeException", name := "<init>", desc := "()V" } : Jvm.MethodName)) ∈ lw_all := lw_g (lw_at lw_m8 66 rfl) rfl
theorem q1823 : (Jvm.Cond.lays "java/util/NoSuchElementException" "java/lang/Throwable" "depth" "I") ∈ lw_all := lw_g (lw_at lw_m8 67 rfl) rfl
theorem q1824 : (Jvm.Cond.superclass "java/util/NoSuchElementException" "java/lang/RuntimeException") ∈ lw_all := lw_g (lw_at lw_m8 68 rfl) rfl
theorem q3012 : (Jvm.Cond.castable "java/util/NoSuchElementException" "java/lang/Object") ∈ lw_tbl := lw_at lw_m13 56 rfl
theorem in_J30 : ∀ w ∈ wsJ300, w ∈ lw_all := lw_in wsJ300 [1814, 1815, 1816, 1817, 1818, 1823] (by decide +kernel) (by decide +kernel)

/-! java/lang/Enum -/
set_option maxRecDepth 100000
def RJ31 : String := "java/lang/Enum"
abbrev cJ31_compareTo : ByteArray := prog_21_method_15_code
def yJ31_compareTo : MethodName := ⟨RJ31, "compareTo", "(Ljava/lang/Object;)I"⟩
def dkwJ31_compareTo_0 : List UInt8 := [42, 43, 192, 0, 2, 182, 0, 101, 172]
abbrev dktJ31_compareTo_0 : List UInt8 := dkwJ31_compareTo_0 ++ []
theorem dksJ31_compareTo_0 : cJ31_compareTo.data.toList.drop 0 = dktJ31_compareTo_0 := by decide +kernel
theorem dJ31_compareTo_0 : decode cJ31_compareTo 0 = .ok (.aload_n 0, 1) := dk_42 (dk_at dksJ31_compareTo_0 0 rfl rfl)
theorem dJ31_compareTo_1 : decode cJ31_compareTo 1 = .ok (.aload_n 1, 1) := dk_43 (dk_at dksJ31_compareTo_0 1 rfl rfl)
theorem dJ31_compareTo_2 : decode cJ31_compareTo 2 = .ok (.checkcast 2, 3) := dk_192 0 2 (dk_at dksJ31_compareTo_0 2 rfl rfl)
theorem dJ31_compareTo_5 : decode cJ31_compareTo 5 = .ok (.invokevirtual 101, 3) := dk_182 0 101 (dk_at dksJ31_compareTo_0 5 rfl rfl)
theorem dJ31_compareTo_8 : decode cJ31_compareTo 8 = .ok (.ireturn, 1) := dk_172 (dk_at dksJ31_compareTo_0 8 rfl rfl)
abbrev cJ31_compareTo_2 : ByteArray := prog_21_method_8_code
def yJ31_compareTo_2 : MethodName := ⟨RJ31, "compareTo", "(Ljava/lang/Enum;)I"⟩
def dkwJ31_compareTo_2_1 : List UInt8 := [165, 0, 11, 187, 0, 36, 89, 183, 0, 38, 191, 45, 180, 0, 7, 44, 180, 0, 7, 100, 172]
abbrev dktJ31_compareTo_2_1 : List UInt8 := dkwJ31_compareTo_2_1 ++ []
def dkwJ31_compareTo_2_0 : List UInt8 := [43, 77, 42, 78, 45, 182, 0, 29, 44, 182, 0, 29, 165, 0, 22, 45, 182, 0, 33, 44, 182, 0, 33]
abbrev dktJ31_compareTo_2_0 : List UInt8 := dkwJ31_compareTo_2_0 ++ dktJ31_compareTo_2_1
theorem dksJ31_compareTo_2_0 : cJ31_compareTo_2.data.toList.drop 0 = dktJ31_compareTo_2_0 := by decide +kernel
theorem dksJ31_compareTo_2_1 : cJ31_compareTo_2.data.toList.drop 23 = dktJ31_compareTo_2_1 := dk_seg dksJ31_compareTo_2_0 23 rfl rfl
theorem dJ31_compareTo_2_0 : decode cJ31_compareTo_2 0 = .ok (.aload_n 1, 1) := dk_43 (dk_at dksJ31_compareTo_2_0 0 rfl rfl)
theorem dJ31_compareTo_2_1 : decode cJ31_compareTo_2 1 = .ok (.astore_n 2, 1) := dk_77 (dk_at dksJ31_compareTo_2_0 1 rfl rfl)
theorem dJ31_compareTo_2_2 : decode cJ31_compareTo_2 2 = .ok (.aload_n 0, 1) := dk_42 (dk_at dksJ31_compareTo_2_0 2 rfl rfl)
theorem dJ31_compareTo_2_3 : decode cJ31_compareTo_2 3 = .ok (.astore_n 3, 1) := dk_78 (dk_at dksJ31_compareTo_2_0 3 rfl rfl)
theorem dJ31_compareTo_2_4 : decode cJ31_compareTo_2 4 = .ok (.aload_n 3, 1) := dk_45 (dk_at dksJ31_compareTo_2_0 4 rfl rfl)
theorem dJ31_compareTo_2_5 : decode cJ31_compareTo_2 5 = .ok (.invokevirtual 29, 3) := dk_182 0 29 (dk_at dksJ31_compareTo_2_0 5 rfl rfl)
theorem dJ31_compareTo_2_8 : decode cJ31_compareTo_2 8 = .ok (.aload_n 2, 1) := dk_44 (dk_at dksJ31_compareTo_2_0 8 rfl rfl)
theorem dJ31_compareTo_2_9 : decode cJ31_compareTo_2 9 = .ok (.invokevirtual 29, 3) := dk_182 0 29 (dk_at dksJ31_compareTo_2_0 9 rfl rfl)
theorem dJ31_compareTo_2_12 : decode cJ31_compareTo_2 12 = .ok (.if_acmp .eq 22, 3) := dk_165 0 22 (dk_at dksJ31_compareTo_2_0 12 rfl rfl)
theorem dJ31_compareTo_2_15 : decode cJ31_compareTo_2 15 = .ok (.aload_n 3, 1) := dk_45 (dk_at dksJ31_compareTo_2_0 15 rfl rfl)
theorem dJ31_compareTo_2_16 : decode cJ31_compareTo_2 16 = .ok (.invokevirtual 33, 3) := dk_182 0 33 (dk_at dksJ31_compareTo_2_0 16 rfl rfl)
theorem dJ31_compareTo_2_19 : decode cJ31_compareTo_2 19 = .ok (.aload_n 2, 1) := dk_44 (dk_at dksJ31_compareTo_2_0 19 rfl rfl)
theorem dJ31_compareTo_2_20 : decode cJ31_compareTo_2 20 = .ok (.invokevirtual 33, 3) := dk_182 0 33 (dk_at dksJ31_compareTo_2_0 20 rfl rfl)
theorem dJ31_compareTo_2_23 : decode cJ31_compareTo_2 23 = .ok (.if_acmp .eq 11, 3) := dk_165 0 11 (dk_at dksJ31_compareTo_2_1 0 rfl rfl)
theorem dJ31_compareTo_2_26 : decode cJ31_compareTo_2 26 = .ok (.new 36, 3) := dk_187 0 36 (dk_at dksJ31_compareTo_2_1 3 rfl rfl)
theorem dJ31_compareTo_2_29 : decode cJ31_compareTo_2 29 = .ok (.dup, 1) := dk_89 (dk_at dksJ31_compareTo_2_1 6 rfl rfl)
theorem dJ31_compareTo_2_30 : decode cJ31_compareTo_2 30 = .ok (.invokespecial 38, 3) := dk_183 0 38 (dk_at dksJ31_compareTo_2_1 7 rfl rfl)
theorem dJ31_compareTo_2_33 : decode cJ31_compareTo_2 33 = .ok (.athrow, 1) := dk_191 (dk_at dksJ31_compareTo_2_1 10 rfl rfl)
theorem dJ31_compareTo_2_34 : decode cJ31_compareTo_2 34 = .ok (.aload_n 3, 1) := dk_45 (dk_at dksJ31_compareTo_2_1 11 rfl rfl)
theorem dJ31_compareTo_2_35 : decode cJ31_compareTo_2 35 = .ok (.getfield 7, 3) := dk_180 0 7 (dk_at dksJ31_compareTo_2_1 12 rfl rfl)
theorem dJ31_compareTo_2_38 : decode cJ31_compareTo_2 38 = .ok (.aload_n 2, 1) := dk_44 (dk_at dksJ31_compareTo_2_1 15 rfl rfl)
theorem dJ31_compareTo_2_39 : decode cJ31_compareTo_2 39 = .ok (.getfield 7, 3) := dk_180 0 7 (dk_at dksJ31_compareTo_2_1 16 rfl rfl)
theorem dJ31_compareTo_2_42 : decode cJ31_compareTo_2 42 = .ok (.isub, 1) := dk_100 (dk_at dksJ31_compareTo_2_1 19 rfl rfl)
theorem dJ31_compareTo_2_43 : decode cJ31_compareTo_2 43 = .ok (.ireturn, 1) := dk_172 (dk_at dksJ31_compareTo_2_1 20 rfl rfl)
abbrev cJ31_getDeclaringClass : ByteArray := prog_21_method_9_code
def yJ31_getDeclaringClass : MethodName := ⟨RJ31, "getDeclaringClass", "()Ljava/lang/Class;"⟩
def dkwJ31_getDeclaringClass_0 : List UInt8 := [42, 182, 0, 29, 76, 43, 182, 0, 39, 77, 44, 18, 2, 166, 0, 7, 43, 167, 0, 4, 44, 176]
abbrev dktJ31_getDeclaringClass_0 : List UInt8 := dkwJ31_getDeclaringClass_0 ++ []
theorem dksJ31_getDeclaringClass_0 : cJ31_getDeclaringClass.data.toList.drop 0 = dktJ31_getDeclaringClass_0 := by decide +kernel
theorem dJ31_getDeclaringClass_0 : decode cJ31_getDeclaringClass 0 = .ok (.aload_n 0, 1) := dk_42 (dk_at dksJ31_getDeclaringClass_0 0 rfl rfl)
theorem dJ31_getDeclaringClass_1 : decode cJ31_getDeclaringClass 1 = .ok (.invokevirtual 29, 3) := dk_182 0 29 (dk_at dksJ31_getDeclaringClass_0 1 rfl rfl)
theorem dJ31_getDeclaringClass_4 : decode cJ31_getDeclaringClass 4 = .ok (.astore_n 1, 1) := dk_76 (dk_at dksJ31_getDeclaringClass_0 4 rfl rfl)
theorem dJ31_getDeclaringClass_5 : decode cJ31_getDeclaringClass 5 = .ok (.aload_n 1, 1) := dk_43 (dk_at dksJ31_getDeclaringClass_0 5 rfl rfl)
theorem dJ31_getDeclaringClass_6 : decode cJ31_getDeclaringClass 6 = .ok (.invokevirtual 39, 3) := dk_182 0 39 (dk_at dksJ31_getDeclaringClass_0 6 rfl rfl)
theorem dJ31_getDeclaringClass_9 : decode cJ31_getDeclaringClass 9 = .ok (.astore_n 2, 1) := dk_77 (dk_at dksJ31_getDeclaringClass_0 9 rfl rfl)
theorem dJ31_getDeclaringClass_10 : decode cJ31_getDeclaringClass 10 = .ok (.aload_n 2, 1) := dk_44 (dk_at dksJ31_getDeclaringClass_0 10 rfl rfl)
theorem dJ31_getDeclaringClass_11 : decode cJ31_getDeclaringClass 11 = .ok (.ldc 2, 2) := dk_18 2 (dk_at dksJ31_getDeclaringClass_0 11 rfl rfl)
theorem dJ31_getDeclaringClass_13 : decode cJ31_getDeclaringClass 13 = .ok (.if_acmp .ne 7, 3) := dk_166 0 7 (dk_at dksJ31_getDeclaringClass_0 13 rfl rfl)
theorem dJ31_getDeclaringClass_16 : decode cJ31_getDeclaringClass 16 = .ok (.aload_n 1, 1) := dk_43 (dk_at dksJ31_getDeclaringClass_0 16 rfl rfl)
theorem dJ31_getDeclaringClass_17 : decode cJ31_getDeclaringClass 17 = .ok (.goto 4, 3) := dk_167 0 4 (dk_at dksJ31_getDeclaringClass_0 17 rfl rfl)
theorem dJ31_getDeclaringClass_20 : decode cJ31_getDeclaringClass 20 = .ok (.aload_n 2, 1) := dk_44 (dk_at dksJ31_getDeclaringClass_0 20 rfl rfl)
theorem dJ31_getDeclaringClass_21 : decode cJ31_getDeclaringClass 21 = .ok (.areturn, 1) := dk_176 (dk_at dksJ31_getDeclaringClass_0 21 rfl rfl)
abbrev cJ31_equals : ByteArray := prog_21_method_5_code
def yJ31_equals : MethodName := ⟨RJ31, "equals", "(Ljava/lang/Object;)Z"⟩
def dkwJ31_equals_0 : List UInt8 := [42, 43, 166, 0, 7, 4, 167, 0, 4, 3, 172]
abbrev dktJ31_equals_0 : List UInt8 := dkwJ31_equals_0 ++ []
theorem dksJ31_equals_0 : cJ31_equals.data.toList.drop 0 = dktJ31_equals_0 := by decide +kernel
theorem dJ31_equals_0 : decode cJ31_equals 0 = .ok (.aload_n 0, 1) := dk_42 (dk_at dksJ31_equals_0 0 rfl rfl)
theorem dJ31_equals_1 : decode cJ31_equals 1 = .ok (.aload_n 1, 1) := dk_43 (dk_at dksJ31_equals_0 1 rfl rfl)
theorem dJ31_equals_2 : decode cJ31_equals 2 = .ok (.if_acmp .ne 7, 3) := dk_166 0 7 (dk_at dksJ31_equals_0 2 rfl rfl)
theorem dJ31_equals_5 : decode cJ31_equals 5 = .ok (.iconst 1, 1) := dk_4 (dk_at dksJ31_equals_0 5 rfl rfl)
theorem dJ31_equals_6 : decode cJ31_equals 6 = .ok (.goto 4, 3) := dk_167 0 4 (dk_at dksJ31_equals_0 6 rfl rfl)
theorem dJ31_equals_9 : decode cJ31_equals 9 = .ok (.iconst 0, 1) := dk_3 (dk_at dksJ31_equals_0 9 rfl rfl)
theorem dJ31_equals_10 : decode cJ31_equals 10 = .ok (.ireturn, 1) := dk_172 (dk_at dksJ31_equals_0 10 rfl rfl)
theorem q117 : (Jvm.Cond.initialized "java/lang/Enum") ∈ lw_all := lw_g (lw_at lw_m1 41 rfl) rfl
theorem q633 : (Jvm.Cond.instanceMethod ({ cls := "java/lang/Enum", name := "compareTo", desc := "(Ljava/lang/Object;)I" } : Jvm.MethodName)) ∈ lw_all := lw_g (lw_at lw_m3 77 rfl) rfl
theorem q634 : (Jvm.Cond.publicMethod ({ cls := "java/lang/Enum", name := "compareTo", desc := "(Ljava/lang/Object;)I" } : Jvm.MethodName)) ∈ lw_tbl := lw_at lw_m3 78 rfl
theorem q635 : (Jvm.Cond.code ({ cls := "java/lang/Enum", name := "compareTo", desc := "(Ljava/lang/Object;)I" } : Jvm.MethodName) prog_21_method_15_code (2 : Nat) (Option.some Jvm.ClassFile.FieldType.int)) ∈ lw_all := lw_g (lw_at lw_m3 79 rfl) rfl
theorem q636 : (Jvm.Cond.classLink "java/lang/Enum" (2 : Nat) "java/lang/Enum") ∈ lw_all := lw_g (lw_at lw_m3 80 rfl) rfl
theorem q637 : (Jvm.Cond.methodLink "java/lang/Enum" (101 : Nat) ({ cls := "java/lang/Enum", name := "compareTo", desc := "(Ljava/lang/Enum;)I" } : Jvm.MethodName)) ∈ lw_all := lw_g (lw_at lw_m3 81 rfl) rfl
theorem q638 : (Jvm.Cond.instanceMethod ({ cls := "java/lang/Enum", name := "compareTo", desc := "(Ljava/lang/Enum;)I" } : Jvm.MethodName)) ∈ lw_all := lw_g (lw_at lw_m3 82 rfl) rfl
theorem q639 : (Jvm.Cond.sameMethod "java/lang/Enum" "java/lang/Enum" "compareTo" "(Ljava/lang/Enum;)I") ∈ lw_all := lw_g (lw_at lw_m3 83 rfl) rfl
theorem q641 : (Jvm.Cond.code ({ cls := "java/lang/Enum", name := "compareTo", desc := "(Ljava/lang/Enum;)I" } : Jvm.MethodName) prog_21_method_8_code (4 : Nat) (Option.some Jvm.ClassFile.FieldType.int)) ∈ lw_all := lw_g (lw_at lw_m3 85 rfl) rfl
theorem q642 : (Jvm.Cond.methodLink "java/lang/Enum" (29 : Nat) ({ cls := "java/lang/Object", name := "getClass", desc := "()Ljava/lang/Class;" } : Jvm.MethodName)) ∈ lw_all := lw_g (lw_at lw_m3 86 rfl) rfl
theorem q643 : (Jvm.Cond.methodLink "java/lang/Enum" (33 : Nat) ({ cls := "java/lang/Enum", name := "getDeclaringClass", desc := "()Ljava/lang/Class;" } : Jvm.MethodName)) ∈ lw_all := lw_g (lw_at lw_m3 87 rfl) rfl
theorem q644 : (Jvm.Cond.instanceMethod ({ cls := "java/lang/Enum", name := "getDeclaringClass", desc := "()Ljava/lang/Class;" } : Jvm.MethodName)) ∈ lw_all := lw_g (lw_at lw_m3 88 rfl) rfl
theorem q645 : (Jvm.Cond.sameMethod "java/lang/Enum" "java/lang/Enum" "getDeclaringClass" "()Ljava/lang/Class;") ∈ lw_all := lw_g (lw_at lw_m3 89 rfl) rfl
theorem q647 : (Jvm.Cond.code ({ cls := "java/lang/Enum", name := "getDeclaringClass", desc := "()Ljava/lang/Class;" } : Jvm.MethodName) prog_21_method_9_code (3 : Nat) (Option.some (Jvm.ClassFile.FieldType.object "java/lang/Class"))) ∈ lw_all := lw_g (lw_at lw_m3 91 rfl) rfl
theorem q2112 : (Jvm.Cond.instanceMethod ({ cls := "java/lang/Enum", name := "equals", desc := "(Ljava/lang/Object;)Z" } : Jvm.MethodName)) ∈ lw_all := lw_g (lw_at lw_m9 116 rfl) rfl
theorem q2113 : (Jvm.Cond.code ({ cls := "java/lang/Enum", name := "equals", desc := "(Ljava/lang/Object;)Z" } : Jvm.MethodName) prog_21_method_5_code (2 : Nat) (Option.some Jvm.ClassFile.FieldType.boolean)) ∈ lw_all := lw_g (lw_at lw_m9 117 rfl) rfl
theorem q3034 : (Jvm.Cond.fieldLink "java/lang/Enum" (7 : Nat) "java/lang/Enum" "ordinal" "I") ∈ lw_all := lw_g (lw_at lw_m13 78 rfl) rfl

/-! java/util/AbstractSet -/
set_option maxRecDepth 100000
def RJ32 : String := "java/util/AbstractSet"
abbrev cJ32_init : ByteArray := prog_47_method_1_code
def yJ32_init : MethodName := ⟨RJ32, "<init>", "()V"⟩
theorem dJ32_init_0 : decode cJ32_init 0 = .ok (.aload_n 0, 1) := by decide +kernel
theorem dJ32_init_1 : decode cJ32_init 1 = .ok (.invokespecial 1, 3) := by decide +kernel
theorem dJ32_init_4 : decode cJ32_init 4 = .ok (.return_, 1) := by decide +kernel
theorem q121 : (Jvm.Cond.initialized "java/util/AbstractSet") ∈ lw_all := lw_g (lw_at lw_m1 45 rfl) rfl
theorem q1977 : (Jvm.Cond.instanceMethod ({ cls := "java/util/AbstractSet", name := "<init>", desc := "()V" } : Jvm.MethodName)) ∈ lw_all := lw_g (lw_at lw_m8 221 rfl) rfl
theorem q1978 : (Jvm.Cond.code ({ cls := "java/util/AbstractSet", name := "<init>", desc := "()V" } : Jvm.MethodName) prog_47_method_1_code (1 : Nat) (Option.none : Option Jvm.ClassFile.FieldType)) ∈ lw_all := lw_g (lw_at lw_m8 222 rfl) rfl
theorem q1979 : (Jvm.Cond.methodLink "java/util/AbstractSet" (1 : Nat) ({ cls := "java/util/AbstractCollection", name := "<init>", desc := "()V" } : Jvm.MethodName)) ∈ lw_all := lw_g (lw_at lw_m8 223 rfl) rfl

/-! java/util/TreeSet -/
set_option maxRecDepth 100000
def RJ33 : String := "java/util/TreeSet"
def TJ33 : u_T := fun k => match k with
  | _ => ("java/util/TreeSet", "m", "Ljava/util/NavigableMap;", false)
def tyJ33 : Nat → FieldType := fun k => match k with
  | _ => .object "java/util/NavigableMap"
abbrev wsJ330 : List Cond := u_ws RJ33 TJ33 1
theorem nmJ33 : ∀ a, a < 1 → ∀ b, b < 1 → a ≠ b → (TJ33 a).2.1 ≠ (TJ33 b).2.1 := by decide +kernel
theorem tyJ33_ok : ∀ k, k < 1 → parseFieldDescriptor (TJ33 k).2.2.1 = some (tyJ33 k) := by decide +kernel
abbrev cJ33_size : ByteArray := prog_73_method_9_code
def yJ33_size : MethodName := ⟨RJ33, "size", "()I"⟩
def dkwJ33_size_0 : List UInt8 := [42, 180, 0, 7, 185, 0, 53, 1, 0, 172]
abbrev dktJ33_size_0 : List UInt8 := dkwJ33_size_0 ++ []
theorem dksJ33_size_0 : cJ33_size.data.toList.drop 0 = dktJ33_size_0 := by decide +kernel
theorem dJ33_size_0 : decode cJ33_size 0 = .ok (.aload_n 0, 1) := dk_42 (dk_at dksJ33_size_0 0 rfl rfl)
theorem dJ33_size_1 : decode cJ33_size 1 = .ok (.getfield 7, 3) := dk_180 0 7 (dk_at dksJ33_size_0 1 rfl rfl)
theorem dJ33_size_4 : decode cJ33_size 4 = .ok (.invokeinterface 53 1, 5) := by decide +kernel
theorem dJ33_size_9 : decode cJ33_size 9 = .ok (.ireturn, 1) := dk_172 (dk_at dksJ33_size_0 9 rfl rfl)
abbrev cJ33_init : ByteArray := prog_73_method_3_code
def yJ33_init : MethodName := ⟨RJ33, "<init>", "(Ljava/util/Comparator;)V"⟩
def dkwJ33_init_0 : List UInt8 := [42, 187, 0, 13, 89, 43, 183, 0, 19, 183, 0, 16, 177]
abbrev dktJ33_init_0 : List UInt8 := dkwJ33_init_0 ++ []
theorem dksJ33_init_0 : cJ33_init.data.toList.drop 0 = dktJ33_init_0 := by decide +kernel
theorem dJ33_init_0 : decode cJ33_init 0 = .ok (.aload_n 0, 1) := dk_42 (dk_at dksJ33_init_0 0 rfl rfl)
theorem dJ33_init_1 : decode cJ33_init 1 = .ok (.new 13, 3) := dk_187 0 13 (dk_at dksJ33_init_0 1 rfl rfl)
theorem dJ33_init_4 : decode cJ33_init 4 = .ok (.dup, 1) := dk_89 (dk_at dksJ33_init_0 4 rfl rfl)
theorem dJ33_init_5 : decode cJ33_init 5 = .ok (.aload_n 1, 1) := dk_43 (dk_at dksJ33_init_0 5 rfl rfl)
theorem dJ33_init_6 : decode cJ33_init 6 = .ok (.invokespecial 19, 3) := dk_183 0 19 (dk_at dksJ33_init_0 6 rfl rfl)
theorem dJ33_init_9 : decode cJ33_init 9 = .ok (.invokespecial 16, 3) := dk_183 0 16 (dk_at dksJ33_init_0 9 rfl rfl)
theorem dJ33_init_12 : decode cJ33_init 12 = .ok (.return_, 1) := dk_177 (dk_at dksJ33_init_0 12 rfl rfl)
abbrev cJ33_init_2 : ByteArray := prog_73_method_1_code
def yJ33_init_2 : MethodName := ⟨RJ33, "<init>", "(Ljava/util/NavigableMap;)V"⟩
def dkwJ33_init_2_0 : List UInt8 := [42, 183, 0, 1, 42, 43, 181, 0, 7, 177]
abbrev dktJ33_init_2_0 : List UInt8 := dkwJ33_init_2_0 ++ []
theorem dksJ33_init_2_0 : cJ33_init_2.data.toList.drop 0 = dktJ33_init_2_0 := by decide +kernel
theorem dJ33_init_2_0 : decode cJ33_init_2 0 = .ok (.aload_n 0, 1) := dk_42 (dk_at dksJ33_init_2_0 0 rfl rfl)
theorem dJ33_init_2_1 : decode cJ33_init_2 1 = .ok (.invokespecial 1, 3) := dk_183 0 1 (dk_at dksJ33_init_2_0 1 rfl rfl)
theorem dJ33_init_2_4 : decode cJ33_init_2 4 = .ok (.aload_n 0, 1) := dk_42 (dk_at dksJ33_init_2_0 4 rfl rfl)
theorem dJ33_init_2_5 : decode cJ33_init_2 5 = .ok (.aload_n 1, 1) := dk_43 (dk_at dksJ33_init_2_0 5 rfl rfl)
theorem dJ33_init_2_6 : decode cJ33_init_2 6 = .ok (.putfield 7, 3) := dk_181 0 7 (dk_at dksJ33_init_2_0 6 rfl rfl)
theorem dJ33_init_2_9 : decode cJ33_init_2 9 = .ok (.return_, 1) := dk_177 (dk_at dksJ33_init_2_0 9 rfl rfl)
abbrev cJ33_add : ByteArray := prog_73_method_12_code
def yJ33_add : MethodName := ⟨RJ33, "add", "(Ljava/lang/Object;)Z"⟩
def dkwJ33_add_0 : List UInt8 := [42, 180, 0, 7, 43, 178, 0, 65, 185, 0, 69, 3, 0, 199, 0, 7, 4, 167, 0, 4, 3, 172]
abbrev dktJ33_add_0 : List UInt8 := dkwJ33_add_0 ++ []
theorem dksJ33_add_0 : cJ33_add.data.toList.drop 0 = dktJ33_add_0 := by decide +kernel
theorem dJ33_add_0 : decode cJ33_add 0 = .ok (.aload_n 0, 1) := dk_42 (dk_at dksJ33_add_0 0 rfl rfl)
theorem dJ33_add_1 : decode cJ33_add 1 = .ok (.getfield 7, 3) := dk_180 0 7 (dk_at dksJ33_add_0 1 rfl rfl)
theorem dJ33_add_4 : decode cJ33_add 4 = .ok (.aload_n 1, 1) := dk_43 (dk_at dksJ33_add_0 4 rfl rfl)
theorem dJ33_add_5 : decode cJ33_add 5 = .ok (.getstatic 65, 3) := dk_178 0 65 (dk_at dksJ33_add_0 5 rfl rfl)
theorem dJ33_add_8 : decode cJ33_add 8 = .ok (.invokeinterface 69 3, 5) := by decide +kernel
theorem dJ33_add_13 : decode cJ33_add 13 = .ok (.ifnonnull 7, 3) := dk_199 0 7 (dk_at dksJ33_add_0 13 rfl rfl)
theorem dJ33_add_16 : decode cJ33_add 16 = .ok (.iconst 1, 1) := dk_4 (dk_at dksJ33_add_0 16 rfl rfl)
theorem dJ33_add_17 : decode cJ33_add 17 = .ok (.goto 4, 3) := dk_167 0 4 (dk_at dksJ33_add_0 17 rfl rfl)
theorem dJ33_add_20 : decode cJ33_add 20 = .ok (.iconst 0, 1) := dk_3 (dk_at dksJ33_add_0 20 rfl rfl)
theorem dJ33_add_21 : decode cJ33_add 21 = .ok (.ireturn, 1) := dk_172 (dk_at dksJ33_add_0 21 rfl rfl)
abbrev cJ33_isEmpty : ByteArray := prog_73_method_10_code
def yJ33_isEmpty : MethodName := ⟨RJ33, "isEmpty", "()Z"⟩
def dkwJ33_isEmpty_0 : List UInt8 := [42, 180, 0, 7, 185, 0, 57, 1, 0, 172]
abbrev dktJ33_isEmpty_0 : List UInt8 := dkwJ33_isEmpty_0 ++ []
theorem dksJ33_isEmpty_0 : cJ33_isEmpty.data.toList.drop 0 = dktJ33_isEmpty_0 := by decide +kernel
theorem dJ33_isEmpty_0 : decode cJ33_isEmpty 0 = .ok (.aload_n 0, 1) := dk_42 (dk_at dksJ33_isEmpty_0 0 rfl rfl)
theorem dJ33_isEmpty_1 : decode cJ33_isEmpty 1 = .ok (.getfield 7, 3) := dk_180 0 7 (dk_at dksJ33_isEmpty_0 1 rfl rfl)
theorem dJ33_isEmpty_4 : decode cJ33_isEmpty 4 = .ok (.invokeinterface 57 1, 5) := by decide +kernel
theorem dJ33_isEmpty_9 : decode cJ33_isEmpty 9 = .ok (.ireturn, 1) := dk_172 (dk_at dksJ33_isEmpty_0 9 rfl rfl)
abbrev cJ33_first : ByteArray := prog_73_method_23_code
def yJ33_first : MethodName := ⟨RJ33, "first", "()Ljava/lang/Object;"⟩
def dkwJ33_first_0 : List UInt8 := [42, 180, 0, 7, 185, 0, 118, 1, 0, 176]
abbrev dktJ33_first_0 : List UInt8 := dkwJ33_first_0 ++ []
theorem dksJ33_first_0 : cJ33_first.data.toList.drop 0 = dktJ33_first_0 := by decide +kernel
theorem dJ33_first_0 : decode cJ33_first 0 = .ok (.aload_n 0, 1) := dk_42 (dk_at dksJ33_first_0 0 rfl rfl)
theorem dJ33_first_1 : decode cJ33_first 1 = .ok (.getfield 7, 3) := dk_180 0 7 (dk_at dksJ33_first_0 1 rfl rfl)
theorem dJ33_first_4 : decode cJ33_first 4 = .ok (.invokeinterface 118 1, 5) := by decide +kernel
theorem dJ33_first_9 : decode cJ33_first 9 = .ok (.areturn, 1) := dk_176 (dk_at dksJ33_first_0 9 rfl rfl)
theorem q122 : (Jvm.Cond.initialized "java/util/TreeSet") ∈ lw_all := lw_g (lw_at lw_m1 46 rfl) rfl
theorem q472 : (Jvm.Cond.selects "java/util/TreeSet" ({ cls := "java/lang/Object", name := "getClass", desc := "()Ljava/lang/Class;" } : Jvm.MethodName) ({ cls := "java/lang/Object", name := "getClass", desc := "()Ljava/lang/Class;" } : Jvm.MethodName)) ∈ lw_all := lw_g (lw_at lw_m2 156 rfl) rfl
theorem q1076 : (Jvm.Cond.selects "java/util/TreeSet" ({ cls := "java/util/AbstractCollection", name := "size", desc := "()I" } : Jvm.MethodName) ({ cls := "java/util/TreeSet", name := "size", desc := "()I" } : Jvm.MethodName)) ∈ lw_all := lw_g (lw_at lw_m5 40 rfl) rfl
theorem q1077 : (Jvm.Cond.instanceMethod ({ cls := "java/util/TreeSet", name := "size", desc := "()I" } : Jvm.MethodName)) ∈ lw_all := lw_g (lw_at lw_m5 41 rfl) rfl
theorem q1078 : (Jvm.Cond.code ({ cls := "java/util/TreeSet", name := "size", desc := "()I" } : Jvm.MethodName) prog_73_method_9_code (1 : Nat) (Option.some Jvm.ClassFile.FieldType.int)) ∈ lw_all := lw_g (lw_at lw_m5 42 rfl) rfl
theorem q1079 : (Jvm.Cond.interfaceEntry "java/util/TreeSet" (53 : Nat)) ∈ lw_tbl := lw_at lw_m5 43 rfl
theorem q1958 : (Jvm.Cond.instantiable "java/util/TreeSet" (1 : Nat)) ∈ lw_all := lw_g (lw_at lw_m8 202 rfl) rfl
theorem q1967 : (Jvm.Cond.instanceMethod ({ cls := "java/util/TreeSet", name := "<init>", desc := "(Ljava/util/Comparator;)V" } : Jvm.MethodName)) ∈ lw_all := lw_g (lw_at lw_m8 211 rfl) rfl
theorem q1968 : (Jvm.Cond.code ({ cls := "java/util/TreeSet", name := "<init>", desc := "(Ljava/util/Comparator;)V" } : Jvm.MethodName) prog_73_method_3_code (2 : Nat) (Option.none : Option Jvm.ClassFile.FieldType)) ∈ lw_all := lw_g (lw_at lw_m8 212 rfl) rfl
theorem q1969 : (Jvm.Cond.classLink "java/util/TreeSet" (13 : Nat) "java/util/TreeMap") ∈ lw_all := lw_g (lw_at lw_m8 213 rfl) rfl
theorem q1970 : (Jvm.Cond.methodLink "java/util/TreeSet" (19 : Nat) ({ cls := "java/util/TreeMap", name := "<init>", desc := "(Ljava/util/Comparator;)V" } : Jvm.MethodName)) ∈ lw_all := lw_g (lw_at lw_m8 214 rfl) rfl
theorem q1973 : (Jvm.Cond.methodLink "java/util/TreeSet" (16 : Nat) ({ cls := "java/util/TreeSet", name := "<init>", desc := "(Ljava/util/NavigableMap;)V" } : Jvm.MethodName)) ∈ lw_all := lw_g (lw_at lw_m8 217 rfl) rfl
theorem q1974 : (Jvm.Cond.instanceMethod ({ cls := "java/util/TreeSet", name := "<init>", desc := "(Ljava/util/NavigableMap;)V" } : Jvm.MethodName)) ∈ lw_all := lw_g (lw_at lw_m8 218 rfl) rfl
theorem q1975 : (Jvm.Cond.code ({ cls := "java/util/TreeSet", name := "<init>", desc := "(Ljava/util/NavigableMap;)V" } : Jvm.MethodName) prog_73_method_1_code (2 : Nat) (Option.none : Option Jvm.ClassFile.FieldType)) ∈ lw_all := lw_g (lw_at lw_m8 219 rfl) rfl
theorem q1976 : (Jvm.Cond.methodLink "java/util/TreeSet" (1 : Nat) ({ cls := "java/util/AbstractSet", name := "<init>", desc := "()V" } : Jvm.MethodName)) ∈ lw_all := lw_g (lw_at lw_m8 220 rfl) rfl
theorem q1980 : (Jvm.Cond.fieldLink "java/util/TreeSet" (7 : Nat) "java/util/TreeSet" "m" "Ljava/util/NavigableMap;") ∈ lw_all := lw_g (lw_at lw_m8 224 rfl) rfl
theorem q1981 : (Jvm.Cond.lays "java/util/TreeSet" "java/util/TreeSet" "m" "Ljava/util/NavigableMap;") ∈ lw_all := lw_g (lw_at lw_m8 225 rfl) rfl
theorem q1982 : (Jvm.Cond.soleField "java/util/TreeSet" "m") ∈ lw_all := lw_g (lw_at lw_m8 226 rfl) rfl
theorem q1983 : (Jvm.Cond.superclass "java/util/TreeSet" "java/util/AbstractSet") ∈ lw_all := lw_g (lw_at lw_m8 227 rfl) rfl
theorem q1985 : (Jvm.Cond.instanceMethod ({ cls := "java/util/TreeSet", name := "add", desc := "(Ljava/lang/Object;)Z" } : Jvm.MethodName)) ∈ lw_all := lw_g (lw_at lw_m8 229 rfl) rfl
theorem q1986 : (Jvm.Cond.selects "java/util/TreeSet" ({ cls := "java/util/TreeSet", name := "add", desc := "(Ljava/lang/Object;)Z" } : Jvm.MethodName) ({ cls := "java/util/TreeSet", name := "add", desc := "(Ljava/lang/Object;)Z" } : Jvm.MethodName)) ∈ lw_all := lw_g (lw_at lw_m8 230 rfl) rfl
theorem q1987 : (Jvm.Cond.code ({ cls := "java/util/TreeSet", name := "add", desc := "(Ljava/lang/Object;)Z" } : Jvm.MethodName) prog_73_method_12_code (2 : Nat) (Option.some Jvm.ClassFile.FieldType.boolean)) ∈ lw_all := lw_g (lw_at lw_m8 231 rfl) rfl
theorem q1988 : (Jvm.Cond.fieldLink "java/util/TreeSet" (65 : Nat) "java/util/TreeSet" "PRESENT" "Ljava/lang/Object;") ∈ lw_all := lw_g (lw_at lw_m8 232 rfl) rfl
theorem q1989 : (Jvm.Cond.laysStatic "java/util/TreeSet" "PRESENT" "Ljava/lang/Object;") ∈ lw_tbl := lw_at lw_m8 233 rfl
theorem q1990 : (Jvm.Cond.interfaceEntry "java/util/TreeSet" (69 : Nat)) ∈ lw_tbl := lw_at lw_m8 234 rfl
theorem q1997 : (Jvm.Cond.instanceMethod ({ cls := "java/util/TreeSet", name := "isEmpty", desc := "()Z" } : Jvm.MethodName)) ∈ lw_all := lw_g (lw_at lw_m9 1 rfl) rfl
theorem q1998 : (Jvm.Cond.selects "java/util/TreeSet" ({ cls := "java/util/TreeSet", name := "isEmpty", desc := "()Z" } : Jvm.MethodName) ({ cls := "java/util/TreeSet", name := "isEmpty", desc := "()Z" } : Jvm.MethodName)) ∈ lw_all := lw_g (lw_at lw_m9 2 rfl) rfl
theorem q1999 : (Jvm.Cond.code ({ cls := "java/util/TreeSet", name := "isEmpty", desc := "()Z" } : Jvm.MethodName) prog_73_method_10_code (1 : Nat) (Option.some Jvm.ClassFile.FieldType.boolean)) ∈ lw_all := lw_g (lw_at lw_m9 3 rfl) rfl
theorem q2000 : (Jvm.Cond.interfaceEntry "java/util/TreeSet" (57 : Nat)) ∈ lw_tbl := lw_at lw_m9 4 rfl
theorem q2014 : (Jvm.Cond.instanceMethod ({ cls := "java/util/TreeSet", name := "first", desc := "()Ljava/lang/Object;" } : Jvm.MethodName)) ∈ lw_all := lw_g (lw_at lw_m9 18 rfl) rfl
theorem q2015 : (Jvm.Cond.selects "java/util/TreeSet" ({ cls := "java/util/TreeSet", name := "first", desc := "()Ljava/lang/Object;" } : Jvm.MethodName) ({ cls := "java/util/TreeSet", name := "first", desc := "()Ljava/lang/Object;" } : Jvm.MethodName)) ∈ lw_all := lw_g (lw_at lw_m9 19 rfl) rfl
theorem q2016 : (Jvm.Cond.code ({ cls := "java/util/TreeSet", name := "first", desc := "()Ljava/lang/Object;" } : Jvm.MethodName) prog_73_method_23_code (1 : Nat) (Option.some (Jvm.ClassFile.FieldType.object "java/lang/Object"))) ∈ lw_all := lw_g (lw_at lw_m9 20 rfl) rfl
theorem q2017 : (Jvm.Cond.interfaceEntry "java/util/TreeSet" (118 : Nat)) ∈ lw_tbl := lw_at lw_m9 21 rfl
theorem q3015 : (Jvm.Cond.castable "java/util/TreeSet" "java/lang/Object") ∈ lw_tbl := lw_at lw_m13 59 rfl
theorem in_J33 : ∀ w ∈ wsJ330, w ∈ lw_all := lw_in wsJ330 [1981] (by decide +kernel) (by decide +kernel)

/-! java/util/TreeMap$EntrySet -/
set_option maxRecDepth 100000
def RJ34 : String := "java/util/TreeMap$EntrySet"
abbrev cJ34_size : ByteArray := prog_72_method_5_code
def yJ34_size : MethodName := ⟨RJ34, "size", "()I"⟩
def dkwJ34_size_0 : List UInt8 := [42, 180, 0, 1, 182, 0, 48, 172]
abbrev dktJ34_size_0 : List UInt8 := dkwJ34_size_0 ++ []
theorem dksJ34_size_0 : cJ34_size.data.toList.drop 0 = dktJ34_size_0 := by decide +kernel
theorem dJ34_size_0 : decode cJ34_size 0 = .ok (.aload_n 0, 1) := dk_42 (dk_at dksJ34_size_0 0 rfl rfl)
theorem dJ34_size_1 : decode cJ34_size 1 = .ok (.getfield 1, 3) := dk_180 0 1 (dk_at dksJ34_size_0 1 rfl rfl)
theorem dJ34_size_4 : decode cJ34_size 4 = .ok (.invokevirtual 48, 3) := dk_182 0 48 (dk_at dksJ34_size_0 4 rfl rfl)
theorem dJ34_size_7 : decode cJ34_size 7 = .ok (.ireturn, 1) := dk_172 (dk_at dksJ34_size_0 7 rfl rfl)
theorem q124 : (Jvm.Cond.initialized "java/util/TreeMap$EntrySet") ∈ lw_all := lw_g (lw_at lw_m1 48 rfl) rfl
theorem q471 : (Jvm.Cond.selects "java/util/TreeMap$EntrySet" ({ cls := "java/lang/Object", name := "getClass", desc := "()Ljava/lang/Class;" } : Jvm.MethodName) ({ cls := "java/lang/Object", name := "getClass", desc := "()Ljava/lang/Class;" } : Jvm.MethodName)) ∈ lw_all := lw_g (lw_at lw_m2 155 rfl) rfl
theorem q1069 : (Jvm.Cond.selects "java/util/TreeMap$EntrySet" ({ cls := "java/util/AbstractCollection", name := "size", desc := "()I" } : Jvm.MethodName) ({ cls := "java/util/TreeMap$EntrySet", name := "size", desc := "()I" } : Jvm.MethodName)) ∈ lw_all := lw_g (lw_at lw_m5 33 rfl) rfl
theorem q1070 : (Jvm.Cond.instanceMethod ({ cls := "java/util/TreeMap$EntrySet", name := "size", desc := "()I" } : Jvm.MethodName)) ∈ lw_all := lw_g (lw_at lw_m5 34 rfl) rfl
theorem q1071 : (Jvm.Cond.code ({ cls := "java/util/TreeMap$EntrySet", name := "size", desc := "()I" } : Jvm.MethodName) prog_72_method_5_code (1 : Nat) (Option.some Jvm.ClassFile.FieldType.int)) ∈ lw_all := lw_g (lw_at lw_m5 35 rfl) rfl
theorem q1072 : (Jvm.Cond.methodLink "java/util/TreeMap$EntrySet" (48 : Nat) ({ cls := "java/util/TreeMap", name := "size", desc := "()I" } : Jvm.MethodName)) ∈ lw_all := lw_g (lw_at lw_m5 36 rfl) rfl
theorem q3017 : (Jvm.Cond.castable "java/util/TreeMap$EntrySet" "java/lang/Object") ∈ lw_tbl := lw_at lw_m13 61 rfl
theorem q3035 : (Jvm.Cond.fieldLink "java/util/TreeMap$EntrySet" (1 : Nat) "java/util/TreeMap$EntrySet" "this$0" "Ljava/util/TreeMap;") ∈ lw_all := lw_g (lw_at lw_m13 79 rfl) rfl

/-! java/lang/StringIndexOutOfBoundsException -/
set_option maxRecDepth 100000
def RJ35 : String := "java/lang/StringIndexOutOfBoundsException"
def TJ35 : u_T := fun k => match k with
  | 0 => ("java/lang/Throwable", "backtrace", "Ljava/lang/Object;", false)
  | 1 => ("java/lang/Throwable", "detailMessage", "Ljava/lang/String;", false)
  | 2 => ("java/lang/Throwable", "cause", "Ljava/lang/Throwable;", false)
  | 3 => ("java/lang/Throwable", "stackTrace", "[Ljava/lang/StackTraceElement;", false)
  | 4 => ("java/lang/Throwable", "depth", "I", false)
  | _ => ("java/lang/Throwable", "suppressedExceptions", "Ljava/util/List;", false)
def tyJ35 : Nat → FieldType := fun k => match k with
  | 0 => .object "java/lang/Object"
  | 1 => .object "java/lang/String"
  | 2 => .object "java/lang/Throwable"
  | 3 => .array (.object "java/lang/StackTraceElement")
  | 4 => .int
  | _ => .object "java/util/List"
abbrev wsJ350 : List Cond := u_ws RJ35 TJ35 6
theorem nmJ35 : ∀ a, a < 6 → ∀ b, b < 6 → a ≠ b → (TJ35 a).2.1 ≠ (TJ35 b).2.1 := by decide +kernel
theorem tyJ35_ok : ∀ k, k < 6 → parseFieldDescriptor (TJ35 k).2.2.1 = some (tyJ35 k) := by decide +kernel
abbrev cJ35_init : ByteArray := prog_35_method_3_code
def yJ35_init : MethodName := ⟨RJ35, "<init>", "(I)V"⟩
def dkwJ35_init_0 : List UInt8 := [42, 187, 0, 10, 89, 183, 0, 12, 18, 13, 182, 0, 15, 27, 182, 0, 19, 182, 0, 22, 183, 0, 7, 177]
abbrev dktJ35_init_0 : List UInt8 := dkwJ35_init_0 ++ []
theorem dksJ35_init_0 : cJ35_init.data.toList.drop 0 = dktJ35_init_0 := by decide +kernel
theorem dJ35_init_0 : decode cJ35_init 0 = .ok (.aload_n 0, 1) := dk_42 (dk_at dksJ35_init_0 0 rfl rfl)
theorem dJ35_init_1 : decode cJ35_init 1 = .ok (.new 10, 3) := dk_187 0 10 (dk_at dksJ35_init_0 1 rfl rfl)
theorem dJ35_init_4 : decode cJ35_init 4 = .ok (.dup, 1) := dk_89 (dk_at dksJ35_init_0 4 rfl rfl)
theorem dJ35_init_5 : decode cJ35_init 5 = .ok (.invokespecial 12, 3) := dk_183 0 12 (dk_at dksJ35_init_0 5 rfl rfl)
theorem dJ35_init_8 : decode cJ35_init 8 = .ok (.ldc 13, 2) := dk_18 13 (dk_at dksJ35_init_0 8 rfl rfl)
theorem dJ35_init_10 : decode cJ35_init 10 = .ok (.invokevirtual 15, 3) := dk_182 0 15 (dk_at dksJ35_init_0 10 rfl rfl)
theorem dJ35_init_13 : decode cJ35_init 13 = .ok (.iload_n 1, 1) := dk_27 (dk_at dksJ35_init_0 13 rfl rfl)
theorem dJ35_init_14 : decode cJ35_init 14 = .ok (.invokevirtual 19, 3) := dk_182 0 19 (dk_at dksJ35_init_0 14 rfl rfl)
theorem dJ35_init_17 : decode cJ35_init 17 = .ok (.invokevirtual 22, 3) := dk_182 0 22 (dk_at dksJ35_init_0 17 rfl rfl)
theorem dJ35_init_20 : decode cJ35_init 20 = .ok (.invokespecial 7, 3) := dk_183 0 7 (dk_at dksJ35_init_0 20 rfl rfl)
theorem dJ35_init_23 : decode cJ35_init 23 = .ok (.return_, 1) := dk_177 (dk_at dksJ35_init_0 23 rfl rfl)
theorem q125 : (Jvm.Cond.initialized "java/lang/StringIndexOutOfBoundsException") ∈ lw_all := lw_g (lw_at lw_m1 49 rfl) rfl
theorem q232 : (Jvm.Cond.selects "java/lang/StringIndexOutOfBoundsException" ({ cls := "java/lang/Throwable", name := "fillInStackTrace", desc := "()Ljava/lang/Throwable;" } : Jvm.MethodName) ({ cls := "java/lang/Throwable", name := "fillInStackTrace", desc := "()Ljava/lang/Throwable;" } : Jvm.MethodName)) ∈ lw_all := lw_g (lw_at lw_m1 156 rfl) rfl
theorem q463 : (Jvm.Cond.selects "java/lang/StringIndexOutOfBoundsException" ({ cls := "java/lang/Object", name := "getClass", desc := "()Ljava/lang/Class;" } : Jvm.MethodName) ({ cls := "java/lang/Object", name := "getClass", desc := "()Ljava/lang/Class;" } : Jvm.MethodName)) ∈ lw_all := lw_g (lw_at lw_m2 147 rfl) rfl
theorem q1196 : (Jvm.Cond.instantiable "java/lang/StringIndexOutOfBoundsException" (6 : Nat)) ∈ lw_all := lw_g (lw_at lw_m5 160 rfl) rfl
theorem q1198 : (Jvm.Cond.instanceMethod ({ cls := "java/lang/StringIndexOutOfBoundsException", name := "<init>", desc := "(I)V" } : Jvm.MethodName)) ∈ lw_all := lw_g (lw_at lw_m5 162 rfl) rfl
theorem q1199 : (Jvm.Cond.code ({ cls := "java/lang/StringIndexOutOfBoundsException", name := "<init>", desc := "(I)V" } : Jvm.MethodName) prog_35_method_3_code (2 : Nat) (Option.none : Option Jvm.ClassFile.FieldType)) ∈ lw_all := lw_g (lw_at lw_m5 163 rfl) rfl
theorem q1200 : (Jvm.Cond.classLink "java/lang/StringIndexOutOfBoundsException" (10 : Nat) "java/lang/StringBuilder") ∈ lw_all := lw_g (lw_at lw_m5 164 rfl) rfl
theorem q1201 : (Jvm.Cond.methodLink "java/lang/StringIndexOutOfBoundsException" (12 : Nat) ({ cls := "java/lang/StringBuilder", name := "<init>", desc := "()V" } : Jvm.MethodName)) ∈ lw_all := lw_g (lw_at lw_m5 165 rfl) rfl
theorem q1202 : (Jvm.Cond.stringRef "java/lang/StringIndexOutOfBoundsException" (13 : Nat) "String index out of range: ") ∈ lw_tbl := lw_at lw_m5 166 rfl
theorem q1203 : (Jvm.Cond.methodLink "java/lang/StringIndexOutOfBoundsException" (15 : Nat) ({ cls := "java/lang/StringBuilder", name := "append", desc := "(Ljava/lang/String;)Ljava/lang/StringBuilder;" } : Jvm.MethodName)) ∈ lw_all := lw_g (lw_at lw_m5 167 rfl) rfl
theorem q1284 : (Jvm.Cond.methodLink "java/lang/StringIndexOutOfBoundsException" (19 : Nat) ({ cls := "java/lang/StringBuilder", name := "append", desc := "(I)Ljava/lang/StringBuilder;" } : Jvm.MethodName)) ∈ lw_all := lw_g (lw_at lw_m6 8 rfl) rfl
theorem q1309 : (Jvm.Cond.methodLink "java/lang/StringIndexOutOfBoundsException" (22 : Nat) ({ cls := "java/lang/StringBuilder", name := "toString", desc := "()Ljava/lang/String;" } : Jvm.MethodName)) ∈ lw_all := lw_g (lw_at lw_m6 33 rfl) rfl
theorem q1380 : (Jvm.Cond.methodLink "java/lang/StringIndexOutOfBoundsException" (7 : Nat) ({ cls := "java/lang/IndexOutOfBoundsException", name := "<init>", desc := "(Ljava/lang/String;)V" } : Jvm.MethodName)) ∈ lw_all := lw_g (lw_at lw_m6 104 rfl) rfl
theorem q1384 : (Jvm.Cond.lays "java/lang/StringIndexOutOfBoundsException" "java/lang/Throwable" "backtrace" "Ljava/lang/Object;") ∈ lw_all := lw_g (lw_at lw_m6 108 rfl) rfl
theorem q1385 : (Jvm.Cond.lays "java/lang/StringIndexOutOfBoundsException" "java/lang/Throwable" "detailMessage" "Ljava/lang/String;") ∈ lw_all := lw_g (lw_at lw_m6 109 rfl) rfl
theorem q1386 : (Jvm.Cond.lays "java/lang/StringIndexOutOfBoundsException" "java/lang/Throwable" "cause" "Ljava/lang/Throwable;") ∈ lw_all := lw_g (lw_at lw_m6 110 rfl) rfl
theorem q1387 : (Jvm.Cond.lays "java/lang/StringIndexOutOfBoundsException" "java/lang/Throwable" "stackTrace" "[Ljava/lang/StackTraceElement;") ∈ lw_all := lw_g (lw_at lw_m6 111 rfl) rfl
theorem q1388 : (Jvm.Cond.lays "java/lang/StringIndexOutOfBoundsException" "java/lang/Throwable" "depth" "I") ∈ lw_all := lw_g (lw_at lw_m6 112 rfl) rfl
theorem q1389 : (Jvm.Cond.lays "java/lang/StringIndexOutOfBoundsException" "java/lang/Throwable" "suppressedExceptions" "Ljava/util/List;") ∈ lw_all := lw_g (lw_at lw_m6 113 rfl) rfl
theorem q1390 : (Jvm.Cond.superclass "java/lang/StringIndexOutOfBoundsException" "java/lang/IndexOutOfBoundsException") ∈ lw_all := lw_g (lw_at lw_m6 114 rfl) rfl
theorem q2127 : (Jvm.Cond.selects "java/lang/StringIndexOutOfBoundsException" ({ cls := "java/lang/Object", name := "equals", desc := "(Ljava/lang/Object;)Z" } : Jvm.MethodName) ({ cls := "java/lang/Object", name := "equals", desc := "(Ljava/lang/Object;)Z" } : Jvm.MethodName)) ∈ lw_all := lw_g (lw_at lw_m9 131 rfl) rfl
theorem q2989 : (Jvm.Cond.castable "java/lang/StringIndexOutOfBoundsException" "java/lang/IndexOutOfBoundsException") ∈ lw_tbl := lw_at lw_m13 33 rfl
theorem q3018 : (Jvm.Cond.castable "java/lang/StringIndexOutOfBoundsException" "java/lang/Object") ∈ lw_tbl := lw_at lw_m13 62 rfl
theorem in_J35 : ∀ w ∈ wsJ350, w ∈ lw_all := lw_in wsJ350 [1384, 1385, 1386, 1387, 1388, 1389] (by decide +kernel) (by decide +kernel)

/-! java/lang/Object -/
set_option maxRecDepth 100000
def RJ36 : String := "java/lang/Object"
abbrev cJ36_init : ByteArray := object_method_1_code
def yJ36_init : MethodName := ⟨RJ36, "<init>", "()V"⟩
theorem dJ36_init_0 : decode cJ36_init 0 = .ok (.return_, 1) := by decide +kernel
abbrev cJ36_equals : ByteArray := object_method_4_code
def yJ36_equals : MethodName := ⟨RJ36, "equals", "(Ljava/lang/Object;)Z"⟩
def dkwJ36_equals_0 : List UInt8 := [42, 43, 166, 0, 7, 4, 167, 0, 4, 3, 172]
abbrev dktJ36_equals_0 : List UInt8 := dkwJ36_equals_0 ++ []
theorem dksJ36_equals_0 : cJ36_equals.data.toList.drop 0 = dktJ36_equals_0 := by decide +kernel
theorem dJ36_equals_0 : decode cJ36_equals 0 = .ok (.aload_n 0, 1) := dk_42 (dk_at dksJ36_equals_0 0 rfl rfl)
theorem dJ36_equals_1 : decode cJ36_equals 1 = .ok (.aload_n 1, 1) := dk_43 (dk_at dksJ36_equals_0 1 rfl rfl)
theorem dJ36_equals_2 : decode cJ36_equals 2 = .ok (.if_acmp .ne 7, 3) := dk_166 0 7 (dk_at dksJ36_equals_0 2 rfl rfl)
theorem dJ36_equals_5 : decode cJ36_equals 5 = .ok (.iconst 1, 1) := dk_4 (dk_at dksJ36_equals_0 5 rfl rfl)
theorem dJ36_equals_6 : decode cJ36_equals 6 = .ok (.goto 4, 3) := dk_167 0 4 (dk_at dksJ36_equals_0 6 rfl rfl)
theorem dJ36_equals_9 : decode cJ36_equals 9 = .ok (.iconst 0, 1) := dk_3 (dk_at dksJ36_equals_0 9 rfl rfl)
theorem dJ36_equals_10 : decode cJ36_equals 10 = .ok (.ireturn, 1) := dk_172 (dk_at dksJ36_equals_0 10 rfl rfl)
theorem q134 : (Jvm.Cond.instanceMethod ({ cls := "java/lang/Object", name := "<init>", desc := "()V" } : Jvm.MethodName)) ∈ lw_all := lw_g (lw_at lw_m1 58 rfl) rfl
theorem q135 : (Jvm.Cond.code ({ cls := "java/lang/Object", name := "<init>", desc := "()V" } : Jvm.MethodName) object_method_1_code (1 : Nat) (Option.none : Option Jvm.ClassFile.FieldType)) ∈ lw_all := lw_g (lw_at lw_m1 59 rfl) rfl
theorem q442 : (Jvm.Cond.instanceMethod ({ cls := "java/lang/Object", name := "getClass", desc := "()Ljava/lang/Class;" } : Jvm.MethodName)) ∈ lw_all := lw_g (lw_at lw_m2 126 rfl) rfl
theorem q443 : (Jvm.Cond.sameMethod "java/lang/Object" "java/lang/Object" "getClass" "()Ljava/lang/Class;") ∈ lw_all := lw_g (lw_at lw_m2 127 rfl) rfl
theorem q474 : (Jvm.Cond.native ({ cls := "java/lang/Object", name := "getClass", desc := "()Ljava/lang/Class;" } : Jvm.MethodName)) ∈ lw_all := lw_g (lw_at lw_m2 158 rfl) rfl
theorem q1229 : (Jvm.Cond.native ({ cls := "java/lang/Object", name := "clone", desc := "()Ljava/lang/Object;" } : Jvm.MethodName)) ∈ lw_all := lw_g (lw_at lw_m5 193 rfl) rfl
theorem q1230 : (Jvm.Cond.instanceMethod ({ cls := "java/lang/Object", name := "clone", desc := "()Ljava/lang/Object;" } : Jvm.MethodName)) ∈ lw_all := lw_g (lw_at lw_m5 194 rfl) rfl
theorem q2099 : (Jvm.Cond.declares ({ cls := "java/lang/Object", name := "equals", desc := "(Ljava/lang/Object;)Z" } : Jvm.MethodName)) ∈ lw_tbl := lw_at lw_m9 103 rfl
theorem q2101 : (Jvm.Cond.instanceMethod ({ cls := "java/lang/Object", name := "equals", desc := "(Ljava/lang/Object;)Z" } : Jvm.MethodName)) ∈ lw_all := lw_g (lw_at lw_m9 105 rfl) rfl
theorem q2102 : (Jvm.Cond.sameMethod "java/lang/Object" "java/lang/Object" "equals" "(Ljava/lang/Object;)Z") ∈ lw_all := lw_g (lw_at lw_m9 106 rfl) rfl
theorem q2130 : (Jvm.Cond.code ({ cls := "java/lang/Object", name := "equals", desc := "(Ljava/lang/Object;)Z" } : Jvm.MethodName) object_method_4_code (2 : Nat) (Option.some Jvm.ClassFile.FieldType.boolean)) ∈ lw_all := lw_g (lw_at lw_m9 134 rfl) rfl
theorem q2987 : (Jvm.Cond.initialized "java/lang/Object") ∈ lw_all := lw_g (lw_at lw_m13 31 rfl) rfl
theorem q2991 : (Jvm.Cond.selects "java/lang/Object" ({ cls := "java/lang/Object", name := "equals", desc := "(Ljava/lang/Object;)Z" } : Jvm.MethodName) ({ cls := "java/lang/Object", name := "equals", desc := "(Ljava/lang/Object;)Z" } : Jvm.MethodName)) ∈ lw_all := lw_g (lw_at lw_m13 35 rfl) rfl
theorem q3025 : (Jvm.Cond.declares ({ cls := "java/lang/Object", name := "getClass", desc := "()Ljava/lang/Class;" } : Jvm.MethodName)) ∈ lw_tbl := lw_at lw_m13 69 rfl

/-! java/util/PriorityQueue -/
set_option maxRecDepth 100000
def RJ4 : String := "java/util/PriorityQueue"
def TJ4 : u_T := fun k => match k with
  | 0 => ("java/util/PriorityQueue", "queue", "[Ljava/lang/Object;", false)
  | 1 => ("java/util/PriorityQueue", "size", "I", false)
  | 2 => ("java/util/PriorityQueue", "comparator", "Ljava/util/Comparator;", true)
  | _ => ("java/util/PriorityQueue", "modCount", "I", false)
def tyJ4 : Nat → FieldType := fun k => match k with
  | 0 => .array (.object "java/lang/Object")
  | 1 => .int
  | 2 => .object "java/util/Comparator"
  | _ => .int
abbrev wsJ40 : List Cond := u_ws RJ4 TJ4 4
theorem nmJ4 : ∀ a, a < 4 → ∀ b, b < 4 → a ≠ b → (TJ4 a).2.1 ≠ (TJ4 b).2.1 := by decide +kernel
theorem tyJ4_ok : ∀ k, k < 4 → parseFieldDescriptor (TJ4 k).2.2.1 = some (tyJ4 k) := by decide +kernel
abbrev cJ4_init : ByteArray := prog_61_method_1_code
def yJ4_init : MethodName := ⟨RJ4, "<init>", "()V"⟩
def dkwJ4_init_0 : List UInt8 := [42, 16, 11, 1, 183, 0, 3, 177]
abbrev dktJ4_init_0 : List UInt8 := dkwJ4_init_0 ++ []
theorem dksJ4_init_0 : cJ4_init.data.toList.drop 0 = dktJ4_init_0 := by decide +kernel
theorem dJ4_init_0 : decode cJ4_init 0 = .ok (.aload_n 0, 1) := dk_42 (dk_at dksJ4_init_0 0 rfl rfl)
theorem dJ4_init_1 : decode cJ4_init 1 = .ok (.bipush 11, 2) := dk_16 11 (dk_at dksJ4_init_0 1 rfl rfl)
theorem dJ4_init_3 : decode cJ4_init 3 = .ok (.aconst_null, 1) := dk_1 (dk_at dksJ4_init_0 3 rfl rfl)
theorem dJ4_init_4 : decode cJ4_init 4 = .ok (.invokespecial 3, 3) := dk_183 0 3 (dk_at dksJ4_init_0 4 rfl rfl)
theorem dJ4_init_7 : decode cJ4_init 7 = .ok (.return_, 1) := dk_177 (dk_at dksJ4_init_0 7 rfl rfl)
abbrev cJ4_init_2 : ByteArray := prog_61_method_4_code
def yJ4_init_2 : MethodName := ⟨RJ4, "<init>", "(ILjava/util/Comparator;)V"⟩
def dkwJ4_init_2_1 : List UInt8 := [181, 0, 17, 42, 44, 181, 0, 21, 177]
abbrev dktJ4_init_2_1 : List UInt8 := dkwJ4_init_2_1 ++ []
def dkwJ4_init_2_0 : List UInt8 := [42, 183, 0, 7, 27, 4, 162, 0, 11, 187, 0, 12, 89, 183, 0, 14, 191, 42, 27, 189, 0, 15]
abbrev dktJ4_init_2_0 : List UInt8 := dkwJ4_init_2_0 ++ dktJ4_init_2_1
theorem dksJ4_init_2_0 : cJ4_init_2.data.toList.drop 0 = dktJ4_init_2_0 := by decide +kernel
theorem dksJ4_init_2_1 : cJ4_init_2.data.toList.drop 22 = dktJ4_init_2_1 := dk_seg dksJ4_init_2_0 22 rfl rfl
theorem dJ4_init_2_0 : decode cJ4_init_2 0 = .ok (.aload_n 0, 1) := dk_42 (dk_at dksJ4_init_2_0 0 rfl rfl)
theorem dJ4_init_2_1 : decode cJ4_init_2 1 = .ok (.invokespecial 7, 3) := dk_183 0 7 (dk_at dksJ4_init_2_0 1 rfl rfl)
theorem dJ4_init_2_4 : decode cJ4_init_2 4 = .ok (.iload_n 1, 1) := dk_27 (dk_at dksJ4_init_2_0 4 rfl rfl)
theorem dJ4_init_2_5 : decode cJ4_init_2 5 = .ok (.iconst 1, 1) := dk_4 (dk_at dksJ4_init_2_0 5 rfl rfl)
theorem dJ4_init_2_6 : decode cJ4_init_2 6 = .ok (.if_icmp .ge 11, 3) := dk_162 0 11 (dk_at dksJ4_init_2_0 6 rfl rfl)
theorem dJ4_init_2_9 : decode cJ4_init_2 9 = .ok (.new 12, 3) := dk_187 0 12 (dk_at dksJ4_init_2_0 9 rfl rfl)
theorem dJ4_init_2_12 : decode cJ4_init_2 12 = .ok (.dup, 1) := dk_89 (dk_at dksJ4_init_2_0 12 rfl rfl)
theorem dJ4_init_2_13 : decode cJ4_init_2 13 = .ok (.invokespecial 14, 3) := dk_183 0 14 (dk_at dksJ4_init_2_0 13 rfl rfl)
theorem dJ4_init_2_16 : decode cJ4_init_2 16 = .ok (.athrow, 1) := dk_191 (dk_at dksJ4_init_2_0 16 rfl rfl)
theorem dJ4_init_2_17 : decode cJ4_init_2 17 = .ok (.aload_n 0, 1) := dk_42 (dk_at dksJ4_init_2_0 17 rfl rfl)
theorem dJ4_init_2_18 : decode cJ4_init_2 18 = .ok (.iload_n 1, 1) := dk_27 (dk_at dksJ4_init_2_0 18 rfl rfl)
theorem dJ4_init_2_19 : decode cJ4_init_2 19 = .ok (.anewarray 15, 3) := dk_189 0 15 (dk_at dksJ4_init_2_0 19 rfl rfl)
theorem dJ4_init_2_22 : decode cJ4_init_2 22 = .ok (.putfield 17, 3) := dk_181 0 17 (dk_at dksJ4_init_2_1 0 rfl rfl)
theorem dJ4_init_2_25 : decode cJ4_init_2 25 = .ok (.aload_n 0, 1) := dk_42 (dk_at dksJ4_init_2_1 3 rfl rfl)
theorem dJ4_init_2_26 : decode cJ4_init_2 26 = .ok (.aload_n 2, 1) := dk_44 (dk_at dksJ4_init_2_1 4 rfl rfl)
theorem dJ4_init_2_27 : decode cJ4_init_2 27 = .ok (.putfield 21, 3) := dk_181 0 21 (dk_at dksJ4_init_2_1 5 rfl rfl)
theorem dJ4_init_2_30 : decode cJ4_init_2 30 = .ok (.return_, 1) := dk_177 (dk_at dksJ4_init_2_1 8 rfl rfl)
abbrev cJ4_size : ByteArray := prog_61_method_23_code
def yJ4_size : MethodName := ⟨RJ4, "size", "()I"⟩
theorem dJ4_size_0 : decode cJ4_size 0 = .ok (.aload_n 0, 1) := by decide +kernel
theorem dJ4_size_1 : decode cJ4_size 1 = .ok (.getfield 58, 3) := by decide +kernel
theorem dJ4_size_4 : decode cJ4_size 4 = .ok (.ireturn, 1) := by decide +kernel
abbrev cJ4_clear : ByteArray := prog_61_method_24_code
def yJ4_clear : MethodName := ⟨RJ4, "clear", "()V"⟩
def dkwJ4_clear_1 : List UInt8 := [162, 0, 13, 43, 28, 1, 83, 132, 2, 1, 167, 255, 244, 42, 3, 181, 0, 58, 177]
abbrev dktJ4_clear_1 : List UInt8 := dkwJ4_clear_1 ++ []
def dkwJ4_clear_0 : List UInt8 := [42, 89, 180, 0, 93, 4, 96, 181, 0, 93, 42, 180, 0, 17, 76, 3, 61, 42, 180, 0, 58, 62, 28, 29]
abbrev dktJ4_clear_0 : List UInt8 := dkwJ4_clear_0 ++ dktJ4_clear_1
theorem dksJ4_clear_0 : cJ4_clear.data.toList.drop 0 = dktJ4_clear_0 := by decide +kernel
theorem dksJ4_clear_1 : cJ4_clear.data.toList.drop 24 = dktJ4_clear_1 := dk_seg dksJ4_clear_0 24 rfl rfl
theorem dJ4_clear_0 : decode cJ4_clear 0 = .ok (.aload_n 0, 1) := dk_42 (dk_at dksJ4_clear_0 0 rfl rfl)
theorem dJ4_clear_1 : decode cJ4_clear 1 = .ok (.dup, 1) := dk_89 (dk_at dksJ4_clear_0 1 rfl rfl)
theorem dJ4_clear_2 : decode cJ4_clear 2 = .ok (.getfield 93, 3) := dk_180 0 93 (dk_at dksJ4_clear_0 2 rfl rfl)
theorem dJ4_clear_5 : decode cJ4_clear 5 = .ok (.iconst 1, 1) := dk_4 (dk_at dksJ4_clear_0 5 rfl rfl)
theorem dJ4_clear_6 : decode cJ4_clear 6 = .ok (.iadd, 1) := dk_96 (dk_at dksJ4_clear_0 6 rfl rfl)
theorem dJ4_clear_7 : decode cJ4_clear 7 = .ok (.putfield 93, 3) := dk_181 0 93 (dk_at dksJ4_clear_0 7 rfl rfl)
theorem dJ4_clear_10 : decode cJ4_clear 10 = .ok (.aload_n 0, 1) := dk_42 (dk_at dksJ4_clear_0 10 rfl rfl)
theorem dJ4_clear_11 : decode cJ4_clear 11 = .ok (.getfield 17, 3) := dk_180 0 17 (dk_at dksJ4_clear_0 11 rfl rfl)
theorem dJ4_clear_14 : decode cJ4_clear 14 = .ok (.astore_n 1, 1) := dk_76 (dk_at dksJ4_clear_0 14 rfl rfl)
theorem dJ4_clear_15 : decode cJ4_clear 15 = .ok (.iconst 0, 1) := dk_3 (dk_at dksJ4_clear_0 15 rfl rfl)
theorem dJ4_clear_16 : decode cJ4_clear 16 = .ok (.istore_n 2, 1) := dk_61 (dk_at dksJ4_clear_0 16 rfl rfl)
theorem dJ4_clear_17 : decode cJ4_clear 17 = .ok (.aload_n 0, 1) := dk_42 (dk_at dksJ4_clear_0 17 rfl rfl)
theorem dJ4_clear_18 : decode cJ4_clear 18 = .ok (.getfield 58, 3) := dk_180 0 58 (dk_at dksJ4_clear_0 18 rfl rfl)
theorem dJ4_clear_21 : decode cJ4_clear 21 = .ok (.istore_n 3, 1) := dk_62 (dk_at dksJ4_clear_0 21 rfl rfl)
theorem dJ4_clear_22 : decode cJ4_clear 22 = .ok (.iload_n 2, 1) := dk_28 (dk_at dksJ4_clear_0 22 rfl rfl)
theorem dJ4_clear_23 : decode cJ4_clear 23 = .ok (.iload_n 3, 1) := dk_29 (dk_at dksJ4_clear_0 23 rfl rfl)
theorem dJ4_clear_24 : decode cJ4_clear 24 = .ok (.if_icmp .ge 13, 3) := dk_162 0 13 (dk_at dksJ4_clear_1 0 rfl rfl)
theorem dJ4_clear_27 : decode cJ4_clear 27 = .ok (.aload_n 1, 1) := dk_43 (dk_at dksJ4_clear_1 3 rfl rfl)
theorem dJ4_clear_28 : decode cJ4_clear 28 = .ok (.iload_n 2, 1) := dk_28 (dk_at dksJ4_clear_1 4 rfl rfl)
theorem dJ4_clear_29 : decode cJ4_clear 29 = .ok (.aconst_null, 1) := dk_1 (dk_at dksJ4_clear_1 5 rfl rfl)
theorem dJ4_clear_30 : decode cJ4_clear 30 = .ok (.aastore, 1) := dk_83 (dk_at dksJ4_clear_1 6 rfl rfl)
theorem dJ4_clear_31 : decode cJ4_clear 31 = .ok (.iinc 2 1, 3) := dk_132 2 1 (dk_at dksJ4_clear_1 7 rfl rfl)
theorem dJ4_clear_34 : decode cJ4_clear 34 = .ok (.goto (-12), 3) := dk_167 255 244 (dk_at dksJ4_clear_1 10 rfl rfl)
theorem dJ4_clear_37 : decode cJ4_clear 37 = .ok (.aload_n 0, 1) := dk_42 (dk_at dksJ4_clear_1 13 rfl rfl)
theorem dJ4_clear_38 : decode cJ4_clear 38 = .ok (.iconst 0, 1) := dk_3 (dk_at dksJ4_clear_1 14 rfl rfl)
theorem dJ4_clear_39 : decode cJ4_clear 39 = .ok (.putfield 58, 3) := dk_181 0 58 (dk_at dksJ4_clear_1 15 rfl rfl)
theorem dJ4_clear_42 : decode cJ4_clear 42 = .ok (.return_, 1) := dk_177 (dk_at dksJ4_clear_1 18 rfl rfl)
abbrev cJ4_add : ByteArray := prog_61_method_13_code
def yJ4_add : MethodName := ⟨RJ4, "add", "(Ljava/lang/Object;)Z"⟩
def dkwJ4_add_0 : List UInt8 := [42, 43, 182, 0, 89, 172]
abbrev dktJ4_add_0 : List UInt8 := dkwJ4_add_0 ++ []
theorem dksJ4_add_0 : cJ4_add.data.toList.drop 0 = dktJ4_add_0 := by decide +kernel
theorem dJ4_add_0 : decode cJ4_add 0 = .ok (.aload_n 0, 1) := dk_42 (dk_at dksJ4_add_0 0 rfl rfl)
theorem dJ4_add_1 : decode cJ4_add 1 = .ok (.aload_n 1, 1) := dk_43 (dk_at dksJ4_add_0 1 rfl rfl)
theorem dJ4_add_2 : decode cJ4_add 2 = .ok (.invokevirtual 89, 3) := dk_182 0 89 (dk_at dksJ4_add_0 2 rfl rfl)
theorem dJ4_add_5 : decode cJ4_add 5 = .ok (.ireturn, 1) := dk_172 (dk_at dksJ4_add_0 5 rfl rfl)
abbrev cJ4_offer : ByteArray := prog_61_method_14_code
def yJ4_offer : MethodName := ⟨RJ4, "offer", "(Ljava/lang/Object;)Z"⟩
def dkwJ4_offer_2 : List UInt8 := [182, 0, 100, 42, 28, 4, 96, 181, 0, 58, 4, 172]
abbrev dktJ4_offer_2 : List UInt8 := dkwJ4_offer_2 ++ []
def dkwJ4_offer_1 : List UInt8 := [180, 0, 58, 61, 28, 42, 180, 0, 17, 190, 161, 0, 10, 42, 28, 4, 96, 182, 0, 96, 42, 28, 43]
abbrev dktJ4_offer_1 : List UInt8 := dkwJ4_offer_1 ++ dktJ4_offer_2
def dkwJ4_offer_0 : List UInt8 := [43, 199, 0, 11, 187, 0, 74, 89, 183, 0, 76, 191, 42, 89, 180, 0, 93, 4, 96, 181, 0, 93, 42]
abbrev dktJ4_offer_0 : List UInt8 := dkwJ4_offer_0 ++ dktJ4_offer_1
theorem dksJ4_offer_0 : cJ4_offer.data.toList.drop 0 = dktJ4_offer_0 := by decide +kernel
theorem dksJ4_offer_1 : cJ4_offer.data.toList.drop 23 = dktJ4_offer_1 := dk_seg dksJ4_offer_0 23 rfl rfl
theorem dksJ4_offer_2 : cJ4_offer.data.toList.drop 46 = dktJ4_offer_2 := dk_seg dksJ4_offer_1 23 rfl rfl
theorem dJ4_offer_0 : decode cJ4_offer 0 = .ok (.aload_n 1, 1) := dk_43 (dk_at dksJ4_offer_0 0 rfl rfl)
theorem dJ4_offer_1 : decode cJ4_offer 1 = .ok (.ifnonnull 11, 3) := dk_199 0 11 (dk_at dksJ4_offer_0 1 rfl rfl)
theorem dJ4_offer_4 : decode cJ4_offer 4 = .ok (.new 74, 3) := dk_187 0 74 (dk_at dksJ4_offer_0 4 rfl rfl)
theorem dJ4_offer_7 : decode cJ4_offer 7 = .ok (.dup, 1) := dk_89 (dk_at dksJ4_offer_0 7 rfl rfl)
theorem dJ4_offer_8 : decode cJ4_offer 8 = .ok (.invokespecial 76, 3) := dk_183 0 76 (dk_at dksJ4_offer_0 8 rfl rfl)
theorem dJ4_offer_11 : decode cJ4_offer 11 = .ok (.athrow, 1) := dk_191 (dk_at dksJ4_offer_0 11 rfl rfl)
theorem dJ4_offer_12 : decode cJ4_offer 12 = .ok (.aload_n 0, 1) := dk_42 (dk_at dksJ4_offer_0 12 rfl rfl)
theorem dJ4_offer_13 : decode cJ4_offer 13 = .ok (.dup, 1) := dk_89 (dk_at dksJ4_offer_0 13 rfl rfl)
theorem dJ4_offer_14 : decode cJ4_offer 14 = .ok (.getfield 93, 3) := dk_180 0 93 (dk_at dksJ4_offer_0 14 rfl rfl)
theorem dJ4_offer_17 : decode cJ4_offer 17 = .ok (.iconst 1, 1) := dk_4 (dk_at dksJ4_offer_0 17 rfl rfl)
theorem dJ4_offer_18 : decode cJ4_offer 18 = .ok (.iadd, 1) := dk_96 (dk_at dksJ4_offer_0 18 rfl rfl)
theorem dJ4_offer_19 : decode cJ4_offer 19 = .ok (.putfield 93, 3) := dk_181 0 93 (dk_at dksJ4_offer_0 19 rfl rfl)
theorem dJ4_offer_22 : decode cJ4_offer 22 = .ok (.aload_n 0, 1) := dk_42 (dk_at dksJ4_offer_0 22 rfl rfl)
theorem dJ4_offer_23 : decode cJ4_offer 23 = .ok (.getfield 58, 3) := dk_180 0 58 (dk_at dksJ4_offer_1 0 rfl rfl)
theorem dJ4_offer_26 : decode cJ4_offer 26 = .ok (.istore_n 2, 1) := dk_61 (dk_at dksJ4_offer_1 3 rfl rfl)
theorem dJ4_offer_27 : decode cJ4_offer 27 = .ok (.iload_n 2, 1) := dk_28 (dk_at dksJ4_offer_1 4 rfl rfl)
theorem dJ4_offer_28 : decode cJ4_offer 28 = .ok (.aload_n 0, 1) := dk_42 (dk_at dksJ4_offer_1 5 rfl rfl)
theorem dJ4_offer_29 : decode cJ4_offer 29 = .ok (.getfield 17, 3) := dk_180 0 17 (dk_at dksJ4_offer_1 6 rfl rfl)
theorem dJ4_offer_32 : decode cJ4_offer 32 = .ok (.arraylength, 1) := dk_190 (dk_at dksJ4_offer_1 9 rfl rfl)
theorem dJ4_offer_33 : decode cJ4_offer 33 = .ok (.if_icmp .lt 10, 3) := dk_161 0 10 (dk_at dksJ4_offer_1 10 rfl rfl)
theorem dJ4_offer_36 : decode cJ4_offer 36 = .ok (.aload_n 0, 1) := dk_42 (dk_at dksJ4_offer_1 13 rfl rfl)
theorem dJ4_offer_37 : decode cJ4_offer 37 = .ok (.iload_n 2, 1) := dk_28 (dk_at dksJ4_offer_1 14 rfl rfl)
theorem dJ4_offer_38 : decode cJ4_offer 38 = .ok (.iconst 1, 1) := dk_4 (dk_at dksJ4_offer_1 15 rfl rfl)
theorem dJ4_offer_39 : decode cJ4_offer 39 = .ok (.iadd, 1) := dk_96 (dk_at dksJ4_offer_1 16 rfl rfl)
theorem dJ4_offer_40 : decode cJ4_offer 40 = .ok (.invokevirtual 96, 3) := dk_182 0 96 (dk_at dksJ4_offer_1 17 rfl rfl)
theorem dJ4_offer_43 : decode cJ4_offer 43 = .ok (.aload_n 0, 1) := dk_42 (dk_at dksJ4_offer_1 20 rfl rfl)
theorem dJ4_offer_44 : decode cJ4_offer 44 = .ok (.iload_n 2, 1) := dk_28 (dk_at dksJ4_offer_1 21 rfl rfl)
theorem dJ4_offer_45 : decode cJ4_offer 45 = .ok (.aload_n 1, 1) := dk_43 (dk_at dksJ4_offer_1 22 rfl rfl)
theorem dJ4_offer_46 : decode cJ4_offer 46 = .ok (.invokevirtual 100, 3) := dk_182 0 100 (dk_at dksJ4_offer_2 0 rfl rfl)
theorem dJ4_offer_49 : decode cJ4_offer 49 = .ok (.aload_n 0, 1) := dk_42 (dk_at dksJ4_offer_2 3 rfl rfl)
theorem dJ4_offer_50 : decode cJ4_offer 50 = .ok (.iload_n 2, 1) := dk_28 (dk_at dksJ4_offer_2 4 rfl rfl)
theorem dJ4_offer_51 : decode cJ4_offer 51 = .ok (.iconst 1, 1) := dk_4 (dk_at dksJ4_offer_2 5 rfl rfl)
theorem dJ4_offer_52 : decode cJ4_offer 52 = .ok (.iadd, 1) := dk_96 (dk_at dksJ4_offer_2 6 rfl rfl)
theorem dJ4_offer_53 : decode cJ4_offer 53 = .ok (.putfield 58, 3) := dk_181 0 58 (dk_at dksJ4_offer_2 7 rfl rfl)
theorem dJ4_offer_56 : decode cJ4_offer 56 = .ok (.iconst 1, 1) := dk_4 (dk_at dksJ4_offer_2 10 rfl rfl)
theorem dJ4_offer_57 : decode cJ4_offer 57 = .ok (.ireturn, 1) := dk_172 (dk_at dksJ4_offer_2 11 rfl rfl)
abbrev cJ4_grow : ByteArray := prog_61_method_12_code
def yJ4_grow : MethodName := ⟨RJ4, "grow", "(I)V"⟩
def dkwJ4_grow_1 : List UInt8 := [122, 184, 0, 80, 62, 42, 42, 180, 0, 17, 29, 184, 0, 86, 181, 0, 17, 177]
abbrev dktJ4_grow_1 : List UInt8 := dkwJ4_grow_1 ++ []
def dkwJ4_grow_0 : List UInt8 := [42, 180, 0, 17, 190, 61, 28, 27, 28, 100, 28, 16, 64, 162, 0, 9, 28, 5, 96, 167, 0, 6, 28, 4]
abbrev dktJ4_grow_0 : List UInt8 := dkwJ4_grow_0 ++ dktJ4_grow_1
theorem dksJ4_grow_0 : cJ4_grow.data.toList.drop 0 = dktJ4_grow_0 := by decide +kernel
theorem dksJ4_grow_1 : cJ4_grow.data.toList.drop 24 = dktJ4_grow_1 := dk_seg dksJ4_grow_0 24 rfl rfl
theorem dJ4_grow_0 : decode cJ4_grow 0 = .ok (.aload_n 0, 1) := dk_42 (dk_at dksJ4_grow_0 0 rfl rfl)
theorem dJ4_grow_1 : decode cJ4_grow 1 = .ok (.getfield 17, 3) := dk_180 0 17 (dk_at dksJ4_grow_0 1 rfl rfl)
theorem dJ4_grow_4 : decode cJ4_grow 4 = .ok (.arraylength, 1) := dk_190 (dk_at dksJ4_grow_0 4 rfl rfl)
theorem dJ4_grow_5 : decode cJ4_grow 5 = .ok (.istore_n 2, 1) := dk_61 (dk_at dksJ4_grow_0 5 rfl rfl)
theorem dJ4_grow_6 : decode cJ4_grow 6 = .ok (.iload_n 2, 1) := dk_28 (dk_at dksJ4_grow_0 6 rfl rfl)
theorem dJ4_grow_7 : decode cJ4_grow 7 = .ok (.iload_n 1, 1) := dk_27 (dk_at dksJ4_grow_0 7 rfl rfl)
theorem dJ4_grow_8 : decode cJ4_grow 8 = .ok (.iload_n 2, 1) := dk_28 (dk_at dksJ4_grow_0 8 rfl rfl)
theorem dJ4_grow_9 : decode cJ4_grow 9 = .ok (.isub, 1) := dk_100 (dk_at dksJ4_grow_0 9 rfl rfl)
theorem dJ4_grow_10 : decode cJ4_grow 10 = .ok (.iload_n 2, 1) := dk_28 (dk_at dksJ4_grow_0 10 rfl rfl)
theorem dJ4_grow_11 : decode cJ4_grow 11 = .ok (.bipush 64, 2) := dk_16 64 (dk_at dksJ4_grow_0 11 rfl rfl)
theorem dJ4_grow_13 : decode cJ4_grow 13 = .ok (.if_icmp .ge 9, 3) := dk_162 0 9 (dk_at dksJ4_grow_0 13 rfl rfl)
theorem dJ4_grow_16 : decode cJ4_grow 16 = .ok (.iload_n 2, 1) := dk_28 (dk_at dksJ4_grow_0 16 rfl rfl)
theorem dJ4_grow_17 : decode cJ4_grow 17 = .ok (.iconst 2, 1) := dk_5 (dk_at dksJ4_grow_0 17 rfl rfl)
theorem dJ4_grow_18 : decode cJ4_grow 18 = .ok (.iadd, 1) := dk_96 (dk_at dksJ4_grow_0 18 rfl rfl)
theorem dJ4_grow_19 : decode cJ4_grow 19 = .ok (.goto 6, 3) := dk_167 0 6 (dk_at dksJ4_grow_0 19 rfl rfl)
theorem dJ4_grow_22 : decode cJ4_grow 22 = .ok (.iload_n 2, 1) := dk_28 (dk_at dksJ4_grow_0 22 rfl rfl)
theorem dJ4_grow_23 : decode cJ4_grow 23 = .ok (.iconst 1, 1) := dk_4 (dk_at dksJ4_grow_0 23 rfl rfl)
theorem dJ4_grow_24 : decode cJ4_grow 24 = .ok (.ishr, 1) := dk_122 (dk_at dksJ4_grow_1 0 rfl rfl)
theorem dJ4_grow_25 : decode cJ4_grow 25 = .ok (.invokestatic 80, 3) := dk_184 0 80 (dk_at dksJ4_grow_1 1 rfl rfl)
theorem dJ4_grow_28 : decode cJ4_grow 28 = .ok (.istore_n 3, 1) := dk_62 (dk_at dksJ4_grow_1 4 rfl rfl)
theorem dJ4_grow_29 : decode cJ4_grow 29 = .ok (.aload_n 0, 1) := dk_42 (dk_at dksJ4_grow_1 5 rfl rfl)
theorem dJ4_grow_30 : decode cJ4_grow 30 = .ok (.aload_n 0, 1) := dk_42 (dk_at dksJ4_grow_1 6 rfl rfl)
theorem dJ4_grow_31 : decode cJ4_grow 31 = .ok (.getfield 17, 3) := dk_180 0 17 (dk_at dksJ4_grow_1 7 rfl rfl)
theorem dJ4_grow_34 : decode cJ4_grow 34 = .ok (.iload_n 3, 1) := dk_29 (dk_at dksJ4_grow_1 10 rfl rfl)
theorem dJ4_grow_35 : decode cJ4_grow 35 = .ok (.invokestatic 86, 3) := dk_184 0 86 (dk_at dksJ4_grow_1 11 rfl rfl)
theorem dJ4_grow_38 : decode cJ4_grow 38 = .ok (.putfield 17, 3) := dk_181 0 17 (dk_at dksJ4_grow_1 14 rfl rfl)
theorem dJ4_grow_41 : decode cJ4_grow 41 = .ok (.return_, 1) := dk_177 (dk_at dksJ4_grow_1 17 rfl rfl)
abbrev cJ4_siftUp : ByteArray := prog_61_method_27_code
def yJ4_siftUp : MethodName := ⟨RJ4, "siftUp", "(ILjava/lang/Object;)V"⟩
def dkwJ4_siftUp_1 : List UInt8 := [44, 42, 180, 0, 17, 184, 0, 140, 177]
abbrev dktJ4_siftUp_1 : List UInt8 := dkwJ4_siftUp_1 ++ []
def dkwJ4_siftUp_0 : List UInt8 := [42, 180, 0, 21, 198, 0, 19, 27, 44, 42, 180, 0, 17, 42, 180, 0, 21, 184, 0, 136, 167, 0, 12, 27]
abbrev dktJ4_siftUp_0 : List UInt8 := dkwJ4_siftUp_0 ++ dktJ4_siftUp_1
theorem dksJ4_siftUp_0 : cJ4_siftUp.data.toList.drop 0 = dktJ4_siftUp_0 := by decide +kernel
theorem dksJ4_siftUp_1 : cJ4_siftUp.data.toList.drop 24 = dktJ4_siftUp_1 := dk_seg dksJ4_siftUp_0 24 rfl rfl
theorem dJ4_siftUp_0 : decode cJ4_siftUp 0 = .ok (.aload_n 0, 1) := dk_42 (dk_at dksJ4_siftUp_0 0 rfl rfl)
theorem dJ4_siftUp_1 : decode cJ4_siftUp 1 = .ok (.getfield 21, 3) := dk_180 0 21 (dk_at dksJ4_siftUp_0 1 rfl rfl)
theorem dJ4_siftUp_4 : decode cJ4_siftUp 4 = .ok (.ifnull 19, 3) := dk_198 0 19 (dk_at dksJ4_siftUp_0 4 rfl rfl)
theorem dJ4_siftUp_7 : decode cJ4_siftUp 7 = .ok (.iload_n 1, 1) := dk_27 (dk_at dksJ4_siftUp_0 7 rfl rfl)
theorem dJ4_siftUp_8 : decode cJ4_siftUp 8 = .ok (.aload_n 2, 1) := dk_44 (dk_at dksJ4_siftUp_0 8 rfl rfl)
theorem dJ4_siftUp_9 : decode cJ4_siftUp 9 = .ok (.aload_n 0, 1) := dk_42 (dk_at dksJ4_siftUp_0 9 rfl rfl)
theorem dJ4_siftUp_10 : decode cJ4_siftUp 10 = .ok (.getfield 17, 3) := dk_180 0 17 (dk_at dksJ4_siftUp_0 10 rfl rfl)
theorem dJ4_siftUp_13 : decode cJ4_siftUp 13 = .ok (.aload_n 0, 1) := dk_42 (dk_at dksJ4_siftUp_0 13 rfl rfl)
theorem dJ4_siftUp_14 : decode cJ4_siftUp 14 = .ok (.getfield 21, 3) := dk_180 0 21 (dk_at dksJ4_siftUp_0 14 rfl rfl)
theorem dJ4_siftUp_17 : decode cJ4_siftUp 17 = .ok (.invokestatic 136, 3) := dk_184 0 136 (dk_at dksJ4_siftUp_0 17 rfl rfl)
theorem dJ4_siftUp_20 : decode cJ4_siftUp 20 = .ok (.goto 12, 3) := dk_167 0 12 (dk_at dksJ4_siftUp_0 20 rfl rfl)
theorem dJ4_siftUp_23 : decode cJ4_siftUp 23 = .ok (.iload_n 1, 1) := dk_27 (dk_at dksJ4_siftUp_0 23 rfl rfl)
theorem dJ4_siftUp_24 : decode cJ4_siftUp 24 = .ok (.aload_n 2, 1) := dk_44 (dk_at dksJ4_siftUp_1 0 rfl rfl)
theorem dJ4_siftUp_25 : decode cJ4_siftUp 25 = .ok (.aload_n 0, 1) := dk_42 (dk_at dksJ4_siftUp_1 1 rfl rfl)
theorem dJ4_siftUp_26 : decode cJ4_siftUp 26 = .ok (.getfield 17, 3) := dk_180 0 17 (dk_at dksJ4_siftUp_1 2 rfl rfl)
theorem dJ4_siftUp_29 : decode cJ4_siftUp 29 = .ok (.invokestatic 140, 3) := dk_184 0 140 (dk_at dksJ4_siftUp_1 5 rfl rfl)
theorem dJ4_siftUp_32 : decode cJ4_siftUp 32 = .ok (.return_, 1) := dk_177 (dk_at dksJ4_siftUp_1 8 rfl rfl)
abbrev cJ4_siftUpUsingComparator : ByteArray := prog_61_method_29_code
def yJ4_siftUpUsingComparator : MethodName := ⟨RJ4, "siftUpUsingComparator", "(ILjava/lang/Object;[Ljava/lang/Object;Ljava/util/Comparator;)V"⟩
def dkwJ4_siftUpUsingComparator_2 : List UInt8 := [43, 83, 177]
abbrev dktJ4_siftUpUsingComparator_2 : List UInt8 := dkwJ4_siftUpUsingComparator_2 ++ []
def dkwJ4_siftUpUsingComparator_1 : List UInt8 := [185, 0, 149, 3, 0, 155, 0, 6, 167, 0, 14, 44, 26, 25, 5, 83, 21, 4, 59, 167, 255, 216, 44, 26]
abbrev dktJ4_siftUpUsingComparator_1 : List UInt8 := dkwJ4_siftUpUsingComparator_1 ++ dktJ4_siftUpUsingComparator_2
def dkwJ4_siftUpUsingComparator_0 : List UInt8 := [26, 158, 0, 42, 26, 4, 100, 4, 124, 54, 4, 44, 21, 4, 50, 58, 5, 45, 43, 25, 5]
abbrev dktJ4_siftUpUsingComparator_0 : List UInt8 := dkwJ4_siftUpUsingComparator_0 ++ dktJ4_siftUpUsingComparator_1
theorem dksJ4_siftUpUsingComparator_0 : cJ4_siftUpUsingComparator.data.toList.drop 0 = dktJ4_siftUpUsingComparator_0 := by decide +kernel
theorem dksJ4_siftUpUsingComparator_1 : cJ4_siftUpUsingComparator.data.toList.drop 21 = dktJ4_siftUpUsingComparator_1 := dk_seg dksJ4_siftUpUsingComparator_0 21 rfl rfl
theorem dksJ4_siftUpUsingComparator_2 : cJ4_siftUpUsingComparator.data.toList.drop 45 = dktJ4_siftUpUsingComparator_2 := dk_seg dksJ4_siftUpUsingComparator_1 24 rfl rfl
theorem dJ4_siftUpUsingComparator_0 : decode cJ4_siftUpUsingComparator 0 = .ok (.iload_n 0, 1) := dk_26 (dk_at dksJ4_siftUpUsingComparator_0 0 rfl rfl)
theorem dJ4_siftUpUsingComparator_1 : decode cJ4_siftUpUsingComparator 1 = .ok (.ifCond .le 42, 3) := dk_158 0 42 (dk_at dksJ4_siftUpUsingComparator_0 1 rfl rfl)
theorem dJ4_siftUpUsingComparator_4 : decode cJ4_siftUpUsingComparator 4 = .ok (.iload_n 0, 1) := dk_26 (dk_at dksJ4_siftUpUsingComparator_0 4 rfl rfl)
theorem dJ4_siftUpUsingComparator_5 : decode cJ4_siftUpUsingComparator 5 = .ok (.iconst 1, 1) := dk_4 (dk_at dksJ4_siftUpUsingComparator_0 5 rfl rfl)
theorem dJ4_siftUpUsingComparator_6 : decode cJ4_siftUpUsingComparator 6 = .ok (.isub, 1) := dk_100 (dk_at dksJ4_siftUpUsingComparator_0 6 rfl rfl)
theorem dJ4_siftUpUsingComparator_7 : decode cJ4_siftUpUsingComparator 7 = .ok (.iconst 1, 1) := dk_4 (dk_at dksJ4_siftUpUsingComparator_0 7 rfl rfl)
theorem dJ4_siftUpUsingComparator_8 : decode cJ4_siftUpUsingComparator 8 = .ok (.iushr, 1) := dk_124 (dk_at dksJ4_siftUpUsingComparator_0 8 rfl rfl)
theorem dJ4_siftUpUsingComparator_9 : decode cJ4_siftUpUsingComparator 9 = .ok (.istore 4, 2) := dk_54 4 (dk_at dksJ4_siftUpUsingComparator_0 9 rfl rfl)
theorem dJ4_siftUpUsingComparator_11 : decode cJ4_siftUpUsingComparator 11 = .ok (.aload_n 2, 1) := dk_44 (dk_at dksJ4_siftUpUsingComparator_0 11 rfl rfl)
theorem dJ4_siftUpUsingComparator_12 : decode cJ4_siftUpUsingComparator 12 = .ok (.iload 4, 2) := dk_21 4 (dk_at dksJ4_siftUpUsingComparator_0 12 rfl rfl)
theorem dJ4_siftUpUsingComparator_14 : decode cJ4_siftUpUsingComparator 14 = .ok (.aaload, 1) := dk_50 (dk_at dksJ4_siftUpUsingComparator_0 14 rfl rfl)
theorem dJ4_siftUpUsingComparator_15 : decode cJ4_siftUpUsingComparator 15 = .ok (.astore 5, 2) := dk_58 5 (dk_at dksJ4_siftUpUsingComparator_0 15 rfl rfl)
theorem dJ4_siftUpUsingComparator_17 : decode cJ4_siftUpUsingComparator 17 = .ok (.aload_n 3, 1) := dk_45 (dk_at dksJ4_siftUpUsingComparator_0 17 rfl rfl)
theorem dJ4_siftUpUsingComparator_18 : decode cJ4_siftUpUsingComparator 18 = .ok (.aload_n 1, 1) := dk_43 (dk_at dksJ4_siftUpUsingComparator_0 18 rfl rfl)
theorem dJ4_siftUpUsingComparator_19 : decode cJ4_siftUpUsingComparator 19 = .ok (.aload 5, 2) := dk_25 5 (dk_at dksJ4_siftUpUsingComparator_0 19 rfl rfl)
theorem dJ4_siftUpUsingComparator_21 : decode cJ4_siftUpUsingComparator 21 = .ok (.invokeinterface 149 3, 5) := by decide +kernel
theorem dJ4_siftUpUsingComparator_26 : decode cJ4_siftUpUsingComparator 26 = .ok (.ifCond .lt 6, 3) := dk_155 0 6 (dk_at dksJ4_siftUpUsingComparator_1 5 rfl rfl)
theorem dJ4_siftUpUsingComparator_29 : decode cJ4_siftUpUsingComparator 29 = .ok (.goto 14, 3) := dk_167 0 14 (dk_at dksJ4_siftUpUsingComparator_1 8 rfl rfl)
theorem dJ4_siftUpUsingComparator_32 : decode cJ4_siftUpUsingComparator 32 = .ok (.aload_n 2, 1) := dk_44 (dk_at dksJ4_siftUpUsingComparator_1 11 rfl rfl)
theorem dJ4_siftUpUsingComparator_33 : decode cJ4_siftUpUsingComparator 33 = .ok (.iload_n 0, 1) := dk_26 (dk_at dksJ4_siftUpUsingComparator_1 12 rfl rfl)
theorem dJ4_siftUpUsingComparator_34 : decode cJ4_siftUpUsingComparator 34 = .ok (.aload 5, 2) := dk_25 5 (dk_at dksJ4_siftUpUsingComparator_1 13 rfl rfl)
theorem dJ4_siftUpUsingComparator_36 : decode cJ4_siftUpUsingComparator 36 = .ok (.aastore, 1) := dk_83 (dk_at dksJ4_siftUpUsingComparator_1 15 rfl rfl)
theorem dJ4_siftUpUsingComparator_37 : decode cJ4_siftUpUsingComparator 37 = .ok (.iload 4, 2) := dk_21 4 (dk_at dksJ4_siftUpUsingComparator_1 16 rfl rfl)
theorem dJ4_siftUpUsingComparator_39 : decode cJ4_siftUpUsingComparator 39 = .ok (.istore_n 0, 1) := dk_59 (dk_at dksJ4_siftUpUsingComparator_1 18 rfl rfl)
theorem dJ4_siftUpUsingComparator_40 : decode cJ4_siftUpUsingComparator 40 = .ok (.goto (-40), 3) := dk_167 255 216 (dk_at dksJ4_siftUpUsingComparator_1 19 rfl rfl)
theorem dJ4_siftUpUsingComparator_43 : decode cJ4_siftUpUsingComparator 43 = .ok (.aload_n 2, 1) := dk_44 (dk_at dksJ4_siftUpUsingComparator_1 22 rfl rfl)
theorem dJ4_siftUpUsingComparator_44 : decode cJ4_siftUpUsingComparator 44 = .ok (.iload_n 0, 1) := dk_26 (dk_at dksJ4_siftUpUsingComparator_1 23 rfl rfl)
theorem dJ4_siftUpUsingComparator_45 : decode cJ4_siftUpUsingComparator 45 = .ok (.aload_n 1, 1) := dk_43 (dk_at dksJ4_siftUpUsingComparator_2 0 rfl rfl)
theorem dJ4_siftUpUsingComparator_46 : decode cJ4_siftUpUsingComparator 46 = .ok (.aastore, 1) := dk_83 (dk_at dksJ4_siftUpUsingComparator_2 1 rfl rfl)
theorem dJ4_siftUpUsingComparator_47 : decode cJ4_siftUpUsingComparator 47 = .ok (.return_, 1) := dk_177 (dk_at dksJ4_siftUpUsingComparator_2 2 rfl rfl)
abbrev cJ4_siftUpComparable : ByteArray := prog_61_method_28_code
def yJ4_siftUpComparable : MethodName := ⟨RJ4, "siftUpComparable", "(ILjava/lang/Object;[Ljava/lang/Object;)V"⟩
def dkwJ4_siftUpComparable_2 : List UInt8 := [44, 26, 45, 83, 177]
abbrev dktJ4_siftUpComparable_2 : List UInt8 := dkwJ4_siftUpComparable_2 ++ []
def dkwJ4_siftUpComparable_1 : List UInt8 := [25, 5, 185, 0, 146, 2, 0, 155, 0, 6, 167, 0, 14, 44, 26, 25, 5, 83, 21, 4, 59, 167, 255, 217]
abbrev dktJ4_siftUpComparable_1 : List UInt8 := dkwJ4_siftUpComparable_1 ++ dktJ4_siftUpComparable_2
def dkwJ4_siftUpComparable_0 : List UInt8 := [43, 192, 0, 144, 78, 26, 158, 0, 41, 26, 4, 100, 4, 124, 54, 4, 44, 21, 4, 50, 58, 5, 45]
abbrev dktJ4_siftUpComparable_0 : List UInt8 := dkwJ4_siftUpComparable_0 ++ dktJ4_siftUpComparable_1
theorem dksJ4_siftUpComparable_0 : cJ4_siftUpComparable.data.toList.drop 0 = dktJ4_siftUpComparable_0 := by decide +kernel
theorem dksJ4_siftUpComparable_1 : cJ4_siftUpComparable.data.toList.drop 23 = dktJ4_siftUpComparable_1 := dk_seg dksJ4_siftUpComparable_0 23 rfl rfl
theorem dksJ4_siftUpComparable_2 : cJ4_siftUpComparable.data.toList.drop 47 = dktJ4_siftUpComparable_2 := dk_seg dksJ4_siftUpComparable_1 24 rfl rfl
theorem dJ4_siftUpComparable_0 : decode cJ4_siftUpComparable 0 = .ok (.aload_n 1, 1) := dk_43 (dk_at dksJ4_siftUpComparable_0 0 rfl rfl)
theorem dJ4_siftUpComparable_1 : decode cJ4_siftUpComparable 1 = .ok (.checkcast 144, 3) := dk_192 0 144 (dk_at dksJ4_siftUpComparable_0 1 rfl rfl)
theorem dJ4_siftUpComparable_4 : decode cJ4_siftUpComparable 4 = .ok (.astore_n 3, 1) := dk_78 (dk_at dksJ4_siftUpComparable_0 4 rfl rfl)
theorem dJ4_siftUpComparable_5 : decode cJ4_siftUpComparable 5 = .ok (.iload_n 0, 1) := dk_26 (dk_at dksJ4_siftUpComparable_0 5 rfl rfl)
theorem dJ4_siftUpComparable_6 : decode cJ4_siftUpComparable 6 = .ok (.ifCond .le 41, 3) := dk_158 0 41 (dk_at dksJ4_siftUpComparable_0 6 rfl rfl)
theorem dJ4_siftUpComparable_9 : decode cJ4_siftUpComparable 9 = .ok (.iload_n 0, 1) := dk_26 (dk_at dksJ4_siftUpComparable_0 9 rfl rfl)
theorem dJ4_siftUpComparable_10 : decode cJ4_siftUpComparable 10 = .ok (.iconst 1, 1) := dk_4 (dk_at dksJ4_siftUpComparable_0 10 rfl rfl)
theorem dJ4_siftUpComparable_11 : decode cJ4_siftUpComparable 11 = .ok (.isub, 1) := dk_100 (dk_at dksJ4_siftUpComparable_0 11 rfl rfl)
theorem dJ4_siftUpComparable_12 : decode cJ4_siftUpComparable 12 = .ok (.iconst 1, 1) := dk_4 (dk_at dksJ4_siftUpComparable_0 12 rfl rfl)
theorem dJ4_siftUpComparable_13 : decode cJ4_siftUpComparable 13 = .ok (.iushr, 1) := dk_124 (dk_at dksJ4_siftUpComparable_0 13 rfl rfl)
theorem dJ4_siftUpComparable_14 : decode cJ4_siftUpComparable 14 = .ok (.istore 4, 2) := dk_54 4 (dk_at dksJ4_siftUpComparable_0 14 rfl rfl)
theorem dJ4_siftUpComparable_16 : decode cJ4_siftUpComparable 16 = .ok (.aload_n 2, 1) := dk_44 (dk_at dksJ4_siftUpComparable_0 16 rfl rfl)
theorem dJ4_siftUpComparable_17 : decode cJ4_siftUpComparable 17 = .ok (.iload 4, 2) := dk_21 4 (dk_at dksJ4_siftUpComparable_0 17 rfl rfl)
theorem dJ4_siftUpComparable_19 : decode cJ4_siftUpComparable 19 = .ok (.aaload, 1) := dk_50 (dk_at dksJ4_siftUpComparable_0 19 rfl rfl)
theorem dJ4_siftUpComparable_20 : decode cJ4_siftUpComparable 20 = .ok (.astore 5, 2) := dk_58 5 (dk_at dksJ4_siftUpComparable_0 20 rfl rfl)
theorem dJ4_siftUpComparable_22 : decode cJ4_siftUpComparable 22 = .ok (.aload_n 3, 1) := dk_45 (dk_at dksJ4_siftUpComparable_0 22 rfl rfl)
theorem dJ4_siftUpComparable_23 : decode cJ4_siftUpComparable 23 = .ok (.aload 5, 2) := dk_25 5 (dk_at dksJ4_siftUpComparable_1 0 rfl rfl)
theorem dJ4_siftUpComparable_25 : decode cJ4_siftUpComparable 25 = .ok (.invokeinterface 146 2, 5) := by decide +kernel
theorem dJ4_siftUpComparable_30 : decode cJ4_siftUpComparable 30 = .ok (.ifCond .lt 6, 3) := dk_155 0 6 (dk_at dksJ4_siftUpComparable_1 7 rfl rfl)
theorem dJ4_siftUpComparable_33 : decode cJ4_siftUpComparable 33 = .ok (.goto 14, 3) := dk_167 0 14 (dk_at dksJ4_siftUpComparable_1 10 rfl rfl)
theorem dJ4_siftUpComparable_36 : decode cJ4_siftUpComparable 36 = .ok (.aload_n 2, 1) := dk_44 (dk_at dksJ4_siftUpComparable_1 13 rfl rfl)
theorem dJ4_siftUpComparable_37 : decode cJ4_siftUpComparable 37 = .ok (.iload_n 0, 1) := dk_26 (dk_at dksJ4_siftUpComparable_1 14 rfl rfl)
theorem dJ4_siftUpComparable_38 : decode cJ4_siftUpComparable 38 = .ok (.aload 5, 2) := dk_25 5 (dk_at dksJ4_siftUpComparable_1 15 rfl rfl)
theorem dJ4_siftUpComparable_40 : decode cJ4_siftUpComparable 40 = .ok (.aastore, 1) := dk_83 (dk_at dksJ4_siftUpComparable_1 17 rfl rfl)
theorem dJ4_siftUpComparable_41 : decode cJ4_siftUpComparable 41 = .ok (.iload 4, 2) := dk_21 4 (dk_at dksJ4_siftUpComparable_1 18 rfl rfl)
theorem dJ4_siftUpComparable_43 : decode cJ4_siftUpComparable 43 = .ok (.istore_n 0, 1) := dk_59 (dk_at dksJ4_siftUpComparable_1 20 rfl rfl)
theorem dJ4_siftUpComparable_44 : decode cJ4_siftUpComparable 44 = .ok (.goto (-39), 3) := dk_167 255 217 (dk_at dksJ4_siftUpComparable_1 21 rfl rfl)
theorem dJ4_siftUpComparable_47 : decode cJ4_siftUpComparable 47 = .ok (.aload_n 2, 1) := dk_44 (dk_at dksJ4_siftUpComparable_2 0 rfl rfl)
theorem dJ4_siftUpComparable_48 : decode cJ4_siftUpComparable 48 = .ok (.iload_n 0, 1) := dk_26 (dk_at dksJ4_siftUpComparable_2 1 rfl rfl)
theorem dJ4_siftUpComparable_49 : decode cJ4_siftUpComparable 49 = .ok (.aload_n 3, 1) := dk_45 (dk_at dksJ4_siftUpComparable_2 2 rfl rfl)
theorem dJ4_siftUpComparable_50 : decode cJ4_siftUpComparable 50 = .ok (.aastore, 1) := dk_83 (dk_at dksJ4_siftUpComparable_2 3 rfl rfl)
theorem dJ4_siftUpComparable_51 : decode cJ4_siftUpComparable 51 = .ok (.return_, 1) := dk_177 (dk_at dksJ4_siftUpComparable_2 4 rfl rfl)
abbrev cJ4_poll : ByteArray := prog_61_method_25_code
def yJ4_poll : MethodName := ⟨RJ4, "poll", "()Ljava/lang/Object;"⟩
def dkwJ4_poll_3 : List UInt8 := [43, 29, 25, 5, 184, 0, 129, 44, 176]
abbrev dktJ4_poll_3 : List UInt8 := dkwJ4_poll_3 ++ []
def dkwJ4_poll_2 : List UInt8 := [42, 180, 0, 21, 89, 58, 5, 199, 0, 14, 3, 25, 4, 43, 29, 184, 0, 125, 167, 0, 13, 3, 25, 4]
abbrev dktJ4_poll_2 : List UInt8 := dkwJ4_poll_2 ++ dktJ4_poll_3
def dkwJ4_poll_1 : List UInt8 := [42, 89, 180, 0, 58, 4, 100, 90, 181, 0, 58, 89, 62, 50, 58, 4, 43, 29, 1, 83, 29, 158, 0, 34]
abbrev dktJ4_poll_1 : List UInt8 := dkwJ4_poll_1 ++ dktJ4_poll_2
def dkwJ4_poll_0 : List UInt8 := [42, 180, 0, 17, 89, 76, 3, 50, 89, 77, 198, 0, 69, 42, 89, 180, 0, 93, 4, 96, 181, 0, 93, 43]
abbrev dktJ4_poll_0 : List UInt8 := dkwJ4_poll_0 ++ dktJ4_poll_1
theorem dksJ4_poll_0 : cJ4_poll.data.toList.drop 0 = dktJ4_poll_0 := by decide +kernel
theorem dksJ4_poll_1 : cJ4_poll.data.toList.drop 24 = dktJ4_poll_1 := dk_seg dksJ4_poll_0 24 rfl rfl
theorem dksJ4_poll_2 : cJ4_poll.data.toList.drop 48 = dktJ4_poll_2 := dk_seg dksJ4_poll_1 24 rfl rfl
theorem dksJ4_poll_3 : cJ4_poll.data.toList.drop 72 = dktJ4_poll_3 := dk_seg dksJ4_poll_2 24 rfl rfl
theorem dJ4_poll_0 : decode cJ4_poll 0 = .ok (.aload_n 0, 1) := dk_42 (dk_at dksJ4_poll_0 0 rfl rfl)
theorem dJ4_poll_1 : decode cJ4_poll 1 = .ok (.getfield 17, 3) := dk_180 0 17 (dk_at dksJ4_poll_0 1 rfl rfl)
theorem dJ4_poll_4 : decode cJ4_poll 4 = .ok (.dup, 1) := dk_89 (dk_at dksJ4_poll_0 4 rfl rfl)
theorem dJ4_poll_5 : decode cJ4_poll 5 = .ok (.astore_n 1, 1) := dk_76 (dk_at dksJ4_poll_0 5 rfl rfl)
theorem dJ4_poll_6 : decode cJ4_poll 6 = .ok (.iconst 0, 1) := dk_3 (dk_at dksJ4_poll_0 6 rfl rfl)
theorem dJ4_poll_7 : decode cJ4_poll 7 = .ok (.aaload, 1) := dk_50 (dk_at dksJ4_poll_0 7 rfl rfl)
theorem dJ4_poll_8 : decode cJ4_poll 8 = .ok (.dup, 1) := dk_89 (dk_at dksJ4_poll_0 8 rfl rfl)
theorem dJ4_poll_9 : decode cJ4_poll 9 = .ok (.astore_n 2, 1) := dk_77 (dk_at dksJ4_poll_0 9 rfl rfl)
theorem dJ4_poll_10 : decode cJ4_poll 10 = .ok (.ifnull 69, 3) := dk_198 0 69 (dk_at dksJ4_poll_0 10 rfl rfl)
theorem dJ4_poll_13 : decode cJ4_poll 13 = .ok (.aload_n 0, 1) := dk_42 (dk_at dksJ4_poll_0 13 rfl rfl)
theorem dJ4_poll_14 : decode cJ4_poll 14 = .ok (.dup, 1) := dk_89 (dk_at dksJ4_poll_0 14 rfl rfl)
theorem dJ4_poll_15 : decode cJ4_poll 15 = .ok (.getfield 93, 3) := dk_180 0 93 (dk_at dksJ4_poll_0 15 rfl rfl)
theorem dJ4_poll_18 : decode cJ4_poll 18 = .ok (.iconst 1, 1) := dk_4 (dk_at dksJ4_poll_0 18 rfl rfl)
theorem dJ4_poll_19 : decode cJ4_poll 19 = .ok (.iadd, 1) := dk_96 (dk_at dksJ4_poll_0 19 rfl rfl)
theorem dJ4_poll_20 : decode cJ4_poll 20 = .ok (.putfield 93, 3) := dk_181 0 93 (dk_at dksJ4_poll_0 20 rfl rfl)
theorem dJ4_poll_23 : decode cJ4_poll 23 = .ok (.aload_n 1, 1) := dk_43 (dk_at dksJ4_poll_0 23 rfl rfl)
theorem dJ4_poll_24 : decode cJ4_poll 24 = .ok (.aload_n 0, 1) := dk_42 (dk_at dksJ4_poll_1 0 rfl rfl)
theorem dJ4_poll_25 : decode cJ4_poll 25 = .ok (.dup, 1) := dk_89 (dk_at dksJ4_poll_1 1 rfl rfl)
theorem dJ4_poll_26 : decode cJ4_poll 26 = .ok (.getfield 58, 3) := dk_180 0 58 (dk_at dksJ4_poll_1 2 rfl rfl)
theorem dJ4_poll_29 : decode cJ4_poll 29 = .ok (.iconst 1, 1) := dk_4 (dk_at dksJ4_poll_1 5 rfl rfl)
theorem dJ4_poll_30 : decode cJ4_poll 30 = .ok (.isub, 1) := dk_100 (dk_at dksJ4_poll_1 6 rfl rfl)
theorem dJ4_poll_31 : decode cJ4_poll 31 = .ok (.dup_x1, 1) := dk_90 (dk_at dksJ4_poll_1 7 rfl rfl)
theorem dJ4_poll_32 : decode cJ4_poll 32 = .ok (.putfield 58, 3) := dk_181 0 58 (dk_at dksJ4_poll_1 8 rfl rfl)
theorem dJ4_poll_35 : decode cJ4_poll 35 = .ok (.dup, 1) := dk_89 (dk_at dksJ4_poll_1 11 rfl rfl)
theorem dJ4_poll_36 : decode cJ4_poll 36 = .ok (.istore_n 3, 1) := dk_62 (dk_at dksJ4_poll_1 12 rfl rfl)
theorem dJ4_poll_37 : decode cJ4_poll 37 = .ok (.aaload, 1) := dk_50 (dk_at dksJ4_poll_1 13 rfl rfl)
theorem dJ4_poll_38 : decode cJ4_poll 38 = .ok (.astore 4, 2) := dk_58 4 (dk_at dksJ4_poll_1 14 rfl rfl)
theorem dJ4_poll_40 : decode cJ4_poll 40 = .ok (.aload_n 1, 1) := dk_43 (dk_at dksJ4_poll_1 16 rfl rfl)
theorem dJ4_poll_41 : decode cJ4_poll 41 = .ok (.iload_n 3, 1) := dk_29 (dk_at dksJ4_poll_1 17 rfl rfl)
theorem dJ4_poll_42 : decode cJ4_poll 42 = .ok (.aconst_null, 1) := dk_1 (dk_at dksJ4_poll_1 18 rfl rfl)
theorem dJ4_poll_43 : decode cJ4_poll 43 = .ok (.aastore, 1) := dk_83 (dk_at dksJ4_poll_1 19 rfl rfl)
theorem dJ4_poll_44 : decode cJ4_poll 44 = .ok (.iload_n 3, 1) := dk_29 (dk_at dksJ4_poll_1 20 rfl rfl)
theorem dJ4_poll_45 : decode cJ4_poll 45 = .ok (.ifCond .le 34, 3) := dk_158 0 34 (dk_at dksJ4_poll_1 21 rfl rfl)
theorem dJ4_poll_48 : decode cJ4_poll 48 = .ok (.aload_n 0, 1) := dk_42 (dk_at dksJ4_poll_2 0 rfl rfl)
theorem dJ4_poll_49 : decode cJ4_poll 49 = .ok (.getfield 21, 3) := dk_180 0 21 (dk_at dksJ4_poll_2 1 rfl rfl)
theorem dJ4_poll_52 : decode cJ4_poll 52 = .ok (.dup, 1) := dk_89 (dk_at dksJ4_poll_2 4 rfl rfl)
theorem dJ4_poll_53 : decode cJ4_poll 53 = .ok (.astore 5, 2) := dk_58 5 (dk_at dksJ4_poll_2 5 rfl rfl)
theorem dJ4_poll_55 : decode cJ4_poll 55 = .ok (.ifnonnull 14, 3) := dk_199 0 14 (dk_at dksJ4_poll_2 7 rfl rfl)
theorem dJ4_poll_58 : decode cJ4_poll 58 = .ok (.iconst 0, 1) := dk_3 (dk_at dksJ4_poll_2 10 rfl rfl)
theorem dJ4_poll_59 : decode cJ4_poll 59 = .ok (.aload 4, 2) := dk_25 4 (dk_at dksJ4_poll_2 11 rfl rfl)
theorem dJ4_poll_61 : decode cJ4_poll 61 = .ok (.aload_n 1, 1) := dk_43 (dk_at dksJ4_poll_2 13 rfl rfl)
theorem dJ4_poll_62 : decode cJ4_poll 62 = .ok (.iload_n 3, 1) := dk_29 (dk_at dksJ4_poll_2 14 rfl rfl)
theorem dJ4_poll_63 : decode cJ4_poll 63 = .ok (.invokestatic 125, 3) := dk_184 0 125 (dk_at dksJ4_poll_2 15 rfl rfl)
theorem dJ4_poll_66 : decode cJ4_poll 66 = .ok (.goto 13, 3) := dk_167 0 13 (dk_at dksJ4_poll_2 18 rfl rfl)
theorem dJ4_poll_69 : decode cJ4_poll 69 = .ok (.iconst 0, 1) := dk_3 (dk_at dksJ4_poll_2 21 rfl rfl)
theorem dJ4_poll_70 : decode cJ4_poll 70 = .ok (.aload 4, 2) := dk_25 4 (dk_at dksJ4_poll_2 22 rfl rfl)
theorem dJ4_poll_72 : decode cJ4_poll 72 = .ok (.aload_n 1, 1) := dk_43 (dk_at dksJ4_poll_3 0 rfl rfl)
theorem dJ4_poll_73 : decode cJ4_poll 73 = .ok (.iload_n 3, 1) := dk_29 (dk_at dksJ4_poll_3 1 rfl rfl)
theorem dJ4_poll_74 : decode cJ4_poll 74 = .ok (.aload 5, 2) := dk_25 5 (dk_at dksJ4_poll_3 2 rfl rfl)
theorem dJ4_poll_76 : decode cJ4_poll 76 = .ok (.invokestatic 129, 3) := dk_184 0 129 (dk_at dksJ4_poll_3 4 rfl rfl)
theorem dJ4_poll_79 : decode cJ4_poll 79 = .ok (.aload_n 2, 1) := dk_44 (dk_at dksJ4_poll_3 7 rfl rfl)
theorem dJ4_poll_80 : decode cJ4_poll 80 = .ok (.areturn, 1) := dk_176 (dk_at dksJ4_poll_3 8 rfl rfl)
abbrev cJ4_siftDownComparable : ByteArray := prog_61_method_31_code
def yJ4_siftDownComparable : MethodName := ⟨RJ4, "siftDownComparable", "(ILjava/lang/Object;[Ljava/lang/Object;I)V"⟩
def dkwJ4_siftDownComparable_4 : List UInt8 := [25, 4, 83, 177]
abbrev dktJ4_siftDownComparable_4 : List UInt8 := dkwJ4_siftDownComparable_4 ++ []
def dkwJ4_siftDownComparable_3 : List UInt8 := [185, 0, 146, 2, 0, 157, 0, 6, 167, 0, 14, 44, 26, 25, 7, 83, 21, 6, 59, 167, 255, 176, 44, 26]
abbrev dktJ4_siftDownComparable_3 : List UInt8 := dkwJ4_siftDownComparable_3 ++ dktJ4_siftDownComparable_4
def dkwJ4_siftDownComparable_2 : List UInt8 := [21, 8, 50, 185, 0, 146, 2, 0, 158, 0, 12, 44, 21, 8, 89, 54, 6, 50, 58, 7, 25, 4, 25, 7]
abbrev dktJ4_siftDownComparable_2 : List UInt8 := dkwJ4_siftDownComparable_2 ++ dktJ4_siftDownComparable_3
def dkwJ4_siftDownComparable_1 : List UInt8 := [44, 21, 6, 50, 58, 7, 21, 6, 4, 96, 54, 8, 21, 8, 29, 162, 0, 29, 25, 7, 192, 0, 144, 44]
abbrev dktJ4_siftDownComparable_1 : List UInt8 := dkwJ4_siftDownComparable_1 ++ dktJ4_siftDownComparable_2
def dkwJ4_siftDownComparable_0 : List UInt8 := [43, 192, 0, 144, 58, 4, 29, 4, 124, 54, 5, 26, 21, 5, 162, 0, 80, 26, 4, 120, 4, 96, 54, 6]
abbrev dktJ4_siftDownComparable_0 : List UInt8 := dkwJ4_siftDownComparable_0 ++ dktJ4_siftDownComparable_1
theorem dksJ4_siftDownComparable_0 : cJ4_siftDownComparable.data.toList.drop 0 = dktJ4_siftDownComparable_0 := by decide +kernel
theorem dksJ4_siftDownComparable_1 : cJ4_siftDownComparable.data.toList.drop 24 = dktJ4_siftDownComparable_1 := dk_seg dksJ4_siftDownComparable_0 24 rfl rfl
theorem dksJ4_siftDownComparable_2 : cJ4_siftDownComparable.data.toList.drop 48 = dktJ4_siftDownComparable_2 := dk_seg dksJ4_siftDownComparable_1 24 rfl rfl
theorem dksJ4_siftDownComparable_3 : cJ4_siftDownComparable.data.toList.drop 72 = dktJ4_siftDownComparable_3 := dk_seg dksJ4_siftDownComparable_2 24 rfl rfl
theorem dksJ4_siftDownComparable_4 : cJ4_siftDownComparable.data.toList.drop 96 = dktJ4_siftDownComparable_4 := dk_seg dksJ4_siftDownComparable_3 24 rfl rfl
theorem dJ4_siftDownComparable_0 : decode cJ4_siftDownComparable 0 = .ok (.aload_n 1, 1) := dk_43 (dk_at dksJ4_siftDownComparable_0 0 rfl rfl)
theorem dJ4_siftDownComparable_1 : decode cJ4_siftDownComparable 1 = .ok (.checkcast 144, 3) := dk_192 0 144 (dk_at dksJ4_siftDownComparable_0 1 rfl rfl)
theorem dJ4_siftDownComparable_4 : decode cJ4_siftDownComparable 4 = .ok (.astore 4, 2) := dk_58 4 (dk_at dksJ4_siftDownComparable_0 4 rfl rfl)
theorem dJ4_siftDownComparable_6 : decode cJ4_siftDownComparable 6 = .ok (.iload_n 3, 1) := dk_29 (dk_at dksJ4_siftDownComparable_0 6 rfl rfl)
theorem dJ4_siftDownComparable_7 : decode cJ4_siftDownComparable 7 = .ok (.iconst 1, 1) := dk_4 (dk_at dksJ4_siftDownComparable_0 7 rfl rfl)
theorem dJ4_siftDownComparable_8 : decode cJ4_siftDownComparable 8 = .ok (.iushr, 1) := dk_124 (dk_at dksJ4_siftDownComparable_0 8 rfl rfl)
theorem dJ4_siftDownComparable_9 : decode cJ4_siftDownComparable 9 = .ok (.istore 5, 2) := dk_54 5 (dk_at dksJ4_siftDownComparable_0 9 rfl rfl)
theorem dJ4_siftDownComparable_11 : decode cJ4_siftDownComparable 11 = .ok (.iload_n 0, 1) := dk_26 (dk_at dksJ4_siftDownComparable_0 11 rfl rfl)
theorem dJ4_siftDownComparable_12 : decode cJ4_siftDownComparable 12 = .ok (.iload 5, 2) := dk_21 5 (dk_at dksJ4_siftDownComparable_0 12 rfl rfl)
theorem dJ4_siftDownComparable_14 : decode cJ4_siftDownComparable 14 = .ok (.if_icmp .ge 80, 3) := dk_162 0 80 (dk_at dksJ4_siftDownComparable_0 14 rfl rfl)
theorem dJ4_siftDownComparable_17 : decode cJ4_siftDownComparable 17 = .ok (.iload_n 0, 1) := dk_26 (dk_at dksJ4_siftDownComparable_0 17 rfl rfl)
theorem dJ4_siftDownComparable_18 : decode cJ4_siftDownComparable 18 = .ok (.iconst 1, 1) := dk_4 (dk_at dksJ4_siftDownComparable_0 18 rfl rfl)
theorem dJ4_siftDownComparable_19 : decode cJ4_siftDownComparable 19 = .ok (.ishl, 1) := dk_120 (dk_at dksJ4_siftDownComparable_0 19 rfl rfl)
theorem dJ4_siftDownComparable_20 : decode cJ4_siftDownComparable 20 = .ok (.iconst 1, 1) := dk_4 (dk_at dksJ4_siftDownComparable_0 20 rfl rfl)
theorem dJ4_siftDownComparable_21 : decode cJ4_siftDownComparable 21 = .ok (.iadd, 1) := dk_96 (dk_at dksJ4_siftDownComparable_0 21 rfl rfl)
theorem dJ4_siftDownComparable_22 : decode cJ4_siftDownComparable 22 = .ok (.istore 6, 2) := dk_54 6 (dk_at dksJ4_siftDownComparable_0 22 rfl rfl)
theorem dJ4_siftDownComparable_24 : decode cJ4_siftDownComparable 24 = .ok (.aload_n 2, 1) := dk_44 (dk_at dksJ4_siftDownComparable_1 0 rfl rfl)
theorem dJ4_siftDownComparable_25 : decode cJ4_siftDownComparable 25 = .ok (.iload 6, 2) := dk_21 6 (dk_at dksJ4_siftDownComparable_1 1 rfl rfl)
theorem dJ4_siftDownComparable_27 : decode cJ4_siftDownComparable 27 = .ok (.aaload, 1) := dk_50 (dk_at dksJ4_siftDownComparable_1 3 rfl rfl)
theorem dJ4_siftDownComparable_28 : decode cJ4_siftDownComparable 28 = .ok (.astore 7, 2) := dk_58 7 (dk_at dksJ4_siftDownComparable_1 4 rfl rfl)
theorem dJ4_siftDownComparable_30 : decode cJ4_siftDownComparable 30 = .ok (.iload 6, 2) := dk_21 6 (dk_at dksJ4_siftDownComparable_1 6 rfl rfl)
theorem dJ4_siftDownComparable_32 : decode cJ4_siftDownComparable 32 = .ok (.iconst 1, 1) := dk_4 (dk_at dksJ4_siftDownComparable_1 8 rfl rfl)
theorem dJ4_siftDownComparable_33 : decode cJ4_siftDownComparable 33 = .ok (.iadd, 1) := dk_96 (dk_at dksJ4_siftDownComparable_1 9 rfl rfl)
theorem dJ4_siftDownComparable_34 : decode cJ4_siftDownComparable 34 = .ok (.istore 8, 2) := dk_54 8 (dk_at dksJ4_siftDownComparable_1 10 rfl rfl)
theorem dJ4_siftDownComparable_36 : decode cJ4_siftDownComparable 36 = .ok (.iload 8, 2) := dk_21 8 (dk_at dksJ4_siftDownComparable_1 12 rfl rfl)
theorem dJ4_siftDownComparable_38 : decode cJ4_siftDownComparable 38 = .ok (.iload_n 3, 1) := dk_29 (dk_at dksJ4_siftDownComparable_1 14 rfl rfl)
theorem dJ4_siftDownComparable_39 : decode cJ4_siftDownComparable 39 = .ok (.if_icmp .ge 29, 3) := dk_162 0 29 (dk_at dksJ4_siftDownComparable_1 15 rfl rfl)
theorem dJ4_siftDownComparable_42 : decode cJ4_siftDownComparable 42 = .ok (.aload 7, 2) := dk_25 7 (dk_at dksJ4_siftDownComparable_1 18 rfl rfl)
theorem dJ4_siftDownComparable_44 : decode cJ4_siftDownComparable 44 = .ok (.checkcast 144, 3) := dk_192 0 144 (dk_at dksJ4_siftDownComparable_1 20 rfl rfl)
theorem dJ4_siftDownComparable_47 : decode cJ4_siftDownComparable 47 = .ok (.aload_n 2, 1) := dk_44 (dk_at dksJ4_siftDownComparable_1 23 rfl rfl)
theorem dJ4_siftDownComparable_48 : decode cJ4_siftDownComparable 48 = .ok (.iload 8, 2) := dk_21 8 (dk_at dksJ4_siftDownComparable_2 0 rfl rfl)
theorem dJ4_siftDownComparable_50 : decode cJ4_siftDownComparable 50 = .ok (.aaload, 1) := dk_50 (dk_at dksJ4_siftDownComparable_2 2 rfl rfl)
theorem dJ4_siftDownComparable_51 : decode cJ4_siftDownComparable 51 = .ok (.invokeinterface 146 2, 5) := by decide +kernel
theorem dJ4_siftDownComparable_56 : decode cJ4_siftDownComparable 56 = .ok (.ifCond .le 12, 3) := dk_158 0 12 (dk_at dksJ4_siftDownComparable_2 8 rfl rfl)
theorem dJ4_siftDownComparable_59 : decode cJ4_siftDownComparable 59 = .ok (.aload_n 2, 1) := dk_44 (dk_at dksJ4_siftDownComparable_2 11 rfl rfl)
theorem dJ4_siftDownComparable_60 : decode cJ4_siftDownComparable 60 = .ok (.iload 8, 2) := dk_21 8 (dk_at dksJ4_siftDownComparable_2 12 rfl rfl)
theorem dJ4_siftDownComparable_62 : decode cJ4_siftDownComparable 62 = .ok (.dup, 1) := dk_89 (dk_at dksJ4_siftDownComparable_2 14 rfl rfl)
theorem dJ4_siftDownComparable_63 : decode cJ4_siftDownComparable 63 = .ok (.istore 6, 2) := dk_54 6 (dk_at dksJ4_siftDownComparable_2 15 rfl rfl)
theorem dJ4_siftDownComparable_65 : decode cJ4_siftDownComparable 65 = .ok (.aaload, 1) := dk_50 (dk_at dksJ4_siftDownComparable_2 17 rfl rfl)
theorem dJ4_siftDownComparable_66 : decode cJ4_siftDownComparable 66 = .ok (.astore 7, 2) := dk_58 7 (dk_at dksJ4_siftDownComparable_2 18 rfl rfl)
theorem dJ4_siftDownComparable_68 : decode cJ4_siftDownComparable 68 = .ok (.aload 4, 2) := dk_25 4 (dk_at dksJ4_siftDownComparable_2 20 rfl rfl)
theorem dJ4_siftDownComparable_70 : decode cJ4_siftDownComparable 70 = .ok (.aload 7, 2) := dk_25 7 (dk_at dksJ4_siftDownComparable_2 22 rfl rfl)
theorem dJ4_siftDownComparable_72 : decode cJ4_siftDownComparable 72 = .ok (.invokeinterface 146 2, 5) := by decide +kernel
theorem dJ4_siftDownComparable_77 : decode cJ4_siftDownComparable 77 = .ok (.ifCond .gt 6, 3) := dk_157 0 6 (dk_at dksJ4_siftDownComparable_3 5 rfl rfl)
theorem dJ4_siftDownComparable_80 : decode cJ4_siftDownComparable 80 = .ok (.goto 14, 3) := dk_167 0 14 (dk_at dksJ4_siftDownComparable_3 8 rfl rfl)
theorem dJ4_siftDownComparable_83 : decode cJ4_siftDownComparable 83 = .ok (.aload_n 2, 1) := dk_44 (dk_at dksJ4_siftDownComparable_3 11 rfl rfl)
theorem dJ4_siftDownComparable_84 : decode cJ4_siftDownComparable 84 = .ok (.iload_n 0, 1) := dk_26 (dk_at dksJ4_siftDownComparable_3 12 rfl rfl)
theorem dJ4_siftDownComparable_85 : decode cJ4_siftDownComparable 85 = .ok (.aload 7, 2) := dk_25 7 (dk_at dksJ4_siftDownComparable_3 13 rfl rfl)
theorem dJ4_siftDownComparable_87 : decode cJ4_siftDownComparable 87 = .ok (.aastore, 1) := dk_83 (dk_at dksJ4_siftDownComparable_3 15 rfl rfl)
theorem dJ4_siftDownComparable_88 : decode cJ4_siftDownComparable 88 = .ok (.iload 6, 2) := dk_21 6 (dk_at dksJ4_siftDownComparable_3 16 rfl rfl)
theorem dJ4_siftDownComparable_90 : decode cJ4_siftDownComparable 90 = .ok (.istore_n 0, 1) := dk_59 (dk_at dksJ4_siftDownComparable_3 18 rfl rfl)
theorem dJ4_siftDownComparable_91 : decode cJ4_siftDownComparable 91 = .ok (.goto (-80), 3) := dk_167 255 176 (dk_at dksJ4_siftDownComparable_3 19 rfl rfl)
theorem dJ4_siftDownComparable_94 : decode cJ4_siftDownComparable 94 = .ok (.aload_n 2, 1) := dk_44 (dk_at dksJ4_siftDownComparable_3 22 rfl rfl)
theorem dJ4_siftDownComparable_95 : decode cJ4_siftDownComparable 95 = .ok (.iload_n 0, 1) := dk_26 (dk_at dksJ4_siftDownComparable_3 23 rfl rfl)
theorem dJ4_siftDownComparable_96 : decode cJ4_siftDownComparable 96 = .ok (.aload 4, 2) := dk_25 4 (dk_at dksJ4_siftDownComparable_4 0 rfl rfl)
theorem dJ4_siftDownComparable_98 : decode cJ4_siftDownComparable 98 = .ok (.aastore, 1) := dk_83 (dk_at dksJ4_siftDownComparable_4 2 rfl rfl)
theorem dJ4_siftDownComparable_99 : decode cJ4_siftDownComparable 99 = .ok (.return_, 1) := dk_177 (dk_at dksJ4_siftDownComparable_4 3 rfl rfl)
abbrev cJ4_siftDownUsingComparator : ByteArray := prog_61_method_32_code
def yJ4_siftDownUsingComparator : MethodName := ⟨RJ4, "siftDownUsingComparator", "(ILjava/lang/Object;[Ljava/lang/Object;ILjava/util/Comparator;)V"⟩
def dkwJ4_siftDownUsingComparator_4 : List UInt8 := [43, 83, 177]
abbrev dktJ4_siftDownUsingComparator_4 : List UInt8 := dkwJ4_siftDownUsingComparator_4 ++ []
def dkwJ4_siftDownUsingComparator_3 : List UInt8 := [185, 0, 149, 3, 0, 157, 0, 6, 167, 0, 14, 44, 26, 25, 7, 83, 21, 6, 59, 167, 255, 176, 44, 26]
abbrev dktJ4_siftDownUsingComparator_3 : List UInt8 := dkwJ4_siftDownUsingComparator_3 ++ dktJ4_siftDownUsingComparator_4
def dkwJ4_siftDownUsingComparator_2 : List UInt8 := [185, 0, 149, 3, 0, 158, 0, 12, 44, 21, 8, 89, 54, 6, 50, 58, 7, 25, 4, 43, 25, 7]
abbrev dktJ4_siftDownUsingComparator_2 : List UInt8 := dkwJ4_siftDownUsingComparator_2 ++ dktJ4_siftDownUsingComparator_3
def dkwJ4_siftDownUsingComparator_1 : List UInt8 := [21, 6, 4, 96, 54, 8, 21, 8, 29, 162, 0, 28, 25, 4, 25, 7, 44, 21, 8, 50]
abbrev dktJ4_siftDownUsingComparator_1 : List UInt8 := dkwJ4_siftDownUsingComparator_1 ++ dktJ4_siftDownUsingComparator_2
def dkwJ4_siftDownUsingComparator_0 : List UInt8 := [29, 4, 124, 54, 5, 26, 21, 5, 162, 0, 80, 26, 4, 120, 4, 96, 54, 6, 44, 21, 6, 50, 58, 7]
abbrev dktJ4_siftDownUsingComparator_0 : List UInt8 := dkwJ4_siftDownUsingComparator_0 ++ dktJ4_siftDownUsingComparator_1
theorem dksJ4_siftDownUsingComparator_0 : cJ4_siftDownUsingComparator.data.toList.drop 0 = dktJ4_siftDownUsingComparator_0 := by decide +kernel
theorem dksJ4_siftDownUsingComparator_1 : cJ4_siftDownUsingComparator.data.toList.drop 24 = dktJ4_siftDownUsingComparator_1 := dk_seg dksJ4_siftDownUsingComparator_0 24 rfl rfl
theorem dksJ4_siftDownUsingComparator_2 : cJ4_siftDownUsingComparator.data.toList.drop 44 = dktJ4_siftDownUsingComparator_2 := dk_seg dksJ4_siftDownUsingComparator_1 20 rfl rfl
theorem dksJ4_siftDownUsingComparator_3 : cJ4_siftDownUsingComparator.data.toList.drop 66 = dktJ4_siftDownUsingComparator_3 := dk_seg dksJ4_siftDownUsingComparator_2 22 rfl rfl
theorem dksJ4_siftDownUsingComparator_4 : cJ4_siftDownUsingComparator.data.toList.drop 90 = dktJ4_siftDownUsingComparator_4 := dk_seg dksJ4_siftDownUsingComparator_3 24 rfl rfl
theorem dJ4_siftDownUsingComparator_0 : decode cJ4_siftDownUsingComparator 0 = .ok (.iload_n 3, 1) := dk_29 (dk_at dksJ4_siftDownUsingComparator_0 0 rfl rfl)
theorem dJ4_siftDownUsingComparator_1 : decode cJ4_siftDownUsingComparator 1 = .ok (.iconst 1, 1) := dk_4 (dk_at dksJ4_siftDownUsingComparator_0 1 rfl rfl)
theorem dJ4_siftDownUsingComparator_2 : decode cJ4_siftDownUsingComparator 2 = .ok (.iushr, 1) := dk_124 (dk_at dksJ4_siftDownUsingComparator_0 2 rfl rfl)
theorem dJ4_siftDownUsingComparator_3 : decode cJ4_siftDownUsingComparator 3 = .ok (.istore 5, 2) := dk_54 5 (dk_at dksJ4_siftDownUsingComparator_0 3 rfl rfl)
theorem dJ4_siftDownUsingComparator_5 : decode cJ4_siftDownUsingComparator 5 = .ok (.iload_n 0, 1) := dk_26 (dk_at dksJ4_siftDownUsingComparator_0 5 rfl rfl)
theorem dJ4_siftDownUsingComparator_6 : decode cJ4_siftDownUsingComparator 6 = .ok (.iload 5, 2) := dk_21 5 (dk_at dksJ4_siftDownUsingComparator_0 6 rfl rfl)
theorem dJ4_siftDownUsingComparator_8 : decode cJ4_siftDownUsingComparator 8 = .ok (.if_icmp .ge 80, 3) := dk_162 0 80 (dk_at dksJ4_siftDownUsingComparator_0 8 rfl rfl)
theorem dJ4_siftDownUsingComparator_11 : decode cJ4_siftDownUsingComparator 11 = .ok (.iload_n 0, 1) := dk_26 (dk_at dksJ4_siftDownUsingComparator_0 11 rfl rfl)
theorem dJ4_siftDownUsingComparator_12 : decode cJ4_siftDownUsingComparator 12 = .ok (.iconst 1, 1) := dk_4 (dk_at dksJ4_siftDownUsingComparator_0 12 rfl rfl)
theorem dJ4_siftDownUsingComparator_13 : decode cJ4_siftDownUsingComparator 13 = .ok (.ishl, 1) := dk_120 (dk_at dksJ4_siftDownUsingComparator_0 13 rfl rfl)
theorem dJ4_siftDownUsingComparator_14 : decode cJ4_siftDownUsingComparator 14 = .ok (.iconst 1, 1) := dk_4 (dk_at dksJ4_siftDownUsingComparator_0 14 rfl rfl)
theorem dJ4_siftDownUsingComparator_15 : decode cJ4_siftDownUsingComparator 15 = .ok (.iadd, 1) := dk_96 (dk_at dksJ4_siftDownUsingComparator_0 15 rfl rfl)
theorem dJ4_siftDownUsingComparator_16 : decode cJ4_siftDownUsingComparator 16 = .ok (.istore 6, 2) := dk_54 6 (dk_at dksJ4_siftDownUsingComparator_0 16 rfl rfl)
theorem dJ4_siftDownUsingComparator_18 : decode cJ4_siftDownUsingComparator 18 = .ok (.aload_n 2, 1) := dk_44 (dk_at dksJ4_siftDownUsingComparator_0 18 rfl rfl)
theorem dJ4_siftDownUsingComparator_19 : decode cJ4_siftDownUsingComparator 19 = .ok (.iload 6, 2) := dk_21 6 (dk_at dksJ4_siftDownUsingComparator_0 19 rfl rfl)
theorem dJ4_siftDownUsingComparator_21 : decode cJ4_siftDownUsingComparator 21 = .ok (.aaload, 1) := dk_50 (dk_at dksJ4_siftDownUsingComparator_0 21 rfl rfl)
theorem dJ4_siftDownUsingComparator_22 : decode cJ4_siftDownUsingComparator 22 = .ok (.astore 7, 2) := dk_58 7 (dk_at dksJ4_siftDownUsingComparator_0 22 rfl rfl)
theorem dJ4_siftDownUsingComparator_24 : decode cJ4_siftDownUsingComparator 24 = .ok (.iload 6, 2) := dk_21 6 (dk_at dksJ4_siftDownUsingComparator_1 0 rfl rfl)
theorem dJ4_siftDownUsingComparator_26 : decode cJ4_siftDownUsingComparator 26 = .ok (.iconst 1, 1) := dk_4 (dk_at dksJ4_siftDownUsingComparator_1 2 rfl rfl)
theorem dJ4_siftDownUsingComparator_27 : decode cJ4_siftDownUsingComparator 27 = .ok (.iadd, 1) := dk_96 (dk_at dksJ4_siftDownUsingComparator_1 3 rfl rfl)
theorem dJ4_siftDownUsingComparator_28 : decode cJ4_siftDownUsingComparator 28 = .ok (.istore 8, 2) := dk_54 8 (dk_at dksJ4_siftDownUsingComparator_1 4 rfl rfl)
theorem dJ4_siftDownUsingComparator_30 : decode cJ4_siftDownUsingComparator 30 = .ok (.iload 8, 2) := dk_21 8 (dk_at dksJ4_siftDownUsingComparator_1 6 rfl rfl)
theorem dJ4_siftDownUsingComparator_32 : decode cJ4_siftDownUsingComparator 32 = .ok (.iload_n 3, 1) := dk_29 (dk_at dksJ4_siftDownUsingComparator_1 8 rfl rfl)
theorem dJ4_siftDownUsingComparator_33 : decode cJ4_siftDownUsingComparator 33 = .ok (.if_icmp .ge 28, 3) := dk_162 0 28 (dk_at dksJ4_siftDownUsingComparator_1 9 rfl rfl)
theorem dJ4_siftDownUsingComparator_36 : decode cJ4_siftDownUsingComparator 36 = .ok (.aload 4, 2) := dk_25 4 (dk_at dksJ4_siftDownUsingComparator_1 12 rfl rfl)
theorem dJ4_siftDownUsingComparator_38 : decode cJ4_siftDownUsingComparator 38 = .ok (.aload 7, 2) := dk_25 7 (dk_at dksJ4_siftDownUsingComparator_1 14 rfl rfl)
theorem dJ4_siftDownUsingComparator_40 : decode cJ4_siftDownUsingComparator 40 = .ok (.aload_n 2, 1) := dk_44 (dk_at dksJ4_siftDownUsingComparator_1 16 rfl rfl)
theorem dJ4_siftDownUsingComparator_41 : decode cJ4_siftDownUsingComparator 41 = .ok (.iload 8, 2) := dk_21 8 (dk_at dksJ4_siftDownUsingComparator_1 17 rfl rfl)
theorem dJ4_siftDownUsingComparator_43 : decode cJ4_siftDownUsingComparator 43 = .ok (.aaload, 1) := dk_50 (dk_at dksJ4_siftDownUsingComparator_1 19 rfl rfl)
theorem dJ4_siftDownUsingComparator_44 : decode cJ4_siftDownUsingComparator 44 = .ok (.invokeinterface 149 3, 5) := by decide +kernel
theorem dJ4_siftDownUsingComparator_49 : decode cJ4_siftDownUsingComparator 49 = .ok (.ifCond .le 12, 3) := dk_158 0 12 (dk_at dksJ4_siftDownUsingComparator_2 5 rfl rfl)
theorem dJ4_siftDownUsingComparator_52 : decode cJ4_siftDownUsingComparator 52 = .ok (.aload_n 2, 1) := dk_44 (dk_at dksJ4_siftDownUsingComparator_2 8 rfl rfl)
theorem dJ4_siftDownUsingComparator_53 : decode cJ4_siftDownUsingComparator 53 = .ok (.iload 8, 2) := dk_21 8 (dk_at dksJ4_siftDownUsingComparator_2 9 rfl rfl)
theorem dJ4_siftDownUsingComparator_55 : decode cJ4_siftDownUsingComparator 55 = .ok (.dup, 1) := dk_89 (dk_at dksJ4_siftDownUsingComparator_2 11 rfl rfl)
theorem dJ4_siftDownUsingComparator_56 : decode cJ4_siftDownUsingComparator 56 = .ok (.istore 6, 2) := dk_54 6 (dk_at dksJ4_siftDownUsingComparator_2 12 rfl rfl)
theorem dJ4_siftDownUsingComparator_58 : decode cJ4_siftDownUsingComparator 58 = .ok (.aaload, 1) := dk_50 (dk_at dksJ4_siftDownUsingComparator_2 14 rfl rfl)
theorem dJ4_siftDownUsingComparator_59 : decode cJ4_siftDownUsingComparator 59 = .ok (.astore 7, 2) := dk_58 7 (dk_at dksJ4_siftDownUsingComparator_2 15 rfl rfl)
theorem dJ4_siftDownUsingComparator_61 : decode cJ4_siftDownUsingComparator 61 = .ok (.aload 4, 2) := dk_25 4 (dk_at dksJ4_siftDownUsingComparator_2 17 rfl rfl)
theorem dJ4_siftDownUsingComparator_63 : decode cJ4_siftDownUsingComparator 63 = .ok (.aload_n 1, 1) := dk_43 (dk_at dksJ4_siftDownUsingComparator_2 19 rfl rfl)
theorem dJ4_siftDownUsingComparator_64 : decode cJ4_siftDownUsingComparator 64 = .ok (.aload 7, 2) := dk_25 7 (dk_at dksJ4_siftDownUsingComparator_2 20 rfl rfl)
theorem dJ4_siftDownUsingComparator_66 : decode cJ4_siftDownUsingComparator 66 = .ok (.invokeinterface 149 3, 5) := by decide +kernel
theorem dJ4_siftDownUsingComparator_71 : decode cJ4_siftDownUsingComparator 71 = .ok (.ifCond .gt 6, 3) := dk_157 0 6 (dk_at dksJ4_siftDownUsingComparator_3 5 rfl rfl)
theorem dJ4_siftDownUsingComparator_74 : decode cJ4_siftDownUsingComparator 74 = .ok (.goto 14, 3) := dk_167 0 14 (dk_at dksJ4_siftDownUsingComparator_3 8 rfl rfl)
theorem dJ4_siftDownUsingComparator_77 : decode cJ4_siftDownUsingComparator 77 = .ok (.aload_n 2, 1) := dk_44 (dk_at dksJ4_siftDownUsingComparator_3 11 rfl rfl)
theorem dJ4_siftDownUsingComparator_78 : decode cJ4_siftDownUsingComparator 78 = .ok (.iload_n 0, 1) := dk_26 (dk_at dksJ4_siftDownUsingComparator_3 12 rfl rfl)
theorem dJ4_siftDownUsingComparator_79 : decode cJ4_siftDownUsingComparator 79 = .ok (.aload 7, 2) := dk_25 7 (dk_at dksJ4_siftDownUsingComparator_3 13 rfl rfl)
theorem dJ4_siftDownUsingComparator_81 : decode cJ4_siftDownUsingComparator 81 = .ok (.aastore, 1) := dk_83 (dk_at dksJ4_siftDownUsingComparator_3 15 rfl rfl)
theorem dJ4_siftDownUsingComparator_82 : decode cJ4_siftDownUsingComparator 82 = .ok (.iload 6, 2) := dk_21 6 (dk_at dksJ4_siftDownUsingComparator_3 16 rfl rfl)
theorem dJ4_siftDownUsingComparator_84 : decode cJ4_siftDownUsingComparator 84 = .ok (.istore_n 0, 1) := dk_59 (dk_at dksJ4_siftDownUsingComparator_3 18 rfl rfl)
theorem dJ4_siftDownUsingComparator_85 : decode cJ4_siftDownUsingComparator 85 = .ok (.goto (-80), 3) := dk_167 255 176 (dk_at dksJ4_siftDownUsingComparator_3 19 rfl rfl)
theorem dJ4_siftDownUsingComparator_88 : decode cJ4_siftDownUsingComparator 88 = .ok (.aload_n 2, 1) := dk_44 (dk_at dksJ4_siftDownUsingComparator_3 22 rfl rfl)
theorem dJ4_siftDownUsingComparator_89 : decode cJ4_siftDownUsingComparator 89 = .ok (.iload_n 0, 1) := dk_26 (dk_at dksJ4_siftDownUsingComparator_3 23 rfl rfl)
theorem dJ4_siftDownUsingComparator_90 : decode cJ4_siftDownUsingComparator 90 = .ok (.aload_n 1, 1) := dk_43 (dk_at dksJ4_siftDownUsingComparator_4 0 rfl rfl)
theorem dJ4_siftDownUsingComparator_91 : decode cJ4_siftDownUsingComparator 91 = .ok (.aastore, 1) := dk_83 (dk_at dksJ4_siftDownUsingComparator_4 1 rfl rfl)
theorem dJ4_siftDownUsingComparator_92 : decode cJ4_siftDownUsingComparator 92 = .ok (.return_, 1) := dk_177 (dk_at dksJ4_siftDownUsingComparator_4 2 rfl rfl)
abbrev cJ4_peek : ByteArray := prog_61_method_15_code
def yJ4_peek : MethodName := ⟨RJ4, "peek", "()Ljava/lang/Object;"⟩
def dkwJ4_peek_0 : List UInt8 := [42, 180, 0, 17, 3, 50, 176]
abbrev dktJ4_peek_0 : List UInt8 := dkwJ4_peek_0 ++ []
theorem dksJ4_peek_0 : cJ4_peek.data.toList.drop 0 = dktJ4_peek_0 := by decide +kernel
theorem dJ4_peek_0 : decode cJ4_peek 0 = .ok (.aload_n 0, 1) := dk_42 (dk_at dksJ4_peek_0 0 rfl rfl)
theorem dJ4_peek_1 : decode cJ4_peek 1 = .ok (.getfield 17, 3) := dk_180 0 17 (dk_at dksJ4_peek_0 1 rfl rfl)
theorem dJ4_peek_4 : decode cJ4_peek 4 = .ok (.iconst 0, 1) := dk_3 (dk_at dksJ4_peek_0 4 rfl rfl)
theorem dJ4_peek_5 : decode cJ4_peek 5 = .ok (.aaload, 1) := dk_50 (dk_at dksJ4_peek_0 5 rfl rfl)
theorem dJ4_peek_6 : decode cJ4_peek 6 = .ok (.areturn, 1) := dk_176 (dk_at dksJ4_peek_0 6 rfl rfl)
theorem q83 : (Jvm.Cond.initialized "java/util/PriorityQueue") ∈ lw_all := lw_g (lw_at lw_m1 7 rfl) rfl
theorem q185 : (Jvm.Cond.instantiable "java/util/PriorityQueue" (4 : Nat)) ∈ lw_all := lw_g (lw_at lw_m1 109 rfl) rfl
theorem q187 : (Jvm.Cond.instanceMethod ({ cls := "java/util/PriorityQueue", name := "<init>", desc := "()V" } : Jvm.MethodName)) ∈ lw_all := lw_g (lw_at lw_m1 111 rfl) rfl
theorem q188 : (Jvm.Cond.code ({ cls := "java/util/PriorityQueue", name := "<init>", desc := "()V" } : Jvm.MethodName) prog_61_method_1_code (1 : Nat) (Option.none : Option Jvm.ClassFile.FieldType)) ∈ lw_all := lw_g (lw_at lw_m1 112 rfl) rfl
theorem q189 : (Jvm.Cond.methodLink "java/util/PriorityQueue" (3 : Nat) ({ cls := "java/util/PriorityQueue", name := "<init>", desc := "(ILjava/util/Comparator;)V" } : Jvm.MethodName)) ∈ lw_all := lw_g (lw_at lw_m1 113 rfl) rfl
theorem q190 : (Jvm.Cond.instanceMethod ({ cls := "java/util/PriorityQueue", name := "<init>", desc := "(ILjava/util/Comparator;)V" } : Jvm.MethodName)) ∈ lw_all := lw_g (lw_at lw_m1 114 rfl) rfl
theorem q191 : (Jvm.Cond.code ({ cls := "java/util/PriorityQueue", name := "<init>", desc := "(ILjava/util/Comparator;)V" } : Jvm.MethodName) prog_61_method_4_code (3 : Nat) (Option.none : Option Jvm.ClassFile.FieldType)) ∈ lw_all := lw_g (lw_at lw_m1 115 rfl) rfl
theorem q192 : (Jvm.Cond.methodLink "java/util/PriorityQueue" (7 : Nat) ({ cls := "java/util/AbstractQueue", name := "<init>", desc := "()V" } : Jvm.MethodName)) ∈ lw_all := lw_g (lw_at lw_m1 116 rfl) rfl
theorem q196 : (Jvm.Cond.classLink "java/util/PriorityQueue" (12 : Nat) "java/lang/IllegalArgumentException") ∈ lw_all := lw_g (lw_at lw_m1 120 rfl) rfl
theorem q240 : (Jvm.Cond.methodLink "java/util/PriorityQueue" (14 : Nat) ({ cls := "java/lang/IllegalArgumentException", name := "<init>", desc := "()V" } : Jvm.MethodName)) ∈ lw_all := lw_g (lw_at lw_m1 164 rfl) rfl
theorem q263 : (Jvm.Cond.classLink "java/util/PriorityQueue" (15 : Nat) "java/lang/Object") ∈ lw_all := lw_g (lw_at lw_m1 187 rfl) rfl
theorem q265 : (Jvm.Cond.fieldLink "java/util/PriorityQueue" (17 : Nat) "java/util/PriorityQueue" "queue" "[Ljava/lang/Object;") ∈ lw_all := lw_g (lw_at lw_m1 189 rfl) rfl
theorem q266 : (Jvm.Cond.fieldLink "java/util/PriorityQueue" (58 : Nat) "java/util/PriorityQueue" "size" "I") ∈ lw_all := lw_g (lw_at lw_m1 190 rfl) rfl
theorem q267 : (Jvm.Cond.fieldLink "java/util/PriorityQueue" (21 : Nat) "java/util/PriorityQueue" "comparator" "Ljava/util/Comparator;") ∈ lw_all := lw_g (lw_at lw_m1 191 rfl) rfl
theorem q268 : (Jvm.Cond.fieldLink "java/util/PriorityQueue" (93 : Nat) "java/util/PriorityQueue" "modCount" "I") ∈ lw_all := lw_g (lw_at lw_m1 192 rfl) rfl
theorem q269 : (Jvm.Cond.lays "java/util/PriorityQueue" "java/util/PriorityQueue" "queue" "[Ljava/lang/Object;") ∈ lw_all := lw_g (lw_at lw_m1 193 rfl) rfl
theorem q270 : (Jvm.Cond.soleField "java/util/PriorityQueue" "queue") ∈ lw_all := lw_g (lw_at lw_m1 194 rfl) rfl
theorem q271 : (Jvm.Cond.lays "java/util/PriorityQueue" "java/util/PriorityQueue" "size" "I") ∈ lw_all := lw_g (lw_at lw_m1 195 rfl) rfl
theorem q272 : (Jvm.Cond.soleField "java/util/PriorityQueue" "size") ∈ lw_all := lw_g (lw_at lw_m1 196 rfl) rfl
theorem q273 : (Jvm.Cond.laysFinal "java/util/PriorityQueue" "java/util/PriorityQueue" "comparator" "Ljava/util/Comparator;") ∈ lw_all := lw_g (lw_at lw_m1 197 rfl) rfl
theorem q274 : (Jvm.Cond.soleField "java/util/PriorityQueue" "comparator") ∈ lw_all := lw_g (lw_at lw_m1 198 rfl) rfl
theorem q275 : (Jvm.Cond.lays "java/util/PriorityQueue" "java/util/PriorityQueue" "modCount" "I") ∈ lw_all := lw_g (lw_at lw_m1 199 rfl) rfl
theorem q276 : (Jvm.Cond.soleField "java/util/PriorityQueue" "modCount") ∈ lw_all := lw_g (lw_at lw_m1 200 rfl) rfl
theorem q277 : (Jvm.Cond.superclass "java/util/PriorityQueue" "java/util/AbstractQueue") ∈ lw_all := lw_g (lw_at lw_m1 201 rfl) rfl
theorem q468 : (Jvm.Cond.selects "java/util/PriorityQueue" ({ cls := "java/lang/Object", name := "getClass", desc := "()Ljava/lang/Class;" } : Jvm.MethodName) ({ cls := "java/lang/Object", name := "getClass", desc := "()Ljava/lang/Class;" } : Jvm.MethodName)) ∈ lw_all := lw_g (lw_at lw_m2 152 rfl) rfl
theorem q1041 : (Jvm.Cond.instanceMethod ({ cls := "java/util/PriorityQueue", name := "size", desc := "()I" } : Jvm.MethodName)) ∈ lw_all := lw_g (lw_at lw_m5 5 rfl) rfl
theorem q1042 : (Jvm.Cond.selects "java/util/PriorityQueue" ({ cls := "java/util/PriorityQueue", name := "size", desc := "()I" } : Jvm.MethodName) ({ cls := "java/util/PriorityQueue", name := "size", desc := "()I" } : Jvm.MethodName)) ∈ lw_all := lw_g (lw_at lw_m5 6 rfl) rfl
theorem q1043 : (Jvm.Cond.code ({ cls := "java/util/PriorityQueue", name := "size", desc := "()I" } : Jvm.MethodName) prog_61_method_23_code (1 : Nat) (Option.some Jvm.ClassFile.FieldType.int)) ∈ lw_all := lw_g (lw_at lw_m5 7 rfl) rfl
theorem q1053 : (Jvm.Cond.sameMethod "java/util/PriorityQueue" "java/util/AbstractCollection" "isEmpty" "()Z") ∈ lw_all := lw_g (lw_at lw_m5 17 rfl) rfl
theorem q1055 : (Jvm.Cond.selects "java/util/PriorityQueue" ({ cls := "java/util/PriorityQueue", name := "isEmpty", desc := "()Z" } : Jvm.MethodName) ({ cls := "java/util/AbstractCollection", name := "isEmpty", desc := "()Z" } : Jvm.MethodName)) ∈ lw_all := lw_g (lw_at lw_m5 19 rfl) rfl
theorem q1068 : (Jvm.Cond.selects "java/util/PriorityQueue" ({ cls := "java/util/AbstractCollection", name := "size", desc := "()I" } : Jvm.MethodName) ({ cls := "java/util/PriorityQueue", name := "size", desc := "()I" } : Jvm.MethodName)) ∈ lw_all := lw_g (lw_at lw_m5 32 rfl) rfl
theorem q1645 : (Jvm.Cond.instanceMethod ({ cls := "java/util/PriorityQueue", name := "clear", desc := "()V" } : Jvm.MethodName)) ∈ lw_all := lw_g (lw_at lw_m7 129 rfl) rfl
theorem q1646 : (Jvm.Cond.selects "java/util/PriorityQueue" ({ cls := "java/util/PriorityQueue", name := "clear", desc := "()V" } : Jvm.MethodName) ({ cls := "java/util/PriorityQueue", name := "clear", desc := "()V" } : Jvm.MethodName)) ∈ lw_all := lw_g (lw_at lw_m7 130 rfl) rfl
theorem q1647 : (Jvm.Cond.code ({ cls := "java/util/PriorityQueue", name := "clear", desc := "()V" } : Jvm.MethodName) prog_61_method_24_code (4 : Nat) (Option.none : Option Jvm.ClassFile.FieldType)) ∈ lw_all := lw_g (lw_at lw_m7 131 rfl) rfl
theorem q1651 : (Jvm.Cond.instanceMethod ({ cls := "java/util/PriorityQueue", name := "add", desc := "(Ljava/lang/Object;)Z" } : Jvm.MethodName)) ∈ lw_all := lw_g (lw_at lw_m7 135 rfl) rfl
theorem q1652 : (Jvm.Cond.selects "java/util/PriorityQueue" ({ cls := "java/util/PriorityQueue", name := "add", desc := "(Ljava/lang/Object;)Z" } : Jvm.MethodName) ({ cls := "java/util/PriorityQueue", name := "add", desc := "(Ljava/lang/Object;)Z" } : Jvm.MethodName)) ∈ lw_all := lw_g (lw_at lw_m7 136 rfl) rfl
theorem q1653 : (Jvm.Cond.code ({ cls := "java/util/PriorityQueue", name := "add", desc := "(Ljava/lang/Object;)Z" } : Jvm.MethodName) prog_61_method_13_code (2 : Nat) (Option.some Jvm.ClassFile.FieldType.boolean)) ∈ lw_all := lw_g (lw_at lw_m7 137 rfl) rfl
theorem q1654 : (Jvm.Cond.methodLink "java/util/PriorityQueue" (89 : Nat) ({ cls := "java/util/PriorityQueue", name := "offer", desc := "(Ljava/lang/Object;)Z" } : Jvm.MethodName)) ∈ lw_all := lw_g (lw_at lw_m7 138 rfl) rfl
theorem q1655 : (Jvm.Cond.instanceMethod ({ cls := "java/util/PriorityQueue", name := "offer", desc := "(Ljava/lang/Object;)Z" } : Jvm.MethodName)) ∈ lw_all := lw_g (lw_at lw_m7 139 rfl) rfl
theorem q1656 : (Jvm.Cond.selects "java/util/PriorityQueue" ({ cls := "java/util/PriorityQueue", name := "offer", desc := "(Ljava/lang/Object;)Z" } : Jvm.MethodName) ({ cls := "java/util/PriorityQueue", name := "offer", desc := "(Ljava/lang/Object;)Z" } : Jvm.MethodName)) ∈ lw_all := lw_g (lw_at lw_m7 140 rfl) rfl
theorem q1657 : (Jvm.Cond.code ({ cls := "java/util/PriorityQueue", name := "offer", desc := "(Ljava/lang/Object;)Z" } : Jvm.MethodName) prog_61_method_14_code (3 : Nat) (Option.some Jvm.ClassFile.FieldType.boolean)) ∈ lw_all := lw_g (lw_at lw_m7 141 rfl) rfl
theorem q1658 : (Jvm.Cond.methodLink "java/util/PriorityQueue" (96 : Nat) ({ cls := "java/util/PriorityQueue", name := "grow", desc := "(I)V" } : Jvm.MethodName)) ∈ lw_all := lw_g (lw_at lw_m7 142 rfl) rfl
theorem q1659 : (Jvm.Cond.privateMethod ({ cls := "java/util/PriorityQueue", name := "grow", desc := "(I)V" } : Jvm.MethodName)) ∈ lw_tbl := lw_at lw_m7 143 rfl
theorem q1660 : (Jvm.Cond.instanceMethod ({ cls := "java/util/PriorityQueue", name := "grow", desc := "(I)V" } : Jvm.MethodName)) ∈ lw_all := lw_g (lw_at lw_m7 144 rfl) rfl
theorem q1661 : (Jvm.Cond.code ({ cls := "java/util/PriorityQueue", name := "grow", desc := "(I)V" } : Jvm.MethodName) prog_61_method_12_code (4 : Nat) (Option.none : Option Jvm.ClassFile.FieldType)) ∈ lw_all := lw_g (lw_at lw_m7 145 rfl) rfl
theorem q1662 : (Jvm.Cond.methodLink "java/util/PriorityQueue" (80 : Nat) ({ cls := "jdk/internal/util/ArraysSupport", name := "newLength", desc := "(III)I" } : Jvm.MethodName)) ∈ lw_all := lw_g (lw_at lw_m7 146 rfl) rfl
theorem q1663 : (Jvm.Cond.methodLink "java/util/PriorityQueue" (86 : Nat) ({ cls := "java/util/Arrays", name := "copyOf", desc := "([Ljava/lang/Object;I)[Ljava/lang/Object;" } : Jvm.MethodName)) ∈ lw_all := lw_g (lw_at lw_m7 147 rfl) rfl
theorem q1664 : (Jvm.Cond.methodLink "java/util/PriorityQueue" (100 : Nat) ({ cls := "java/util/PriorityQueue", name := "siftUp", desc := "(ILjava/lang/Object;)V" } : Jvm.MethodName)) ∈ lw_all := lw_g (lw_at lw_m7 148 rfl) rfl
theorem q1665 : (Jvm.Cond.privateMethod ({ cls := "java/util/PriorityQueue", name := "siftUp", desc := "(ILjava/lang/Object;)V" } : Jvm.MethodName)) ∈ lw_tbl := lw_at lw_m7 149 rfl
theorem q1666 : (Jvm.Cond.instanceMethod ({ cls := "java/util/PriorityQueue", name := "siftUp", desc := "(ILjava/lang/Object;)V" } : Jvm.MethodName)) ∈ lw_all := lw_g (lw_at lw_m7 150 rfl) rfl
theorem q1667 : (Jvm.Cond.code ({ cls := "java/util/PriorityQueue", name := "siftUp", desc := "(ILjava/lang/Object;)V" } : Jvm.MethodName) prog_61_method_27_code (3 : Nat) (Option.none : Option Jvm.ClassFile.FieldType)) ∈ lw_all := lw_g (lw_at lw_m7 151 rfl) rfl
theorem q1668 : (Jvm.Cond.methodLink "java/util/PriorityQueue" (136 : Nat) ({ cls := "java/util/PriorityQueue", name := "siftUpUsingComparator", desc := "(ILjava/lang/Object;[Ljava/lang/Object;Ljava/util/Comparator;)V" } : Jvm.MethodName)) ∈ lw_all := lw_g (lw_at lw_m7 152 rfl) rfl
theorem q1669 : (Jvm.Cond.static ({ cls := "java/util/PriorityQueue", name := "siftUpUsingComparator", desc := "(ILjava/lang/Object;[Ljava/lang/Object;Ljava/util/Comparator;)V" } : Jvm.MethodName)) ∈ lw_all := lw_g (lw_at lw_m7 153 rfl) rfl
theorem q1670 : (Jvm.Cond.code ({ cls := "java/util/PriorityQueue", name := "siftUpUsingComparator", desc := "(ILjava/lang/Object;[Ljava/lang/Object;Ljava/util/Comparator;)V" } : Jvm.MethodName) prog_61_method_29_code (6 : Nat) (Option.none : Option Jvm.ClassFile.FieldType)) ∈ lw_all := lw_g (lw_at lw_m7 154 rfl) rfl
theorem q1671 : (Jvm.Cond.interfaceEntry "java/util/PriorityQueue" (149 : Nat)) ∈ lw_tbl := lw_at lw_m7 155 rfl
theorem q1672 : (Jvm.Cond.methodLink "java/util/PriorityQueue" (149 : Nat) ({ cls := "java/util/Comparator", name := "compare", desc := "(Ljava/lang/Object;Ljava/lang/Object;)I" } : Jvm.MethodName)) ∈ lw_all := lw_g (lw_at lw_m7 156 rfl) rfl
theorem q1673 : (Jvm.Cond.methodLink "java/util/PriorityQueue" (140 : Nat) ({ cls := "java/util/PriorityQueue", name := "siftUpComparable", desc := "(ILjava/lang/Object;[Ljava/lang/Object;)V" } : Jvm.MethodName)) ∈ lw_all := lw_g (lw_at lw_m7 157 rfl) rfl
theorem q1674 : (Jvm.Cond.static ({ cls := "java/util/PriorityQueue", name := "siftUpComparable", desc := "(ILjava/lang/Object;[Ljava/lang/Object;)V" } : Jvm.MethodName)) ∈ lw_all := lw_g (lw_at lw_m7 158 rfl) rfl
theorem q1675 : (Jvm.Cond.code ({ cls := "java/util/PriorityQueue", name := "siftUpComparable", desc := "(ILjava/lang/Object;[Ljava/lang/Object;)V" } : Jvm.MethodName) prog_61_method_28_code (6 : Nat) (Option.none : Option Jvm.ClassFile.FieldType)) ∈ lw_all := lw_g (lw_at lw_m7 159 rfl) rfl
theorem q1676 : (Jvm.Cond.classLink "java/util/PriorityQueue" (144 : Nat) "java/lang/Comparable") ∈ lw_all := lw_g (lw_at lw_m7 160 rfl) rfl
theorem q1677 : (Jvm.Cond.interfaceEntry "java/util/PriorityQueue" (146 : Nat)) ∈ lw_tbl := lw_at lw_m7 161 rfl
theorem q1678 : (Jvm.Cond.methodLink "java/util/PriorityQueue" (146 : Nat) ({ cls := "java/lang/Comparable", name := "compareTo", desc := "(Ljava/lang/Object;)I" } : Jvm.MethodName)) ∈ lw_all := lw_g (lw_at lw_m7 162 rfl) rfl
theorem q1944 : (Jvm.Cond.instanceMethod ({ cls := "java/util/PriorityQueue", name := "poll", desc := "()Ljava/lang/Object;" } : Jvm.MethodName)) ∈ lw_all := lw_g (lw_at lw_m8 188 rfl) rfl
theorem q1945 : (Jvm.Cond.selects "java/util/PriorityQueue" ({ cls := "java/util/PriorityQueue", name := "poll", desc := "()Ljava/lang/Object;" } : Jvm.MethodName) ({ cls := "java/util/PriorityQueue", name := "poll", desc := "()Ljava/lang/Object;" } : Jvm.MethodName)) ∈ lw_all := lw_g (lw_at lw_m8 189 rfl) rfl
theorem q1946 : (Jvm.Cond.code ({ cls := "java/util/PriorityQueue", name := "poll", desc := "()Ljava/lang/Object;" } : Jvm.MethodName) prog_61_method_25_code (6 : Nat) (Option.some (Jvm.ClassFile.FieldType.object "java/lang/Object"))) ∈ lw_all := lw_g (lw_at lw_m8 190 rfl) rfl
theorem q1947 : (Jvm.Cond.methodLink "java/util/PriorityQueue" (125 : Nat) ({ cls := "java/util/PriorityQueue", name := "siftDownComparable", desc := "(ILjava/lang/Object;[Ljava/lang/Object;I)V" } : Jvm.MethodName)) ∈ lw_all := lw_g (lw_at lw_m8 191 rfl) rfl
theorem q1948 : (Jvm.Cond.static ({ cls := "java/util/PriorityQueue", name := "siftDownComparable", desc := "(ILjava/lang/Object;[Ljava/lang/Object;I)V" } : Jvm.MethodName)) ∈ lw_all := lw_g (lw_at lw_m8 192 rfl) rfl
theorem q1949 : (Jvm.Cond.code ({ cls := "java/util/PriorityQueue", name := "siftDownComparable", desc := "(ILjava/lang/Object;[Ljava/lang/Object;I)V" } : Jvm.MethodName) prog_61_method_31_code (9 : Nat) (Option.none : Option Jvm.ClassFile.FieldType)) ∈ lw_all := lw_g (lw_at lw_m8 193 rfl) rfl
theorem q1950 : (Jvm.Cond.methodLink "java/util/PriorityQueue" (129 : Nat) ({ cls := "java/util/PriorityQueue", name := "siftDownUsingComparator", desc := "(ILjava/lang/Object;[Ljava/lang/Object;ILjava/util/Comparator;)V" } : Jvm.MethodName)) ∈ lw_all := lw_g (lw_at lw_m8 194 rfl) rfl
theorem q1951 : (Jvm.Cond.static ({ cls := "java/util/PriorityQueue", name := "siftDownUsingComparator", desc := "(ILjava/lang/Object;[Ljava/lang/Object;ILjava/util/Comparator;)V" } : Jvm.MethodName)) ∈ lw_all := lw_g (lw_at lw_m8 195 rfl) rfl
theorem q1952 : (Jvm.Cond.code ({ cls := "java/util/PriorityQueue", name := "siftDownUsingComparator", desc := "(ILjava/lang/Object;[Ljava/lang/Object;ILjava/util/Comparator;)V" } : Jvm.MethodName) prog_61_method_32_code (9 : Nat) (Option.none : Option Jvm.ClassFile.FieldType)) ∈ lw_all := lw_g (lw_at lw_m8 196 rfl) rfl
theorem q2056 : (Jvm.Cond.instanceMethod ({ cls := "java/util/PriorityQueue", name := "peek", desc := "()Ljava/lang/Object;" } : Jvm.MethodName)) ∈ lw_all := lw_g (lw_at lw_m9 60 rfl) rfl
theorem q2057 : (Jvm.Cond.selects "java/util/PriorityQueue" ({ cls := "java/util/PriorityQueue", name := "peek", desc := "()Ljava/lang/Object;" } : Jvm.MethodName) ({ cls := "java/util/PriorityQueue", name := "peek", desc := "()Ljava/lang/Object;" } : Jvm.MethodName)) ∈ lw_all := lw_g (lw_at lw_m9 61 rfl) rfl
theorem q2058 : (Jvm.Cond.code ({ cls := "java/util/PriorityQueue", name := "peek", desc := "()Ljava/lang/Object;" } : Jvm.MethodName) prog_61_method_15_code (1 : Nat) (Option.some (Jvm.ClassFile.FieldType.object "java/lang/Object"))) ∈ lw_all := lw_g (lw_at lw_m9 62 rfl) rfl
theorem q2997 : (Jvm.Cond.castable "java/util/PriorityQueue" "java/lang/Object") ∈ lw_tbl := lw_at lw_m13 41 rfl
theorem in_J4 : ∀ w ∈ wsJ40, w ∈ lw_all := lw_in wsJ40 [269, 271, 273, 275] (by decide +kernel) (by decide +kernel)

/-! java/lang/Throwable -/
set_option maxRecDepth 100000
def RJ5 : String := "java/lang/Throwable"
def TJ5 : u_T := fun k => match k with
  | 0 => ("java/lang/Throwable", "cause", "Ljava/lang/Throwable;", false)
  | 1 => ("java/lang/Throwable", "stackTrace", "[Ljava/lang/StackTraceElement;", false)
  | 2 => ("java/lang/Throwable", "suppressedExceptions", "Ljava/util/List;", false)
  | 3 => ("java/lang/Throwable", "detailMessage", "Ljava/lang/String;", false)
  | _ => ("java/lang/Throwable", "backtrace", "Ljava/lang/Object;", false)
def tyJ5 : Nat → FieldType := fun k => match k with
  | 0 => .object "java/lang/Throwable"
  | 1 => .array (.object "java/lang/StackTraceElement")
  | 2 => .object "java/util/List"
  | 3 => .object "java/lang/String"
  | _ => .object "java/lang/Object"
abbrev wsJ50 : List Cond := u_ws RJ5 TJ5 5
theorem nmJ5 : ∀ a, a < 5 → ∀ b, b < 5 → a ≠ b → (TJ5 a).2.1 ≠ (TJ5 b).2.1 := by decide +kernel
theorem tyJ5_ok : ∀ k, k < 5 → parseFieldDescriptor (TJ5 k).2.2.1 = some (tyJ5 k) := by decide +kernel
abbrev cJ5_init : ByteArray := prog_40_method_1_code
def yJ5_init : MethodName := ⟨RJ5, "<init>", "()V"⟩
def dkwJ5_init_1 : List UInt8 := [182, 0, 27, 87, 177]
abbrev dktJ5_init_1 : List UInt8 := dkwJ5_init_1 ++ []
def dkwJ5_init_0 : List UInt8 := [42, 183, 0, 1, 42, 42, 181, 0, 7, 42, 178, 0, 13, 181, 0, 17, 42, 178, 0, 20, 181, 0, 24, 42]
abbrev dktJ5_init_0 : List UInt8 := dkwJ5_init_0 ++ dktJ5_init_1
theorem dksJ5_init_0 : cJ5_init.data.toList.drop 0 = dktJ5_init_0 := by decide +kernel
theorem dksJ5_init_1 : cJ5_init.data.toList.drop 24 = dktJ5_init_1 := dk_seg dksJ5_init_0 24 rfl rfl
theorem dJ5_init_0 : decode cJ5_init 0 = .ok (.aload_n 0, 1) := dk_42 (dk_at dksJ5_init_0 0 rfl rfl)
theorem dJ5_init_1 : decode cJ5_init 1 = .ok (.invokespecial 1, 3) := dk_183 0 1 (dk_at dksJ5_init_0 1 rfl rfl)
theorem dJ5_init_4 : decode cJ5_init 4 = .ok (.aload_n 0, 1) := dk_42 (dk_at dksJ5_init_0 4 rfl rfl)
theorem dJ5_init_5 : decode cJ5_init 5 = .ok (.aload_n 0, 1) := dk_42 (dk_at dksJ5_init_0 5 rfl rfl)
theorem dJ5_init_6 : decode cJ5_init 6 = .ok (.putfield 7, 3) := dk_181 0 7 (dk_at dksJ5_init_0 6 rfl rfl)
theorem dJ5_init_9 : decode cJ5_init 9 = .ok (.aload_n 0, 1) := dk_42 (dk_at dksJ5_init_0 9 rfl rfl)
theorem dJ5_init_10 : decode cJ5_init 10 = .ok (.getstatic 13, 3) := dk_178 0 13 (dk_at dksJ5_init_0 10 rfl rfl)
theorem dJ5_init_13 : decode cJ5_init 13 = .ok (.putfield 17, 3) := dk_181 0 17 (dk_at dksJ5_init_0 13 rfl rfl)
theorem dJ5_init_16 : decode cJ5_init 16 = .ok (.aload_n 0, 1) := dk_42 (dk_at dksJ5_init_0 16 rfl rfl)
theorem dJ5_init_17 : decode cJ5_init 17 = .ok (.getstatic 20, 3) := dk_178 0 20 (dk_at dksJ5_init_0 17 rfl rfl)
theorem dJ5_init_20 : decode cJ5_init 20 = .ok (.putfield 24, 3) := dk_181 0 24 (dk_at dksJ5_init_0 20 rfl rfl)
theorem dJ5_init_23 : decode cJ5_init 23 = .ok (.aload_n 0, 1) := dk_42 (dk_at dksJ5_init_0 23 rfl rfl)
theorem dJ5_init_24 : decode cJ5_init 24 = .ok (.invokevirtual 27, 3) := dk_182 0 27 (dk_at dksJ5_init_1 0 rfl rfl)
theorem dJ5_init_27 : decode cJ5_init 27 = .ok (.pop, 1) := dk_87 (dk_at dksJ5_init_1 3 rfl rfl)
theorem dJ5_init_28 : decode cJ5_init 28 = .ok (.return_, 1) := dk_177 (dk_at dksJ5_init_1 4 rfl rfl)
abbrev cJ5_init_2 : ByteArray := prog_40_method_2_code
def yJ5_init_2 : MethodName := ⟨RJ5, "<init>", "(Ljava/lang/String;)V"⟩
def dkwJ5_init_2_1 : List UInt8 := [182, 0, 27, 87, 42, 43, 181, 0, 31, 177]
abbrev dktJ5_init_2_1 : List UInt8 := dkwJ5_init_2_1 ++ []
def dkwJ5_init_2_0 : List UInt8 := [42, 183, 0, 1, 42, 42, 181, 0, 7, 42, 178, 0, 13, 181, 0, 17, 42, 178, 0, 20, 181, 0, 24, 42]
abbrev dktJ5_init_2_0 : List UInt8 := dkwJ5_init_2_0 ++ dktJ5_init_2_1
theorem dksJ5_init_2_0 : cJ5_init_2.data.toList.drop 0 = dktJ5_init_2_0 := by decide +kernel
theorem dksJ5_init_2_1 : cJ5_init_2.data.toList.drop 24 = dktJ5_init_2_1 := dk_seg dksJ5_init_2_0 24 rfl rfl
theorem dJ5_init_2_0 : decode cJ5_init_2 0 = .ok (.aload_n 0, 1) := dk_42 (dk_at dksJ5_init_2_0 0 rfl rfl)
theorem dJ5_init_2_1 : decode cJ5_init_2 1 = .ok (.invokespecial 1, 3) := dk_183 0 1 (dk_at dksJ5_init_2_0 1 rfl rfl)
theorem dJ5_init_2_4 : decode cJ5_init_2 4 = .ok (.aload_n 0, 1) := dk_42 (dk_at dksJ5_init_2_0 4 rfl rfl)
theorem dJ5_init_2_5 : decode cJ5_init_2 5 = .ok (.aload_n 0, 1) := dk_42 (dk_at dksJ5_init_2_0 5 rfl rfl)
theorem dJ5_init_2_6 : decode cJ5_init_2 6 = .ok (.putfield 7, 3) := dk_181 0 7 (dk_at dksJ5_init_2_0 6 rfl rfl)
theorem dJ5_init_2_9 : decode cJ5_init_2 9 = .ok (.aload_n 0, 1) := dk_42 (dk_at dksJ5_init_2_0 9 rfl rfl)
theorem dJ5_init_2_10 : decode cJ5_init_2 10 = .ok (.getstatic 13, 3) := dk_178 0 13 (dk_at dksJ5_init_2_0 10 rfl rfl)
theorem dJ5_init_2_13 : decode cJ5_init_2 13 = .ok (.putfield 17, 3) := dk_181 0 17 (dk_at dksJ5_init_2_0 13 rfl rfl)
theorem dJ5_init_2_16 : decode cJ5_init_2 16 = .ok (.aload_n 0, 1) := dk_42 (dk_at dksJ5_init_2_0 16 rfl rfl)
theorem dJ5_init_2_17 : decode cJ5_init_2 17 = .ok (.getstatic 20, 3) := dk_178 0 20 (dk_at dksJ5_init_2_0 17 rfl rfl)
theorem dJ5_init_2_20 : decode cJ5_init_2 20 = .ok (.putfield 24, 3) := dk_181 0 24 (dk_at dksJ5_init_2_0 20 rfl rfl)
theorem dJ5_init_2_23 : decode cJ5_init_2 23 = .ok (.aload_n 0, 1) := dk_42 (dk_at dksJ5_init_2_0 23 rfl rfl)
theorem dJ5_init_2_24 : decode cJ5_init_2 24 = .ok (.invokevirtual 27, 3) := dk_182 0 27 (dk_at dksJ5_init_2_1 0 rfl rfl)
theorem dJ5_init_2_27 : decode cJ5_init_2 27 = .ok (.pop, 1) := dk_87 (dk_at dksJ5_init_2_1 3 rfl rfl)
theorem dJ5_init_2_28 : decode cJ5_init_2 28 = .ok (.aload_n 0, 1) := dk_42 (dk_at dksJ5_init_2_1 4 rfl rfl)
theorem dJ5_init_2_29 : decode cJ5_init_2 29 = .ok (.aload_n 1, 1) := dk_43 (dk_at dksJ5_init_2_1 5 rfl rfl)
theorem dJ5_init_2_30 : decode cJ5_init_2 30 = .ok (.putfield 31, 3) := dk_181 0 31 (dk_at dksJ5_init_2_1 6 rfl rfl)
theorem dJ5_init_2_33 : decode cJ5_init_2 33 = .ok (.return_, 1) := dk_177 (dk_at dksJ5_init_2_1 9 rfl rfl)
theorem q84 : (Jvm.Cond.initialized "java/lang/Throwable") ∈ lw_all := lw_g (lw_at lw_m1 8 rfl) rfl
theorem q203 : (Jvm.Cond.declares ({ cls := "java/lang/Throwable", name := "<init>", desc := "()V" } : Jvm.MethodName)) ∈ lw_tbl := lw_at lw_m1 127 rfl
theorem q204 : (Jvm.Cond.declares ({ cls := "java/lang/Throwable", name := "<init>", desc := "(Ljava/lang/String;)V" } : Jvm.MethodName)) ∈ lw_tbl := lw_at lw_m1 128 rfl
theorem q208 : (Jvm.Cond.lays "java/lang/Throwable" "java/lang/Throwable" "cause" "Ljava/lang/Throwable;") ∈ lw_all := lw_g (lw_at lw_m1 132 rfl) rfl
theorem q210 : (Jvm.Cond.lays "java/lang/Throwable" "java/lang/Throwable" "stackTrace" "[Ljava/lang/StackTraceElement;") ∈ lw_all := lw_g (lw_at lw_m1 134 rfl) rfl
theorem q212 : (Jvm.Cond.lays "java/lang/Throwable" "java/lang/Throwable" "suppressedExceptions" "Ljava/util/List;") ∈ lw_all := lw_g (lw_at lw_m1 136 rfl) rfl
theorem q214 : (Jvm.Cond.lays "java/lang/Throwable" "java/lang/Throwable" "detailMessage" "Ljava/lang/String;") ∈ lw_all := lw_g (lw_at lw_m1 138 rfl) rfl
theorem q216 : (Jvm.Cond.lays "java/lang/Throwable" "java/lang/Throwable" "backtrace" "Ljava/lang/Object;") ∈ lw_all := lw_g (lw_at lw_m1 140 rfl) rfl
theorem q217 : (Jvm.Cond.fieldLink "java/lang/Throwable" (198 : Nat) "java/lang/Throwable" "backtrace" "Ljava/lang/Object;") ∈ lw_all := lw_g (lw_at lw_m1 141 rfl) rfl
theorem q218 : (Jvm.Cond.superclass "java/lang/Throwable" "java/lang/Object") ∈ lw_all := lw_g (lw_at lw_m1 142 rfl) rfl
theorem q219 : (Jvm.Cond.instanceMethod ({ cls := "java/lang/Throwable", name := "<init>", desc := "()V" } : Jvm.MethodName)) ∈ lw_all := lw_g (lw_at lw_m1 143 rfl) rfl
theorem q220 : (Jvm.Cond.code ({ cls := "java/lang/Throwable", name := "<init>", desc := "()V" } : Jvm.MethodName) prog_40_method_1_code (1 : Nat) (Option.none : Option Jvm.ClassFile.FieldType)) ∈ lw_all := lw_g (lw_at lw_m1 144 rfl) rfl
theorem q221 : (Jvm.Cond.methodLink "java/lang/Throwable" (1 : Nat) ({ cls := "java/lang/Object", name := "<init>", desc := "()V" } : Jvm.MethodName)) ∈ lw_all := lw_g (lw_at lw_m1 145 rfl) rfl
theorem q222 : (Jvm.Cond.fieldLink "java/lang/Throwable" (13 : Nat) "java/lang/Throwable" "UNASSIGNED_STACK" "[Ljava/lang/StackTraceElement;") ∈ lw_all := lw_g (lw_at lw_m1 146 rfl) rfl
theorem q223 : (Jvm.Cond.laysStatic "java/lang/Throwable" "UNASSIGNED_STACK" "[Ljava/lang/StackTraceElement;") ∈ lw_tbl := lw_at lw_m1 147 rfl
theorem q224 : (Jvm.Cond.fieldLink "java/lang/Throwable" (20 : Nat) "java/lang/Throwable" "SUPPRESSED_SENTINEL" "Ljava/util/List;") ∈ lw_all := lw_g (lw_at lw_m1 148 rfl) rfl
theorem q225 : (Jvm.Cond.laysStatic "java/lang/Throwable" "SUPPRESSED_SENTINEL" "Ljava/util/List;") ∈ lw_tbl := lw_at lw_m1 149 rfl
theorem q226 : (Jvm.Cond.methodLink "java/lang/Throwable" (27 : Nat) ({ cls := "java/lang/Throwable", name := "fillInStackTrace", desc := "()Ljava/lang/Throwable;" } : Jvm.MethodName)) ∈ lw_all := lw_g (lw_at lw_m1 150 rfl) rfl
theorem q227 : (Jvm.Cond.instanceMethod ({ cls := "java/lang/Throwable", name := "fillInStackTrace", desc := "()Ljava/lang/Throwable;" } : Jvm.MethodName)) ∈ lw_all := lw_g (lw_at lw_m1 151 rfl) rfl
theorem q228 : (Jvm.Cond.sameMethod "java/lang/Throwable" "java/lang/Throwable" "fillInStackTrace" "()Ljava/lang/Throwable;") ∈ lw_all := lw_g (lw_at lw_m1 152 rfl) rfl
theorem q234 : (Jvm.Cond.codeSync ({ cls := "java/lang/Throwable", name := "fillInStackTrace", desc := "()Ljava/lang/Throwable;" } : Jvm.MethodName) prog_40_method_18_code (1 : Nat) (Option.some (Jvm.ClassFile.FieldType.object "java/lang/Throwable"))) ∈ lw_all := lw_g (lw_at lw_m1 158 rfl) rfl
theorem q235 : (Jvm.Cond.methodLink "java/lang/Throwable" (202 : Nat) ({ cls := "java/lang/Throwable", name := "fillInStackTrace", desc := "(I)Ljava/lang/Throwable;" } : Jvm.MethodName)) ∈ lw_all := lw_g (lw_at lw_m1 159 rfl) rfl
theorem q236 : (Jvm.Cond.privateMethod ({ cls := "java/lang/Throwable", name := "fillInStackTrace", desc := "(I)Ljava/lang/Throwable;" } : Jvm.MethodName)) ∈ lw_tbl := lw_at lw_m1 160 rfl
theorem q237 : (Jvm.Cond.instanceMethod ({ cls := "java/lang/Throwable", name := "fillInStackTrace", desc := "(I)Ljava/lang/Throwable;" } : Jvm.MethodName)) ∈ lw_all := lw_g (lw_at lw_m1 161 rfl) rfl
theorem q238 : (Jvm.Cond.instantiable "java/lang/Throwable" (6 : Nat)) ∈ lw_all := lw_g (lw_at lw_m1 162 rfl) rfl
theorem q239 : (Jvm.Cond.native ({ cls := "java/lang/Throwable", name := "fillInStackTrace", desc := "(I)Ljava/lang/Throwable;" } : Jvm.MethodName)) ∈ lw_all := lw_g (lw_at lw_m1 163 rfl) rfl
theorem q250 : (Jvm.Cond.fieldLink "java/lang/Throwable" (198 : Nat) "java/lang/Throwable" "backtrace" "Ljava/lang/Object;") ∈ lw_all := lw_g (lw_at lw_m1 174 rfl) rfl
theorem q251 : (Jvm.Cond.fieldLink "java/lang/Throwable" (31 : Nat) "java/lang/Throwable" "detailMessage" "Ljava/lang/String;") ∈ lw_all := lw_g (lw_at lw_m1 175 rfl) rfl
theorem q252 : (Jvm.Cond.fieldLink "java/lang/Throwable" (7 : Nat) "java/lang/Throwable" "cause" "Ljava/lang/Throwable;") ∈ lw_all := lw_g (lw_at lw_m1 176 rfl) rfl
theorem q253 : (Jvm.Cond.fieldLink "java/lang/Throwable" (17 : Nat) "java/lang/Throwable" "stackTrace" "[Ljava/lang/StackTraceElement;") ∈ lw_all := lw_g (lw_at lw_m1 177 rfl) rfl
theorem q254 : (Jvm.Cond.fieldLink "java/lang/Throwable" (24 : Nat) "java/lang/Throwable" "suppressedExceptions" "Ljava/util/List;") ∈ lw_all := lw_g (lw_at lw_m1 178 rfl) rfl
theorem q255 : (Jvm.Cond.soleField "java/lang/Throwable" "backtrace") ∈ lw_all := lw_g (lw_at lw_m1 179 rfl) rfl
theorem q256 : (Jvm.Cond.soleField "java/lang/Throwable" "detailMessage") ∈ lw_all := lw_g (lw_at lw_m1 180 rfl) rfl
theorem q257 : (Jvm.Cond.soleField "java/lang/Throwable" "cause") ∈ lw_all := lw_g (lw_at lw_m1 181 rfl) rfl
theorem q258 : (Jvm.Cond.soleField "java/lang/Throwable" "stackTrace") ∈ lw_all := lw_g (lw_at lw_m1 182 rfl) rfl
theorem q260 : (Jvm.Cond.soleField "java/lang/Throwable" "depth") ∈ lw_all := lw_g (lw_at lw_m1 184 rfl) rfl
theorem q261 : (Jvm.Cond.soleField "java/lang/Throwable" "suppressedExceptions") ∈ lw_all := lw_g (lw_at lw_m1 185 rfl) rfl
theorem q1355 : (Jvm.Cond.instanceMethod ({ cls := "java/lang/Throwable", name := "<init>", desc := "(Ljava/lang/String;)V" } : Jvm.MethodName)) ∈ lw_all := lw_g (lw_at lw_m6 79 rfl) rfl
theorem q1356 : (Jvm.Cond.code ({ cls := "java/lang/Throwable", name := "<init>", desc := "(Ljava/lang/String;)V" } : Jvm.MethodName) prog_40_method_2_code (2 : Nat) (Option.none : Option Jvm.ClassFile.FieldType)) ∈ lw_all := lw_g (lw_at lw_m6 80 rfl) rfl
theorem q2971 : (Jvm.Cond.sameMethod "java/lang/Throwable" "java/lang/Throwable" "fillInStackTrace" "(I)Ljava/lang/Throwable;") ∈ lw_all := lw_g (lw_at lw_m13 15 rfl) rfl
theorem q3022 : (Jvm.Cond.castable "java/lang/Throwable" "java/lang/Object") ∈ lw_tbl := lw_at lw_m13 66 rfl
theorem in_J5 : ∀ w ∈ wsJ50, w ∈ lw_all := lw_in wsJ50 [208, 210, 212, 214, 216] (by decide +kernel) (by decide +kernel)

/-! java/lang/Exception -/
set_option maxRecDepth 100000
def RJ6 : String := "java/lang/Exception"
abbrev cJ6_init : ByteArray := prog_22_method_1_code
def yJ6_init : MethodName := ⟨RJ6, "<init>", "()V"⟩
theorem dJ6_init_0 : decode cJ6_init 0 = .ok (.aload_n 0, 1) := by decide +kernel
theorem dJ6_init_1 : decode cJ6_init 1 = .ok (.invokespecial 1, 3) := by decide +kernel
theorem dJ6_init_4 : decode cJ6_init 4 = .ok (.return_, 1) := by decide +kernel
abbrev cJ6_init_2 : ByteArray := prog_22_method_2_code
def yJ6_init_2 : MethodName := ⟨RJ6, "<init>", "(Ljava/lang/String;)V"⟩
def dkwJ6_init_2_0 : List UInt8 := [42, 43, 183, 0, 7, 177]
abbrev dktJ6_init_2_0 : List UInt8 := dkwJ6_init_2_0 ++ []
theorem dksJ6_init_2_0 : cJ6_init_2.data.toList.drop 0 = dktJ6_init_2_0 := by decide +kernel
theorem dJ6_init_2_0 : decode cJ6_init_2 0 = .ok (.aload_n 0, 1) := dk_42 (dk_at dksJ6_init_2_0 0 rfl rfl)
theorem dJ6_init_2_1 : decode cJ6_init_2 1 = .ok (.aload_n 1, 1) := dk_43 (dk_at dksJ6_init_2_0 1 rfl rfl)
theorem dJ6_init_2_2 : decode cJ6_init_2 2 = .ok (.invokespecial 7, 3) := dk_183 0 7 (dk_at dksJ6_init_2_0 2 rfl rfl)
theorem dJ6_init_2_5 : decode cJ6_init_2 5 = .ok (.return_, 1) := dk_177 (dk_at dksJ6_init_2_0 5 rfl rfl)
theorem q85 : (Jvm.Cond.initialized "java/lang/Exception") ∈ lw_all := lw_g (lw_at lw_m1 9 rfl) rfl
theorem q201 : (Jvm.Cond.declares ({ cls := "java/lang/Exception", name := "<init>", desc := "()V" } : Jvm.MethodName)) ∈ lw_tbl := lw_at lw_m1 125 rfl
theorem q202 : (Jvm.Cond.declares ({ cls := "java/lang/Exception", name := "<init>", desc := "(Ljava/lang/String;)V" } : Jvm.MethodName)) ∈ lw_tbl := lw_at lw_m1 126 rfl
theorem q247 : (Jvm.Cond.instanceMethod ({ cls := "java/lang/Exception", name := "<init>", desc := "()V" } : Jvm.MethodName)) ∈ lw_all := lw_g (lw_at lw_m1 171 rfl) rfl
theorem q248 : (Jvm.Cond.code ({ cls := "java/lang/Exception", name := "<init>", desc := "()V" } : Jvm.MethodName) prog_22_method_1_code (1 : Nat) (Option.none : Option Jvm.ClassFile.FieldType)) ∈ lw_all := lw_g (lw_at lw_m1 172 rfl) rfl
theorem q249 : (Jvm.Cond.methodLink "java/lang/Exception" (1 : Nat) ({ cls := "java/lang/Throwable", name := "<init>", desc := "()V" } : Jvm.MethodName)) ∈ lw_all := lw_g (lw_at lw_m1 173 rfl) rfl
theorem q1352 : (Jvm.Cond.instanceMethod ({ cls := "java/lang/Exception", name := "<init>", desc := "(Ljava/lang/String;)V" } : Jvm.MethodName)) ∈ lw_all := lw_g (lw_at lw_m6 76 rfl) rfl
theorem q1353 : (Jvm.Cond.code ({ cls := "java/lang/Exception", name := "<init>", desc := "(Ljava/lang/String;)V" } : Jvm.MethodName) prog_22_method_2_code (2 : Nat) (Option.none : Option Jvm.ClassFile.FieldType)) ∈ lw_all := lw_g (lw_at lw_m6 77 rfl) rfl
theorem q1354 : (Jvm.Cond.methodLink "java/lang/Exception" (7 : Nat) ({ cls := "java/lang/Throwable", name := "<init>", desc := "(Ljava/lang/String;)V" } : Jvm.MethodName)) ∈ lw_all := lw_g (lw_at lw_m6 78 rfl) rfl

/-! java/lang/RuntimeException -/
set_option maxRecDepth 100000
def RJ7 : String := "java/lang/RuntimeException"
abbrev cJ7_init : ByteArray := prog_32_method_1_code
def yJ7_init : MethodName := ⟨RJ7, "<init>", "()V"⟩
theorem dJ7_init_0 : decode cJ7_init 0 = .ok (.aload_n 0, 1) := by decide +kernel
theorem dJ7_init_1 : decode cJ7_init 1 = .ok (.invokespecial 1, 3) := by decide +kernel
theorem dJ7_init_4 : decode cJ7_init 4 = .ok (.return_, 1) := by decide +kernel
abbrev cJ7_init_2 : ByteArray := prog_32_method_2_code
def yJ7_init_2 : MethodName := ⟨RJ7, "<init>", "(Ljava/lang/String;)V"⟩
def dkwJ7_init_2_0 : List UInt8 := [42, 43, 183, 0, 7, 177]
abbrev dktJ7_init_2_0 : List UInt8 := dkwJ7_init_2_0 ++ []
theorem dksJ7_init_2_0 : cJ7_init_2.data.toList.drop 0 = dktJ7_init_2_0 := by decide +kernel
theorem dJ7_init_2_0 : decode cJ7_init_2 0 = .ok (.aload_n 0, 1) := dk_42 (dk_at dksJ7_init_2_0 0 rfl rfl)
theorem dJ7_init_2_1 : decode cJ7_init_2 1 = .ok (.aload_n 1, 1) := dk_43 (dk_at dksJ7_init_2_0 1 rfl rfl)
theorem dJ7_init_2_2 : decode cJ7_init_2 2 = .ok (.invokespecial 7, 3) := dk_183 0 7 (dk_at dksJ7_init_2_0 2 rfl rfl)
theorem dJ7_init_2_5 : decode cJ7_init_2 5 = .ok (.return_, 1) := dk_177 (dk_at dksJ7_init_2_0 5 rfl rfl)
theorem q86 : (Jvm.Cond.initialized "java/lang/RuntimeException") ∈ lw_all := lw_g (lw_at lw_m1 10 rfl) rfl
theorem q199 : (Jvm.Cond.declares ({ cls := "java/lang/RuntimeException", name := "<init>", desc := "()V" } : Jvm.MethodName)) ∈ lw_tbl := lw_at lw_m1 123 rfl
theorem q200 : (Jvm.Cond.declares ({ cls := "java/lang/RuntimeException", name := "<init>", desc := "(Ljava/lang/String;)V" } : Jvm.MethodName)) ∈ lw_tbl := lw_at lw_m1 124 rfl
theorem q244 : (Jvm.Cond.instanceMethod ({ cls := "java/lang/RuntimeException", name := "<init>", desc := "()V" } : Jvm.MethodName)) ∈ lw_all := lw_g (lw_at lw_m1 168 rfl) rfl
theorem q245 : (Jvm.Cond.code ({ cls := "java/lang/RuntimeException", name := "<init>", desc := "()V" } : Jvm.MethodName) prog_32_method_1_code (1 : Nat) (Option.none : Option Jvm.ClassFile.FieldType)) ∈ lw_all := lw_g (lw_at lw_m1 169 rfl) rfl
theorem q246 : (Jvm.Cond.methodLink "java/lang/RuntimeException" (1 : Nat) ({ cls := "java/lang/Exception", name := "<init>", desc := "()V" } : Jvm.MethodName)) ∈ lw_all := lw_g (lw_at lw_m1 170 rfl) rfl
theorem q1349 : (Jvm.Cond.instanceMethod ({ cls := "java/lang/RuntimeException", name := "<init>", desc := "(Ljava/lang/String;)V" } : Jvm.MethodName)) ∈ lw_all := lw_g (lw_at lw_m6 73 rfl) rfl
theorem q1350 : (Jvm.Cond.code ({ cls := "java/lang/RuntimeException", name := "<init>", desc := "(Ljava/lang/String;)V" } : Jvm.MethodName) prog_32_method_2_code (2 : Nat) (Option.none : Option Jvm.ClassFile.FieldType)) ∈ lw_all := lw_g (lw_at lw_m6 74 rfl) rfl
theorem q1351 : (Jvm.Cond.methodLink "java/lang/RuntimeException" (7 : Nat) ({ cls := "java/lang/Exception", name := "<init>", desc := "(Ljava/lang/String;)V" } : Jvm.MethodName)) ∈ lw_all := lw_g (lw_at lw_m6 75 rfl) rfl

/-! java/lang/IllegalArgumentException -/
set_option maxRecDepth 100000
def RJ8 : String := "java/lang/IllegalArgumentException"
def TJ8 : u_T := fun k => match k with
  | 0 => ("java/lang/Throwable", "cause", "Ljava/lang/Throwable;", false)
  | 1 => ("java/lang/Throwable", "stackTrace", "[Ljava/lang/StackTraceElement;", false)
  | 2 => ("java/lang/Throwable", "suppressedExceptions", "Ljava/util/List;", false)
  | 3 => ("java/lang/Throwable", "detailMessage", "Ljava/lang/String;", false)
  | 4 => ("java/lang/Throwable", "backtrace", "Ljava/lang/Object;", false)
  | _ => ("java/lang/Throwable", "depth", "I", false)
def tyJ8 : Nat → FieldType := fun k => match k with
  | 0 => .object "java/lang/Throwable"
  | 1 => .array (.object "java/lang/StackTraceElement")
  | 2 => .object "java/util/List"
  | 3 => .object "java/lang/String"
  | 4 => .object "java/lang/Object"
  | _ => .int
abbrev wsJ80 : List Cond := u_ws RJ8 TJ8 6
theorem nmJ8 : ∀ a, a < 6 → ∀ b, b < 6 → a ≠ b → (TJ8 a).2.1 ≠ (TJ8 b).2.1 := by decide +kernel
theorem tyJ8_ok : ∀ k, k < 6 → parseFieldDescriptor (TJ8 k).2.2.1 = some (tyJ8 k) := by decide +kernel
abbrev cJ8_init : ByteArray := prog_23_method_1_code
def yJ8_init : MethodName := ⟨RJ8, "<init>", "()V"⟩
theorem dJ8_init_0 : decode cJ8_init 0 = .ok (.aload_n 0, 1) := by decide +kernel
theorem dJ8_init_1 : decode cJ8_init 1 = .ok (.invokespecial 1, 3) := by decide +kernel
theorem dJ8_init_4 : decode cJ8_init 4 = .ok (.return_, 1) := by decide +kernel
abbrev cJ8_init_2 : ByteArray := prog_23_method_2_code
def yJ8_init_2 : MethodName := ⟨RJ8, "<init>", "(Ljava/lang/String;)V"⟩
def dkwJ8_init_2_0 : List UInt8 := [42, 43, 183, 0, 7, 177]
abbrev dktJ8_init_2_0 : List UInt8 := dkwJ8_init_2_0 ++ []
theorem dksJ8_init_2_0 : cJ8_init_2.data.toList.drop 0 = dktJ8_init_2_0 := by decide +kernel
theorem dJ8_init_2_0 : decode cJ8_init_2 0 = .ok (.aload_n 0, 1) := dk_42 (dk_at dksJ8_init_2_0 0 rfl rfl)
theorem dJ8_init_2_1 : decode cJ8_init_2 1 = .ok (.aload_n 1, 1) := dk_43 (dk_at dksJ8_init_2_0 1 rfl rfl)
theorem dJ8_init_2_2 : decode cJ8_init_2 2 = .ok (.invokespecial 7, 3) := dk_183 0 7 (dk_at dksJ8_init_2_0 2 rfl rfl)
theorem dJ8_init_2_5 : decode cJ8_init_2 5 = .ok (.return_, 1) := dk_177 (dk_at dksJ8_init_2_0 5 rfl rfl)
theorem q87 : (Jvm.Cond.initialized "java/lang/IllegalArgumentException") ∈ lw_all := lw_g (lw_at lw_m1 11 rfl) rfl
theorem q197 : (Jvm.Cond.instantiable "java/lang/IllegalArgumentException" (6 : Nat)) ∈ lw_all := lw_g (lw_at lw_m1 121 rfl) rfl
theorem q198 : (Jvm.Cond.castable "java/lang/IllegalArgumentException" "java/lang/IllegalArgumentException") ∈ lw_tbl := lw_at lw_m1 122 rfl
theorem q205 : (Jvm.Cond.selects "java/lang/IllegalArgumentException" ({ cls := "java/lang/Throwable", name := "fillInStackTrace", desc := "(I)Ljava/lang/Throwable;" } : Jvm.MethodName) ({ cls := "java/lang/Throwable", name := "fillInStackTrace", desc := "(I)Ljava/lang/Throwable;" } : Jvm.MethodName)) ∈ lw_all := lw_g (lw_at lw_m1 129 rfl) rfl
theorem q206 : (Jvm.Cond.selects "java/lang/IllegalArgumentException" ({ cls := "java/lang/Throwable", name := "fillInStackTrace", desc := "()Ljava/lang/Throwable;" } : Jvm.MethodName) ({ cls := "java/lang/Throwable", name := "fillInStackTrace", desc := "()Ljava/lang/Throwable;" } : Jvm.MethodName)) ∈ lw_all := lw_g (lw_at lw_m1 130 rfl) rfl
theorem q207 : (Jvm.Cond.lays "java/lang/IllegalArgumentException" "java/lang/Throwable" "cause" "Ljava/lang/Throwable;") ∈ lw_all := lw_g (lw_at lw_m1 131 rfl) rfl
theorem q209 : (Jvm.Cond.lays "java/lang/IllegalArgumentException" "java/lang/Throwable" "stackTrace" "[Ljava/lang/StackTraceElement;") ∈ lw_all := lw_g (lw_at lw_m1 133 rfl) rfl
theorem q211 : (Jvm.Cond.lays "java/lang/IllegalArgumentException" "java/lang/Throwable" "suppressedExceptions" "Ljava/util/List;") ∈ lw_all := lw_g (lw_at lw_m1 135 rfl) rfl
theorem q213 : (Jvm.Cond.lays "java/lang/IllegalArgumentException" "java/lang/Throwable" "detailMessage" "Ljava/lang/String;") ∈ lw_all := lw_g (lw_at lw_m1 137 rfl) rfl
theorem q215 : (Jvm.Cond.lays "java/lang/IllegalArgumentException" "java/lang/Throwable" "backtrace" "Ljava/lang/Object;") ∈ lw_all := lw_g (lw_at lw_m1 139 rfl) rfl
theorem q241 : (Jvm.Cond.instanceMethod ({ cls := "java/lang/IllegalArgumentException", name := "<init>", desc := "()V" } : Jvm.MethodName)) ∈ lw_all := lw_g (lw_at lw_m1 165 rfl) rfl
theorem q242 : (Jvm.Cond.code ({ cls := "java/lang/IllegalArgumentException", name := "<init>", desc := "()V" } : Jvm.MethodName) prog_23_method_1_code (1 : Nat) (Option.none : Option Jvm.ClassFile.FieldType)) ∈ lw_all := lw_g (lw_at lw_m1 166 rfl) rfl
theorem q243 : (Jvm.Cond.methodLink "java/lang/IllegalArgumentException" (1 : Nat) ({ cls := "java/lang/RuntimeException", name := "<init>", desc := "()V" } : Jvm.MethodName)) ∈ lw_all := lw_g (lw_at lw_m1 167 rfl) rfl
theorem q259 : (Jvm.Cond.lays "java/lang/IllegalArgumentException" "java/lang/Throwable" "depth" "I") ∈ lw_all := lw_g (lw_at lw_m1 183 rfl) rfl
theorem q262 : (Jvm.Cond.superclass "java/lang/IllegalArgumentException" "java/lang/RuntimeException") ∈ lw_all := lw_g (lw_at lw_m1 186 rfl) rfl
theorem q457 : (Jvm.Cond.selects "java/lang/IllegalArgumentException" ({ cls := "java/lang/Object", name := "getClass", desc := "()Ljava/lang/Class;" } : Jvm.MethodName) ({ cls := "java/lang/Object", name := "getClass", desc := "()Ljava/lang/Class;" } : Jvm.MethodName)) ∈ lw_all := lw_g (lw_at lw_m2 141 rfl) rfl
theorem q1346 : (Jvm.Cond.instanceMethod ({ cls := "java/lang/IllegalArgumentException", name := "<init>", desc := "(Ljava/lang/String;)V" } : Jvm.MethodName)) ∈ lw_all := lw_g (lw_at lw_m6 70 rfl) rfl
theorem q1347 : (Jvm.Cond.code ({ cls := "java/lang/IllegalArgumentException", name := "<init>", desc := "(Ljava/lang/String;)V" } : Jvm.MethodName) prog_23_method_2_code (2 : Nat) (Option.none : Option Jvm.ClassFile.FieldType)) ∈ lw_all := lw_g (lw_at lw_m6 71 rfl) rfl
theorem q1348 : (Jvm.Cond.methodLink "java/lang/IllegalArgumentException" (7 : Nat) ({ cls := "java/lang/RuntimeException", name := "<init>", desc := "(Ljava/lang/String;)V" } : Jvm.MethodName)) ∈ lw_all := lw_g (lw_at lw_m6 72 rfl) rfl
theorem q2118 : (Jvm.Cond.selects "java/lang/IllegalArgumentException" ({ cls := "java/lang/Object", name := "equals", desc := "(Ljava/lang/Object;)Z" } : Jvm.MethodName) ({ cls := "java/lang/Object", name := "equals", desc := "(Ljava/lang/Object;)Z" } : Jvm.MethodName)) ∈ lw_all := lw_g (lw_at lw_m9 122 rfl) rfl
theorem q2998 : (Jvm.Cond.castable "java/lang/IllegalArgumentException" "java/lang/Object") ∈ lw_tbl := lw_at lw_m13 42 rfl
theorem in_J8 : ∀ w ∈ wsJ80, w ∈ lw_all := lw_in wsJ80 [207, 209, 211, 213, 215, 259] (by decide +kernel) (by decide +kernel)

/-! java/util/AbstractMap -/
set_option maxRecDepth 100000
def RJ9 : String := "java/util/AbstractMap"
abbrev cJ9_init : ByteArray := prog_45_method_1_code
def yJ9_init : MethodName := ⟨RJ9, "<init>", "()V"⟩
theorem dJ9_init_0 : decode cJ9_init 0 = .ok (.aload_n 0, 1) := by decide +kernel
theorem dJ9_init_1 : decode cJ9_init 1 = .ok (.invokespecial 1, 3) := by decide +kernel
theorem dJ9_init_4 : decode cJ9_init 4 = .ok (.return_, 1) := by decide +kernel
abbrev cJ9_isEmpty : ByteArray := prog_45_method_3_code
def yJ9_isEmpty : MethodName := ⟨RJ9, "isEmpty", "()Z"⟩
def dkwJ9_isEmpty_0 : List UInt8 := [42, 182, 0, 19, 154, 0, 7, 4, 167, 0, 4, 3, 172]
abbrev dktJ9_isEmpty_0 : List UInt8 := dkwJ9_isEmpty_0 ++ []
theorem dksJ9_isEmpty_0 : cJ9_isEmpty.data.toList.drop 0 = dktJ9_isEmpty_0 := by decide +kernel
theorem dJ9_isEmpty_0 : decode cJ9_isEmpty 0 = .ok (.aload_n 0, 1) := dk_42 (dk_at dksJ9_isEmpty_0 0 rfl rfl)
theorem dJ9_isEmpty_1 : decode cJ9_isEmpty 1 = .ok (.invokevirtual 19, 3) := dk_182 0 19 (dk_at dksJ9_isEmpty_0 1 rfl rfl)
theorem dJ9_isEmpty_4 : decode cJ9_isEmpty 4 = .ok (.ifCond .ne 7, 3) := dk_154 0 7 (dk_at dksJ9_isEmpty_0 4 rfl rfl)
theorem dJ9_isEmpty_7 : decode cJ9_isEmpty 7 = .ok (.iconst 1, 1) := dk_4 (dk_at dksJ9_isEmpty_0 7 rfl rfl)
theorem dJ9_isEmpty_8 : decode cJ9_isEmpty 8 = .ok (.goto 4, 3) := dk_167 0 4 (dk_at dksJ9_isEmpty_0 8 rfl rfl)
theorem dJ9_isEmpty_11 : decode cJ9_isEmpty 11 = .ok (.iconst 0, 1) := dk_3 (dk_at dksJ9_isEmpty_0 11 rfl rfl)
theorem dJ9_isEmpty_12 : decode cJ9_isEmpty 12 = .ok (.ireturn, 1) := dk_172 (dk_at dksJ9_isEmpty_0 12 rfl rfl)
theorem q88 : (Jvm.Cond.initialized "java/util/AbstractMap") ∈ lw_all := lw_g (lw_at lw_m1 12 rfl) rfl
theorem q284 : (Jvm.Cond.instanceMethod ({ cls := "java/util/AbstractMap", name := "<init>", desc := "()V" } : Jvm.MethodName)) ∈ lw_all := lw_g (lw_at lw_m1 208 rfl) rfl
theorem q285 : (Jvm.Cond.code ({ cls := "java/util/AbstractMap", name := "<init>", desc := "()V" } : Jvm.MethodName) prog_45_method_1_code (1 : Nat) (Option.none : Option Jvm.ClassFile.FieldType)) ∈ lw_all := lw_g (lw_at lw_m1 209 rfl) rfl
theorem q286 : (Jvm.Cond.methodLink "java/util/AbstractMap" (1 : Nat) ({ cls := "java/lang/Object", name := "<init>", desc := "()V" } : Jvm.MethodName)) ∈ lw_all := lw_g (lw_at lw_m1 210 rfl) rfl
theorem q307 : (Jvm.Cond.soleField "java/util/AbstractMap" "keySet") ∈ lw_all := lw_g (lw_at lw_m1 231 rfl) rfl
theorem q309 : (Jvm.Cond.soleField "java/util/AbstractMap" "values") ∈ lw_all := lw_g (lw_at lw_m1 233 rfl) rfl
theorem q2005 : (Jvm.Cond.instanceMethod ({ cls := "java/util/AbstractMap", name := "isEmpty", desc := "()Z" } : Jvm.MethodName)) ∈ lw_all := lw_g (lw_at lw_m9 9 rfl) rfl
theorem q2006 : (Jvm.Cond.publicMethod ({ cls := "java/util/AbstractMap", name := "isEmpty", desc := "()Z" } : Jvm.MethodName)) ∈ lw_tbl := lw_at lw_m9 10 rfl
theorem q2007 : (Jvm.Cond.code ({ cls := "java/util/AbstractMap", name := "isEmpty", desc := "()Z" } : Jvm.MethodName) prog_45_method_3_code (1 : Nat) (Option.some Jvm.ClassFile.FieldType.boolean)) ∈ lw_all := lw_g (lw_at lw_m9 11 rfl) rfl
theorem q2008 : (Jvm.Cond.methodLink "java/util/AbstractMap" (19 : Nat) ({ cls := "java/util/AbstractMap", name := "size", desc := "()I" } : Jvm.MethodName)) ∈ lw_all := lw_g (lw_at lw_m9 12 rfl) rfl
theorem q2009 : (Jvm.Cond.instanceMethod ({ cls := "java/util/AbstractMap", name := "size", desc := "()I" } : Jvm.MethodName)) ∈ lw_all := lw_g (lw_at lw_m9 13 rfl) rfl
theorem q2010 : (Jvm.Cond.sameMethod "java/util/AbstractMap" "java/util/AbstractMap" "size" "()I") ∈ lw_all := lw_g (lw_at lw_m9 14 rfl) rfl
theorem q2012 : (Jvm.Cond.declares ({ cls := "java/util/AbstractMap", name := "size", desc := "()I" } : Jvm.MethodName)) ∈ lw_tbl := lw_at lw_m9 16 rfl
