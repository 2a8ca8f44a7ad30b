set_option maxRecDepth 100000
abbrev cJ0_init : ByteArray := prog_36_method_1_code
def yJ0_init : MethodName := ⟨RJ0, "<init>", "()V"⟩
theorem q102 : (Jvm.Cond.initialized "java/util/AbstractCollection") ∈ lw_all := lw_g (lw_at lw_m1 5 rfl) rfl
theorem q260 : (Jvm.Cond.instanceMethod ({ cls := "java/util/AbstractCollection", name := "<init>", desc := "()V" } : Jvm.MethodName)) ∈ lw_all := lw_g (lw_at lw_m1 163 rfl) rfl
theorem q261 : (Jvm.Cond.code ({ cls := "java/util/AbstractCollection", name := "<init>", desc := "()V" } : Jvm.MethodName) prog_36_method_1_code (1 : Nat) (Option.none : Option Jvm.ClassFile.FieldType)) ∈ lw_all := lw_g (lw_at lw_m1 164 rfl) rfl
theorem q262 : (Jvm.Cond.methodLink "java/util/AbstractCollection" (1 : Nat) ({ cls := "java/lang/Object", name := "<init>", desc := "()V" } : Jvm.MethodName)) ∈ lw_all := lw_g (lw_at lw_m1 165 rfl) rfl
abbrev cJ1_init : ByteArray := prog_37_method_3_code
def yJ1_init : MethodName := ⟨RJ1, "<init>", "()V"⟩
abbrev cJ1_size : ByteArray := prog_37_method_37_code
def yJ1_size : MethodName := ⟨RJ1, "size", "()I"⟩
abbrev cJ1_sub : ByteArray := prog_37_method_9_code
def yJ1_sub : MethodName := ⟨RJ1, "sub", "(III)I"⟩
abbrev cJ1_removeFirst : ByteArray := prog_37_method_18_code
def yJ1_removeFirst : MethodName := ⟨RJ1, "removeFirst", "()Ljava/lang/Object;"⟩
abbrev cJ1_pollFirst : ByteArray := prog_37_method_20_code
def yJ1_pollFirst : MethodName := ⟨RJ1, "pollFirst", "()Ljava/lang/Object;"⟩
abbrev cJ1_elementAt : ByteArray := prog_37_method_10_code
def yJ1_elementAt : MethodName := ⟨RJ1, "elementAt", "([Ljava/lang/Object;I)Ljava/lang/Object;"⟩
abbrev cJ1_inc : ByteArray := prog_37_method_6_code
def yJ1_inc : MethodName := ⟨RJ1, "inc", "(II)I"⟩
abbrev cJ1_addLast : ByteArray := prog_37_method_13_code
def yJ1_addLast : MethodName := ⟨RJ1, "addLast", "(Ljava/lang/Object;)V"⟩
abbrev cJ1_grow : ByteArray := prog_37_method_1_code
def yJ1_grow : MethodName := ⟨RJ1, "grow", "(I)V"⟩
abbrev cJ1_newCapacity : ByteArray := prog_37_method_2_code
def yJ1_newCapacity : MethodName := ⟨RJ1, "newCapacity", "(II)I"⟩
abbrev cJ1_isEmpty : ByteArray := prog_37_method_38_code
def yJ1_isEmpty : MethodName := ⟨RJ1, "isEmpty", "()Z"⟩
abbrev cJ1_removeLast : ByteArray := prog_37_method_19_code
def yJ1_removeLast : MethodName := ⟨RJ1, "removeLast", "()Ljava/lang/Object;"⟩
abbrev cJ1_pollLast : ByteArray := prog_37_method_21_code
def yJ1_pollLast : MethodName := ⟨RJ1, "pollLast", "()Ljava/lang/Object;"⟩
abbrev cJ1_dec : ByteArray := prog_37_method_7_code
def yJ1_dec : MethodName := ⟨RJ1, "dec", "(II)I"⟩
abbrev cJ1_clear : ByteArray := prog_37_method_53_code
def yJ1_clear : MethodName := ⟨RJ1, "clear", "()V"⟩
abbrev cJ1_circularClear : ByteArray := prog_37_method_54_code
def yJ1_circularClear : MethodName := ⟨RJ1, "circularClear", "([Ljava/lang/Object;II)V"⟩
theorem q103 : (Jvm.Cond.initialized "java/util/ArrayDeque") ∈ lw_all := lw_g (lw_at lw_m1 6 rfl) rfl
theorem q255 : (Jvm.Cond.instantiable "java/util/ArrayDeque" (3 : Nat)) ∈ lw_all := lw_g (lw_at lw_m1 158 rfl) rfl
theorem q257 : (Jvm.Cond.instanceMethod ({ cls := "java/util/ArrayDeque", name := "<init>", desc := "()V" } : Jvm.MethodName)) ∈ lw_all := lw_g (lw_at lw_m1 160 rfl) rfl
theorem q258 : (Jvm.Cond.code ({ cls := "java/util/ArrayDeque", name := "<init>", desc := "()V" } : Jvm.MethodName) prog_37_method_3_code (1 : Nat) (Option.none : Option Jvm.ClassFile.FieldType)) ∈ lw_all := lw_g (lw_at lw_m1 161 rfl) rfl
theorem q259 : (Jvm.Cond.methodLink "java/util/ArrayDeque" (42 : Nat) ({ cls := "java/util/AbstractCollection", name := "<init>", desc := "()V" } : Jvm.MethodName)) ∈ lw_all := lw_g (lw_at lw_m1 162 rfl) rfl
theorem q263 : (Jvm.Cond.classLink "java/util/ArrayDeque" (47 : Nat) "java/lang/Object") ∈ lw_all := lw_g (lw_at lw_m1 166 rfl) rfl
theorem q265 : (Jvm.Cond.fieldLink "java/util/ArrayDeque" (3 : Nat) "java/util/ArrayDeque" "elements" "[Ljava/lang/Object;") ∈ lw_all := lw_g (lw_at lw_m1 168 rfl) rfl
theorem q266 : (Jvm.Cond.fieldLink "java/util/ArrayDeque" (24 : Nat) "java/util/ArrayDeque" "head" "I") ∈ lw_all := lw_g (lw_at lw_m1 169 rfl) rfl
theorem q267 : (Jvm.Cond.fieldLink "java/util/ArrayDeque" (20 : Nat) "java/util/ArrayDeque" "tail" "I") ∈ lw_all := lw_g (lw_at lw_m1 170 rfl) rfl
theorem q268 : (Jvm.Cond.lays "java/util/ArrayDeque" "java/util/ArrayDeque" "elements" "[Ljava/lang/Object;") ∈ lw_all := lw_g (lw_at lw_m1 171 rfl) rfl
theorem q269 : (Jvm.Cond.soleField "java/util/ArrayDeque" "elements") ∈ lw_all := lw_g (lw_at lw_m1 172 rfl) rfl
theorem q270 : (Jvm.Cond.lays "java/util/ArrayDeque" "java/util/ArrayDeque" "head" "I") ∈ lw_all := lw_g (lw_at lw_m1 173 rfl) rfl
theorem q271 : (Jvm.Cond.soleField "java/util/ArrayDeque" "head") ∈ lw_all := lw_g (lw_at lw_m1 174 rfl) rfl
theorem q272 : (Jvm.Cond.lays "java/util/ArrayDeque" "java/util/ArrayDeque" "tail" "I") ∈ lw_all := lw_g (lw_at lw_m1 175 rfl) rfl
theorem q273 : (Jvm.Cond.soleField "java/util/ArrayDeque" "tail") ∈ lw_all := lw_g (lw_at lw_m1 176 rfl) rfl
theorem q274 : (Jvm.Cond.superclass "java/util/ArrayDeque" "java/util/AbstractCollection") ∈ lw_all := lw_g (lw_at lw_m1 177 rfl) rfl
theorem q311 : (Jvm.Cond.instanceMethod ({ cls := "java/util/ArrayDeque", name := "size", desc := "()I" } : Jvm.MethodName)) ∈ lw_all := lw_g (lw_at lw_m1 214 rfl) rfl
theorem q312 : (Jvm.Cond.selects "java/util/ArrayDeque" ({ cls := "java/util/ArrayDeque", name := "size", desc := "()I" } : Jvm.MethodName) ({ cls := "java/util/ArrayDeque", name := "size", desc := "()I" } : Jvm.MethodName)) ∈ lw_all := lw_g (lw_at lw_m1 215 rfl) rfl
theorem q313 : (Jvm.Cond.code ({ cls := "java/util/ArrayDeque", name := "size", desc := "()I" } : Jvm.MethodName) prog_37_method_37_code (1 : Nat) (Option.some Jvm.ClassFile.FieldType.int)) ∈ lw_all := lw_g (lw_at lw_m1 216 rfl) rfl
theorem q314 : (Jvm.Cond.methodLink "java/util/ArrayDeque" (127 : Nat) ({ cls := "java/util/ArrayDeque", name := "sub", desc := "(III)I" } : Jvm.MethodName)) ∈ lw_all := lw_g (lw_at lw_m1 217 rfl) rfl
theorem q315 : (Jvm.Cond.static ({ cls := "java/util/ArrayDeque", name := "sub", desc := "(III)I" } : Jvm.MethodName)) ∈ lw_all := lw_g (lw_at lw_m1 218 rfl) rfl
theorem q316 : (Jvm.Cond.code ({ cls := "java/util/ArrayDeque", name := "sub", desc := "(III)I" } : Jvm.MethodName) prog_37_method_9_code (3 : Nat) (Option.some Jvm.ClassFile.FieldType.int)) ∈ lw_all := lw_g (lw_at lw_m1 219 rfl) rfl
theorem q318 : (Jvm.Cond.instanceMethod ({ cls := "java/util/ArrayDeque", name := "removeFirst", desc := "()Ljava/lang/Object;" } : Jvm.MethodName)) ∈ lw_all := lw_g (lw_at lw_m1 221 rfl) rfl
theorem q319 : (Jvm.Cond.selects "java/util/ArrayDeque" ({ cls := "java/util/ArrayDeque", name := "removeFirst", desc := "()Ljava/lang/Object;" } : Jvm.MethodName) ({ cls := "java/util/ArrayDeque", name := "removeFirst", desc := "()Ljava/lang/Object;" } : Jvm.MethodName)) ∈ lw_all := lw_g (lw_at lw_m1 222 rfl) rfl
theorem q320 : (Jvm.Cond.code ({ cls := "java/util/ArrayDeque", name := "removeFirst", desc := "()Ljava/lang/Object;" } : Jvm.MethodName) prog_37_method_18_code (2 : Nat) (Option.some (Jvm.ClassFile.FieldType.object "java/lang/Object"))) ∈ lw_all := lw_g (lw_at lw_m1 223 rfl) rfl
theorem q321 : (Jvm.Cond.methodLink "java/util/ArrayDeque" (93 : Nat) ({ cls := "java/util/ArrayDeque", name := "pollFirst", desc := "()Ljava/lang/Object;" } : Jvm.MethodName)) ∈ lw_all := lw_g (lw_at lw_m1 224 rfl) rfl
theorem q322 : (Jvm.Cond.instanceMethod ({ cls := "java/util/ArrayDeque", name := "pollFirst", desc := "()Ljava/lang/Object;" } : Jvm.MethodName)) ∈ lw_all := lw_g (lw_at lw_m1 225 rfl) rfl
theorem q323 : (Jvm.Cond.selects "java/util/ArrayDeque" ({ cls := "java/util/ArrayDeque", name := "pollFirst", desc := "()Ljava/lang/Object;" } : Jvm.MethodName) ({ cls := "java/util/ArrayDeque", name := "pollFirst", desc := "()Ljava/lang/Object;" } : Jvm.MethodName)) ∈ lw_all := lw_g (lw_at lw_m1 226 rfl) rfl
theorem q324 : (Jvm.Cond.code ({ cls := "java/util/ArrayDeque", name := "pollFirst", desc := "()Ljava/lang/Object;" } : Jvm.MethodName) prog_37_method_20_code (4 : Nat) (Option.some (Jvm.ClassFile.FieldType.object "java/lang/Object"))) ∈ lw_all := lw_g (lw_at lw_m1 227 rfl) rfl
theorem q325 : (Jvm.Cond.methodLink "java/util/ArrayDeque" (103 : Nat) ({ cls := "java/util/ArrayDeque", name := "elementAt", desc := "([Ljava/lang/Object;I)Ljava/lang/Object;" } : Jvm.MethodName)) ∈ lw_all := lw_g (lw_at lw_m1 228 rfl) rfl
theorem q326 : (Jvm.Cond.static ({ cls := "java/util/ArrayDeque", name := "elementAt", desc := "([Ljava/lang/Object;I)Ljava/lang/Object;" } : Jvm.MethodName)) ∈ lw_all := lw_g (lw_at lw_m1 229 rfl) rfl
theorem q327 : (Jvm.Cond.code ({ cls := "java/util/ArrayDeque", name := "elementAt", desc := "([Ljava/lang/Object;I)Ljava/lang/Object;" } : Jvm.MethodName) prog_37_method_10_code (2 : Nat) (Option.some (Jvm.ClassFile.FieldType.object "java/lang/Object"))) ∈ lw_all := lw_g (lw_at lw_m1 230 rfl) rfl
theorem q328 : (Jvm.Cond.methodLink "java/util/ArrayDeque" (74 : Nat) ({ cls := "java/util/ArrayDeque", name := "inc", desc := "(II)I" } : Jvm.MethodName)) ∈ lw_all := lw_g (lw_at lw_m1 231 rfl) rfl
theorem q329 : (Jvm.Cond.static ({ cls := "java/util/ArrayDeque", name := "inc", desc := "(II)I" } : Jvm.MethodName)) ∈ lw_all := lw_g (lw_at lw_m1 232 rfl) rfl
theorem q330 : (Jvm.Cond.code ({ cls := "java/util/ArrayDeque", name := "inc", desc := "(II)I" } : Jvm.MethodName) prog_37_method_6_code (2 : Nat) (Option.some Jvm.ClassFile.FieldType.int)) ∈ lw_all := lw_g (lw_at lw_m1 233 rfl) rfl
theorem q368 : (Jvm.Cond.instanceMethod ({ cls := "java/util/ArrayDeque", name := "addLast", desc := "(Ljava/lang/Object;)V" } : Jvm.MethodName)) ∈ lw_all := lw_g (lw_at lw_m2 31 rfl) rfl
theorem q369 : (Jvm.Cond.selects "java/util/ArrayDeque" ({ cls := "java/util/ArrayDeque", name := "addLast", desc := "(Ljava/lang/Object;)V" } : Jvm.MethodName) ({ cls := "java/util/ArrayDeque", name := "addLast", desc := "(Ljava/lang/Object;)V" } : Jvm.MethodName)) ∈ lw_all := lw_g (lw_at lw_m2 32 rfl) rfl
theorem q370 : (Jvm.Cond.code ({ cls := "java/util/ArrayDeque", name := "addLast", desc := "(Ljava/lang/Object;)V" } : Jvm.MethodName) prog_37_method_13_code (3 : Nat) (Option.none : Option Jvm.ClassFile.FieldType)) ∈ lw_all := lw_g (lw_at lw_m2 33 rfl) rfl
theorem q371 : (Jvm.Cond.methodLink "java/util/ArrayDeque" (71 : Nat) ({ cls := "java/util/ArrayDeque", name := "grow", desc := "(I)V" } : Jvm.MethodName)) ∈ lw_all := lw_g (lw_at lw_m2 34 rfl) rfl
theorem q372 : (Jvm.Cond.privateMethod ({ cls := "java/util/ArrayDeque", name := "grow", desc := "(I)V" } : Jvm.MethodName)) ∈ lw_tbl := lw_at lw_m2 35 rfl
theorem q373 : (Jvm.Cond.instanceMethod ({ cls := "java/util/ArrayDeque", name := "grow", desc := "(I)V" } : Jvm.MethodName)) ∈ lw_all := lw_g (lw_at lw_m2 36 rfl) rfl
theorem q374 : (Jvm.Cond.code ({ cls := "java/util/ArrayDeque", name := "grow", desc := "(I)V" } : Jvm.MethodName) prog_37_method_1_code (9 : Nat) (Option.none : Option Jvm.ClassFile.FieldType)) ∈ lw_all := lw_g (lw_at lw_m2 37 rfl) rfl
theorem q375 : (Jvm.Cond.constant "java/util/ArrayDeque" (9 : Nat) (2147483639 : Int32)) ∈ lw_all := lw_g (lw_at lw_m2 38 rfl) rfl
theorem q376 : (Jvm.Cond.methodLink "java/util/ArrayDeque" (10 : Nat) ({ cls := "java/util/ArrayDeque", name := "newCapacity", desc := "(II)I" } : Jvm.MethodName)) ∈ lw_all := lw_g (lw_at lw_m2 39 rfl) rfl
theorem q377 : (Jvm.Cond.privateMethod ({ cls := "java/util/ArrayDeque", name := "newCapacity", desc := "(II)I" } : Jvm.MethodName)) ∈ lw_tbl := lw_at lw_m2 40 rfl
theorem q378 : (Jvm.Cond.instanceMethod ({ cls := "java/util/ArrayDeque", name := "newCapacity", desc := "(II)I" } : Jvm.MethodName)) ∈ lw_all := lw_g (lw_at lw_m2 41 rfl) rfl
theorem q379 : (Jvm.Cond.code ({ cls := "java/util/ArrayDeque", name := "newCapacity", desc := "(II)I" } : Jvm.MethodName) prog_37_method_2_code (5 : Nat) (Option.some Jvm.ClassFile.FieldType.int)) ∈ lw_all := lw_g (lw_at lw_m2 42 rfl) rfl
theorem q380 : (Jvm.Cond.constant "java/util/ArrayDeque" (41 : Nat) (2147483647 : Int32)) ∈ lw_all := lw_g (lw_at lw_m2 43 rfl) rfl
theorem q381 : (Jvm.Cond.methodLink "java/util/ArrayDeque" (14 : Nat) ({ cls := "java/util/Arrays", name := "copyOf", desc := "([Ljava/lang/Object;I)[Ljava/lang/Object;" } : Jvm.MethodName)) ∈ lw_all := lw_g (lw_at lw_m2 44 rfl) rfl
theorem q399 : (Jvm.Cond.selects "java/util/ArrayDeque" ({ cls := "java/lang/Object", name := "getClass", desc := "()Ljava/lang/Class;" } : Jvm.MethodName) ({ cls := "java/lang/Object", name := "getClass", desc := "()Ljava/lang/Class;" } : Jvm.MethodName)) ∈ lw_all := lw_g (lw_at lw_m2 62 rfl) rfl
theorem q413 : (Jvm.Cond.methodLink "java/util/ArrayDeque" (27 : Nat) ({ cls := "java/lang/System", name := "arraycopy", desc := "(Ljava/lang/Object;ILjava/lang/Object;II)V" } : Jvm.MethodName)) ∈ lw_all := lw_g (lw_at lw_m2 76 rfl) rfl
theorem q837 : (Jvm.Cond.instanceMethod ({ cls := "java/util/ArrayDeque", name := "isEmpty", desc := "()Z" } : Jvm.MethodName)) ∈ lw_all := lw_g (lw_at lw_m4 20 rfl) rfl
theorem q838 : (Jvm.Cond.selects "java/util/ArrayDeque" ({ cls := "java/util/ArrayDeque", name := "isEmpty", desc := "()Z" } : Jvm.MethodName) ({ cls := "java/util/ArrayDeque", name := "isEmpty", desc := "()Z" } : Jvm.MethodName)) ∈ lw_all := lw_g (lw_at lw_m4 21 rfl) rfl
theorem q839 : (Jvm.Cond.code ({ cls := "java/util/ArrayDeque", name := "isEmpty", desc := "()Z" } : Jvm.MethodName) prog_37_method_38_code (1 : Nat) (Option.some Jvm.ClassFile.FieldType.boolean)) ∈ lw_all := lw_g (lw_at lw_m4 22 rfl) rfl
theorem q841 : (Jvm.Cond.instanceMethod ({ cls := "java/util/ArrayDeque", name := "removeLast", desc := "()Ljava/lang/Object;" } : Jvm.MethodName)) ∈ lw_all := lw_g (lw_at lw_m4 24 rfl) rfl
theorem q842 : (Jvm.Cond.selects "java/util/ArrayDeque" ({ cls := "java/util/ArrayDeque", name := "removeLast", desc := "()Ljava/lang/Object;" } : Jvm.MethodName) ({ cls := "java/util/ArrayDeque", name := "removeLast", desc := "()Ljava/lang/Object;" } : Jvm.MethodName)) ∈ lw_all := lw_g (lw_at lw_m4 25 rfl) rfl
theorem q843 : (Jvm.Cond.code ({ cls := "java/util/ArrayDeque", name := "removeLast", desc := "()Ljava/lang/Object;" } : Jvm.MethodName) prog_37_method_19_code (2 : Nat) (Option.some (Jvm.ClassFile.FieldType.object "java/lang/Object"))) ∈ lw_all := lw_g (lw_at lw_m4 26 rfl) rfl
theorem q844 : (Jvm.Cond.methodLink "java/util/ArrayDeque" (100 : Nat) ({ cls := "java/util/ArrayDeque", name := "pollLast", desc := "()Ljava/lang/Object;" } : Jvm.MethodName)) ∈ lw_all := lw_g (lw_at lw_m4 27 rfl) rfl
theorem q845 : (Jvm.Cond.instanceMethod ({ cls := "java/util/ArrayDeque", name := "pollLast", desc := "()Ljava/lang/Object;" } : Jvm.MethodName)) ∈ lw_all := lw_g (lw_at lw_m4 28 rfl) rfl
theorem q846 : (Jvm.Cond.selects "java/util/ArrayDeque" ({ cls := "java/util/ArrayDeque", name := "pollLast", desc := "()Ljava/lang/Object;" } : Jvm.MethodName) ({ cls := "java/util/ArrayDeque", name := "pollLast", desc := "()Ljava/lang/Object;" } : Jvm.MethodName)) ∈ lw_all := lw_g (lw_at lw_m4 29 rfl) rfl
theorem q847 : (Jvm.Cond.code ({ cls := "java/util/ArrayDeque", name := "pollLast", desc := "()Ljava/lang/Object;" } : Jvm.MethodName) prog_37_method_21_code (4 : Nat) (Option.some (Jvm.ClassFile.FieldType.object "java/lang/Object"))) ∈ lw_all := lw_g (lw_at lw_m4 30 rfl) rfl
theorem q848 : (Jvm.Cond.methodLink "java/util/ArrayDeque" (68 : Nat) ({ cls := "java/util/ArrayDeque", name := "dec", desc := "(II)I" } : Jvm.MethodName)) ∈ lw_all := lw_g (lw_at lw_m4 31 rfl) rfl
theorem q849 : (Jvm.Cond.static ({ cls := "java/util/ArrayDeque", name := "dec", desc := "(II)I" } : Jvm.MethodName)) ∈ lw_all := lw_g (lw_at lw_m4 32 rfl) rfl
theorem q850 : (Jvm.Cond.code ({ cls := "java/util/ArrayDeque", name := "dec", desc := "(II)I" } : Jvm.MethodName) prog_37_method_7_code (2 : Nat) (Option.some Jvm.ClassFile.FieldType.int)) ∈ lw_all := lw_g (lw_at lw_m4 33 rfl) rfl
theorem q1588 : (Jvm.Cond.instanceMethod ({ cls := "java/util/ArrayDeque", name := "clear", desc := "()V" } : Jvm.MethodName)) ∈ lw_all := lw_g (lw_at lw_m7 51 rfl) rfl
theorem q1589 : (Jvm.Cond.selects "java/util/ArrayDeque" ({ cls := "java/util/ArrayDeque", name := "clear", desc := "()V" } : Jvm.MethodName) ({ cls := "java/util/ArrayDeque", name := "clear", desc := "()V" } : Jvm.MethodName)) ∈ lw_all := lw_g (lw_at lw_m7 52 rfl) rfl
theorem q1590 : (Jvm.Cond.code ({ cls := "java/util/ArrayDeque", name := "clear", desc := "()V" } : Jvm.MethodName) prog_37_method_53_code (1 : Nat) (Option.none : Option Jvm.ClassFile.FieldType)) ∈ lw_all := lw_g (lw_at lw_m7 53 rfl) rfl
theorem q1591 : (Jvm.Cond.methodLink "java/util/ArrayDeque" (181 : Nat) ({ cls := "java/util/ArrayDeque", name := "circularClear", desc := "([Ljava/lang/Object;II)V" } : Jvm.MethodName)) ∈ lw_all := lw_g (lw_at lw_m7 54 rfl) rfl
theorem q1592 : (Jvm.Cond.static ({ cls := "java/util/ArrayDeque", name := "circularClear", desc := "([Ljava/lang/Object;II)V" } : Jvm.MethodName)) ∈ lw_all := lw_g (lw_at lw_m7 55 rfl) rfl
theorem q1593 : (Jvm.Cond.code ({ cls := "java/util/ArrayDeque", name := "circularClear", desc := "([Ljava/lang/Object;II)V" } : Jvm.MethodName) prog_37_method_54_code (4 : Nat) (Option.none : Option Jvm.ClassFile.FieldType)) ∈ lw_all := lw_g (lw_at lw_m7 56 rfl) rfl
theorem q2222 : (Jvm.Cond.castable "java/util/ArrayDeque" "java/lang/Object") ∈ lw_tbl := lw_at lw_m9 205 rfl
abbrev cJ10_init : ByteArray := prog_27_method_2_code
def yJ10_init : MethodName := ⟨RJ10, "<init>", "(Ljava/lang/String;)V"⟩
theorem q119 : (Jvm.Cond.initialized "java/lang/RuntimeException") ∈ lw_all := lw_g (lw_at lw_m1 22 rfl) rfl
theorem q499 : (Jvm.Cond.instanceMethod ({ cls := "java/lang/RuntimeException", name := "<init>", desc := "(Ljava/lang/String;)V" } : Jvm.MethodName)) ∈ lw_all := lw_g (lw_at lw_m2 162 rfl) rfl
theorem q500 : (Jvm.Cond.code ({ cls := "java/lang/RuntimeException", name := "<init>", desc := "(Ljava/lang/String;)V" } : Jvm.MethodName) prog_27_method_2_code (2 : Nat) (Option.none : Option Jvm.ClassFile.FieldType)) ∈ lw_all := lw_g (lw_at lw_m2 163 rfl) rfl
theorem q501 : (Jvm.Cond.methodLink "java/lang/RuntimeException" (7 : Nat) ({ cls := "java/lang/Exception", name := "<init>", desc := "(Ljava/lang/String;)V" } : Jvm.MethodName)) ∈ lw_all := lw_g (lw_at lw_m2 164 rfl) rfl
theorem q542 : (Jvm.Cond.declares ({ cls := "java/lang/RuntimeException", name := "<init>", desc := "()V" } : Jvm.MethodName)) ∈ lw_tbl := lw_at lw_m2 205 rfl
theorem q543 : (Jvm.Cond.declares ({ cls := "java/lang/RuntimeException", name := "<init>", desc := "(Ljava/lang/String;)V" } : Jvm.MethodName)) ∈ lw_tbl := lw_at lw_m2 206 rfl
abbrev cJ11_init : ByteArray := prog_15_method_2_code
def yJ11_init : MethodName := ⟨RJ11, "<init>", "(Ljava/lang/String;)V"⟩
theorem q120 : (Jvm.Cond.initialized "java/lang/ArrayStoreException") ∈ lw_all := lw_g (lw_at lw_m1 23 rfl) rfl
theorem q396 : (Jvm.Cond.selects "java/lang/ArrayStoreException" ({ cls := "java/lang/Object", name := "getClass", desc := "()Ljava/lang/Class;" } : Jvm.MethodName) ({ cls := "java/lang/Object", name := "getClass", desc := "()Ljava/lang/Class;" } : Jvm.MethodName)) ∈ lw_all := lw_g (lw_at lw_m2 59 rfl) rfl
theorem q495 : (Jvm.Cond.instantiable "java/lang/ArrayStoreException" (6 : Nat)) ∈ lw_all := lw_g (lw_at lw_m2 158 rfl) rfl
theorem q496 : (Jvm.Cond.instanceMethod ({ cls := "java/lang/ArrayStoreException", name := "<init>", desc := "(Ljava/lang/String;)V" } : Jvm.MethodName)) ∈ lw_all := lw_g (lw_at lw_m2 159 rfl) rfl
theorem q497 : (Jvm.Cond.code ({ cls := "java/lang/ArrayStoreException", name := "<init>", desc := "(Ljava/lang/String;)V" } : Jvm.MethodName) prog_15_method_2_code (2 : Nat) (Option.none : Option Jvm.ClassFile.FieldType)) ∈ lw_all := lw_g (lw_at lw_m2 160 rfl) rfl
theorem q498 : (Jvm.Cond.methodLink "java/lang/ArrayStoreException" (7 : Nat) ({ cls := "java/lang/RuntimeException", name := "<init>", desc := "(Ljava/lang/String;)V" } : Jvm.MethodName)) ∈ lw_all := lw_g (lw_at lw_m2 161 rfl) rfl
theorem q516 : (Jvm.Cond.selects "java/lang/ArrayStoreException" ({ cls := "java/lang/Throwable", name := "fillInStackTrace", desc := "()Ljava/lang/Throwable;" } : Jvm.MethodName) ({ cls := "java/lang/Throwable", name := "fillInStackTrace", desc := "()Ljava/lang/Throwable;" } : Jvm.MethodName)) ∈ lw_all := lw_g (lw_at lw_m2 179 rfl) rfl
theorem q528 : (Jvm.Cond.lays "java/lang/ArrayStoreException" "java/lang/Throwable" "backtrace" "Ljava/lang/Object;") ∈ lw_all := lw_g (lw_at lw_m2 191 rfl) rfl
theorem q530 : (Jvm.Cond.lays "java/lang/ArrayStoreException" "java/lang/Throwable" "detailMessage" "Ljava/lang/String;") ∈ lw_all := lw_g (lw_at lw_m2 193 rfl) rfl
theorem q532 : (Jvm.Cond.lays "java/lang/ArrayStoreException" "java/lang/Throwable" "cause" "Ljava/lang/Throwable;") ∈ lw_all := lw_g (lw_at lw_m2 195 rfl) rfl
theorem q534 : (Jvm.Cond.lays "java/lang/ArrayStoreException" "java/lang/Throwable" "stackTrace" "[Ljava/lang/StackTraceElement;") ∈ lw_all := lw_g (lw_at lw_m2 197 rfl) rfl
theorem q536 : (Jvm.Cond.lays "java/lang/ArrayStoreException" "java/lang/Throwable" "depth" "I") ∈ lw_all := lw_g (lw_at lw_m2 199 rfl) rfl
theorem q538 : (Jvm.Cond.lays "java/lang/ArrayStoreException" "java/lang/Throwable" "suppressedExceptions" "Ljava/util/List;") ∈ lw_all := lw_g (lw_at lw_m2 201 rfl) rfl
theorem q540 : (Jvm.Cond.superclass "java/lang/ArrayStoreException" "java/lang/RuntimeException") ∈ lw_all := lw_g (lw_at lw_m2 203 rfl) rfl
theorem q541 : (Jvm.Cond.castable "java/lang/ArrayStoreException" "java/lang/ArrayStoreException") ∈ lw_tbl := lw_at lw_m2 204 rfl
theorem q548 : (Jvm.Cond.selects "java/lang/ArrayStoreException" ({ cls := "java/lang/Throwable", name := "fillInStackTrace", desc := "(I)Ljava/lang/Throwable;" } : Jvm.MethodName) ({ cls := "java/lang/Throwable", name := "fillInStackTrace", desc := "(I)Ljava/lang/Throwable;" } : Jvm.MethodName)) ∈ lw_all := lw_g (lw_at lw_m2 211 rfl) rfl
theorem q2226 : (Jvm.Cond.castable "java/lang/ArrayStoreException" "java/lang/Object") ∈ lw_tbl := lw_at lw_m9 209 rfl
abbrev cJ12_mismatch : ByteArray := prog_45_method_19_code
def yJ12_mismatch : MethodName := ⟨RJ12, "mismatch", "([I[II)I"⟩
abbrev cJ12_vectorizedMismatch : ByteArray := prog_45_method_3_code
def yJ12_vectorizedMismatch : MethodName := ⟨RJ12, "vectorizedMismatch", "(Ljava/lang/Object;JLjava/lang/Object;JII)I"⟩
abbrev cJ12_newLength : ByteArray := prog_45_method_27_code
def yJ12_newLength : MethodName := ⟨RJ12, "newLength", "(III)I"⟩
abbrev cJ12_hugeLength : ByteArray := prog_45_method_28_code
def yJ12_hugeLength : MethodName := ⟨RJ12, "hugeLength", "(II)I"⟩
theorem q121 : (Jvm.Cond.initialized "jdk/internal/util/ArraysSupport") ∈ lw_all := lw_g (lw_at lw_m1 24 rfl) rfl
theorem q693 : (Jvm.Cond.static ({ cls := "jdk/internal/util/ArraysSupport", name := "mismatch", desc := "([I[II)I" } : Jvm.MethodName)) ∈ lw_all := lw_g (lw_at lw_m3 116 rfl) rfl
theorem q694 : (Jvm.Cond.code ({ cls := "jdk/internal/util/ArraysSupport", name := "mismatch", desc := "([I[II)I" } : Jvm.MethodName) prog_45_method_19_code (4 : Nat) (Option.some Jvm.ClassFile.FieldType.int)) ∈ lw_all := lw_g (lw_at lw_m3 117 rfl) rfl
theorem q695 : (Jvm.Cond.fieldLink "jdk/internal/util/ArraysSupport" (144 : Nat) "jdk/internal/misc/Unsafe" "ARRAY_INT_BASE_OFFSET" "I") ∈ lw_all := lw_g (lw_at lw_m3 118 rfl) rfl
theorem q697 : (Jvm.Cond.fieldLink "jdk/internal/util/ArraysSupport" (51 : Nat) "jdk/internal/util/ArraysSupport" "LOG2_ARRAY_INT_INDEX_SCALE" "I") ∈ lw_all := lw_g (lw_at lw_m3 120 rfl) rfl
theorem q698 : (Jvm.Cond.laysStatic "jdk/internal/util/ArraysSupport" "LOG2_ARRAY_INT_INDEX_SCALE" "I") ∈ lw_tbl := lw_at lw_m3 121 rfl
theorem q699 : (Jvm.Cond.methodLink "jdk/internal/util/ArraysSupport" (122 : Nat) ({ cls := "jdk/internal/util/ArraysSupport", name := "vectorizedMismatch", desc := "(Ljava/lang/Object;JLjava/lang/Object;JII)I" } : Jvm.MethodName)) ∈ lw_all := lw_g (lw_at lw_m3 122 rfl) rfl
theorem q700 : (Jvm.Cond.static ({ cls := "jdk/internal/util/ArraysSupport", name := "vectorizedMismatch", desc := "(Ljava/lang/Object;JLjava/lang/Object;JII)I" } : Jvm.MethodName)) ∈ lw_all := lw_g (lw_at lw_m3 123 rfl) rfl
theorem q701 : (Jvm.Cond.code ({ cls := "jdk/internal/util/ArraysSupport", name := "vectorizedMismatch", desc := "(Ljava/lang/Object;JLjava/lang/Object;JII)I" } : Jvm.MethodName) prog_45_method_3_code (19 : Nat) (Option.some Jvm.ClassFile.FieldType.int)) ∈ lw_all := lw_g (lw_at lw_m3 124 rfl) rfl
theorem q702 : (Jvm.Cond.fieldLink "jdk/internal/util/ArraysSupport" (20 : Nat) "jdk/internal/util/ArraysSupport" "LOG2_ARRAY_LONG_INDEX_SCALE" "I") ∈ lw_all := lw_g (lw_at lw_m3 125 rfl) rfl
theorem q703 : (Jvm.Cond.laysStatic "jdk/internal/util/ArraysSupport" "LOG2_ARRAY_LONG_INDEX_SCALE" "I") ∈ lw_tbl := lw_at lw_m3 126 rfl
theorem q704 : (Jvm.Cond.fieldLink "jdk/internal/util/ArraysSupport" (26 : Nat) "jdk/internal/util/ArraysSupport" "U" "Ljdk/internal/misc/Unsafe;") ∈ lw_all := lw_g (lw_at lw_m3 127 rfl) rfl
theorem q705 : (Jvm.Cond.laysStatic "jdk/internal/util/ArraysSupport" "U" "Ljdk/internal/misc/Unsafe;") ∈ lw_tbl := lw_at lw_m3 128 rfl
theorem q706 : (Jvm.Cond.methodLink "jdk/internal/util/ArraysSupport" (30 : Nat) ({ cls := "jdk/internal/misc/Unsafe", name := "getLongUnaligned", desc := "(Ljava/lang/Object;J)J" } : Jvm.MethodName)) ∈ lw_all := lw_g (lw_at lw_m3 129 rfl) rfl
theorem q758 : (Jvm.Cond.fieldLink "jdk/internal/util/ArraysSupport" (36 : Nat) "jdk/internal/util/ArraysSupport" "BIG_ENDIAN" "Z") ∈ lw_all := lw_g (lw_at lw_m3 181 rfl) rfl
theorem q759 : (Jvm.Cond.laysStatic "jdk/internal/util/ArraysSupport" "BIG_ENDIAN" "Z") ∈ lw_tbl := lw_at lw_m3 182 rfl
theorem q760 : (Jvm.Cond.methodLink "jdk/internal/util/ArraysSupport" (40 : Nat) ({ cls := "java/lang/Long", name := "numberOfLeadingZeros", desc := "(J)I" } : Jvm.MethodName)) ∈ lw_all := lw_g (lw_at lw_m3 183 rfl) rfl
theorem q767 : (Jvm.Cond.fieldLink "jdk/internal/util/ArraysSupport" (46 : Nat) "jdk/internal/util/ArraysSupport" "LOG2_BYTE_BIT_SIZE" "I") ∈ lw_all := lw_g (lw_at lw_m3 190 rfl) rfl
theorem q768 : (Jvm.Cond.laysStatic "jdk/internal/util/ArraysSupport" "LOG2_BYTE_BIT_SIZE" "I") ∈ lw_tbl := lw_at lw_m3 191 rfl
theorem q769 : (Jvm.Cond.methodLink "jdk/internal/util/ArraysSupport" (49 : Nat) ({ cls := "java/lang/Long", name := "numberOfTrailingZeros", desc := "(J)I" } : Jvm.MethodName)) ∈ lw_all := lw_g (lw_at lw_m3 192 rfl) rfl
theorem q775 : (Jvm.Cond.methodLink "jdk/internal/util/ArraysSupport" (54 : Nat) ({ cls := "jdk/internal/misc/Unsafe", name := "getIntUnaligned", desc := "(Ljava/lang/Object;J)I" } : Jvm.MethodName)) ∈ lw_all := lw_g (lw_at lw_m3 198 rfl) rfl
theorem q792 : (Jvm.Cond.methodLink "jdk/internal/util/ArraysSupport" (58 : Nat) ({ cls := "java/lang/Integer", name := "numberOfLeadingZeros", desc := "(I)I" } : Jvm.MethodName)) ∈ lw_all := lw_g (lw_at lw_m3 215 rfl) rfl
theorem q793 : (Jvm.Cond.methodLink "jdk/internal/util/ArraysSupport" (11 : Nat) ({ cls := "java/lang/Integer", name := "numberOfTrailingZeros", desc := "(I)I" } : Jvm.MethodName)) ∈ lw_all := lw_g (lw_at lw_m3 216 rfl) rfl
theorem q1225 : (Jvm.Cond.static ({ cls := "jdk/internal/util/ArraysSupport", name := "newLength", desc := "(III)I" } : Jvm.MethodName)) ∈ lw_all := lw_g (lw_at lw_m5 168 rfl) rfl
theorem q1226 : (Jvm.Cond.code ({ cls := "jdk/internal/util/ArraysSupport", name := "newLength", desc := "(III)I" } : Jvm.MethodName) prog_45_method_27_code (4 : Nat) (Option.some Jvm.ClassFile.FieldType.int)) ∈ lw_all := lw_g (lw_at lw_m5 169 rfl) rfl
theorem q1227 : (Jvm.Cond.methodLink "jdk/internal/util/ArraysSupport" (194 : Nat) ({ cls := "java/lang/Math", name := "max", desc := "(II)I" } : Jvm.MethodName)) ∈ lw_all := lw_g (lw_at lw_m5 170 rfl) rfl
theorem q1228 : (Jvm.Cond.constant "jdk/internal/util/ArraysSupport" (200 : Nat) (2147483639 : Int32)) ∈ lw_all := lw_g (lw_at lw_m5 171 rfl) rfl
theorem q1229 : (Jvm.Cond.methodLink "jdk/internal/util/ArraysSupport" (201 : Nat) ({ cls := "jdk/internal/util/ArraysSupport", name := "hugeLength", desc := "(II)I" } : Jvm.MethodName)) ∈ lw_all := lw_g (lw_at lw_m5 172 rfl) rfl
theorem q1230 : (Jvm.Cond.static ({ cls := "jdk/internal/util/ArraysSupport", name := "hugeLength", desc := "(II)I" } : Jvm.MethodName)) ∈ lw_all := lw_g (lw_at lw_m5 173 rfl) rfl
theorem q1231 : (Jvm.Cond.code ({ cls := "jdk/internal/util/ArraysSupport", name := "hugeLength", desc := "(II)I" } : Jvm.MethodName) prog_45_method_28_code (3 : Nat) (Option.some Jvm.ClassFile.FieldType.int)) ∈ lw_all := lw_g (lw_at lw_m5 174 rfl) rfl
abbrev cJ13_getLongUnaligned : ByteArray := prog_43_method_334_code
def yJ13_getLongUnaligned : MethodName := ⟨RJ13, "getLongUnaligned", "(Ljava/lang/Object;J)J"⟩
abbrev cJ13_makeLong : ByteArray := prog_43_method_353_code
def yJ13_makeLong : MethodName := ⟨RJ13, "makeLong", "(II)J"⟩
abbrev cJ13_toUnsignedLong : ByteArray := prog_43_method_370_code
def yJ13_toUnsignedLong : MethodName := ⟨RJ13, "toUnsignedLong", "(I)J"⟩
abbrev cJ13_pickPos : ByteArray := prog_43_method_350_code
def yJ13_pickPos : MethodName := ⟨RJ13, "pickPos", "(II)I"⟩
abbrev cJ13_makeLong_2 : ByteArray := prog_43_method_352_code
def yJ13_makeLong_2 : MethodName := ⟨RJ13, "makeLong", "(SSSS)J"⟩
abbrev cJ13_toUnsignedLong_2 : ByteArray := prog_43_method_369_code
def yJ13_toUnsignedLong_2 : MethodName := ⟨RJ13, "toUnsignedLong", "(S)J"⟩
abbrev cJ13_makeLong_3 : ByteArray := prog_43_method_351_code
def yJ13_makeLong_3 : MethodName := ⟨RJ13, "makeLong", "(BBBBBBBB)J"⟩
abbrev cJ13_toUnsignedLong_3 : ByteArray := prog_43_method_368_code
def yJ13_toUnsignedLong_3 : MethodName := ⟨RJ13, "toUnsignedLong", "(B)J"⟩
abbrev cJ13_getIntUnaligned : ByteArray := prog_43_method_336_code
def yJ13_getIntUnaligned : MethodName := ⟨RJ13, "getIntUnaligned", "(Ljava/lang/Object;J)I"⟩
abbrev cJ13_makeInt : ByteArray := prog_43_method_354_code
def yJ13_makeInt : MethodName := ⟨RJ13, "makeInt", "(SS)I"⟩
abbrev cJ13_toUnsignedInt : ByteArray := prog_43_method_367_code
def yJ13_toUnsignedInt : MethodName := ⟨RJ13, "toUnsignedInt", "(S)I"⟩
abbrev cJ13_makeInt_2 : ByteArray := prog_43_method_355_code
def yJ13_makeInt_2 : MethodName := ⟨RJ13, "makeInt", "(BBBB)I"⟩
abbrev cJ13_toUnsignedInt_2 : ByteArray := prog_43_method_366_code
def yJ13_toUnsignedInt_2 : MethodName := ⟨RJ13, "toUnsignedInt", "(B)I"⟩
theorem q122 : (Jvm.Cond.initialized "jdk/internal/misc/Unsafe") ∈ lw_all := lw_g (lw_at lw_m1 25 rfl) rfl
theorem q400 : (Jvm.Cond.selects "jdk/internal/misc/Unsafe" ({ cls := "java/lang/Object", name := "getClass", desc := "()Ljava/lang/Class;" } : Jvm.MethodName) ({ cls := "java/lang/Object", name := "getClass", desc := "()Ljava/lang/Class;" } : Jvm.MethodName)) ∈ lw_all := lw_g (lw_at lw_m2 63 rfl) rfl
theorem q696 : (Jvm.Cond.laysStatic "jdk/internal/misc/Unsafe" "ARRAY_INT_BASE_OFFSET" "I") ∈ lw_tbl := lw_at lw_m3 119 rfl
theorem q707 : (Jvm.Cond.instanceMethod ({ cls := "jdk/internal/misc/Unsafe", name := "getLongUnaligned", desc := "(Ljava/lang/Object;J)J" } : Jvm.MethodName)) ∈ lw_all := lw_g (lw_at lw_m3 130 rfl) rfl
theorem q708 : (Jvm.Cond.selects "jdk/internal/misc/Unsafe" ({ cls := "jdk/internal/misc/Unsafe", name := "getLongUnaligned", desc := "(Ljava/lang/Object;J)J" } : Jvm.MethodName) ({ cls := "jdk/internal/misc/Unsafe", name := "getLongUnaligned", desc := "(Ljava/lang/Object;J)J" } : Jvm.MethodName)) ∈ lw_all := lw_g (lw_at lw_m3 131 rfl) rfl
theorem q709 : (Jvm.Cond.code ({ cls := "jdk/internal/misc/Unsafe", name := "getLongUnaligned", desc := "(Ljava/lang/Object;J)J" } : Jvm.MethodName) prog_43_method_334_code (4 : Nat) (Option.some Jvm.ClassFile.FieldType.long)) ∈ lw_all := lw_g (lw_at lw_m3 132 rfl) rfl
theorem q710 : (Jvm.Cond.constantLong "jdk/internal/misc/Unsafe" (696 : Nat) (7 : Int64)) ∈ lw_all := lw_g (lw_at lw_m3 133 rfl) rfl
theorem q711 : (Jvm.Cond.methodLink "jdk/internal/misc/Unsafe" (27 : Nat) ({ cls := "jdk/internal/misc/Unsafe", name := "getLong", desc := "(Ljava/lang/Object;J)J" } : Jvm.MethodName)) ∈ lw_all := lw_g (lw_at lw_m3 134 rfl) rfl
theorem q712 : (Jvm.Cond.instanceMethod ({ cls := "jdk/internal/misc/Unsafe", name := "getLong", desc := "(Ljava/lang/Object;J)J" } : Jvm.MethodName)) ∈ lw_all := lw_g (lw_at lw_m3 135 rfl) rfl
theorem q713 : (Jvm.Cond.selects "jdk/internal/misc/Unsafe" ({ cls := "jdk/internal/misc/Unsafe", name := "getLong", desc := "(Ljava/lang/Object;J)J" } : Jvm.MethodName) ({ cls := "jdk/internal/misc/Unsafe", name := "getLong", desc := "(Ljava/lang/Object;J)J" } : Jvm.MethodName)) ∈ lw_all := lw_g (lw_at lw_m3 136 rfl) rfl
theorem q714 : (Jvm.Cond.native ({ cls := "jdk/internal/misc/Unsafe", name := "getLong", desc := "(Ljava/lang/Object;J)J" } : Jvm.MethodName)) ∈ lw_all := lw_g (lw_at lw_m3 137 rfl) rfl
theorem q715 : (Jvm.Cond.constantLong "jdk/internal/misc/Unsafe" (349 : Nat) (3 : Int64)) ∈ lw_all := lw_g (lw_at lw_m3 138 rfl) rfl
theorem q716 : (Jvm.Cond.methodLink "jdk/internal/misc/Unsafe" (17 : Nat) ({ cls := "jdk/internal/misc/Unsafe", name := "getInt", desc := "(Ljava/lang/Object;J)I" } : Jvm.MethodName)) ∈ lw_all := lw_g (lw_at lw_m3 139 rfl) rfl
theorem q717 : (Jvm.Cond.instanceMethod ({ cls := "jdk/internal/misc/Unsafe", name := "getInt", desc := "(Ljava/lang/Object;J)I" } : Jvm.MethodName)) ∈ lw_all := lw_g (lw_at lw_m3 140 rfl) rfl
theorem q718 : (Jvm.Cond.selects "jdk/internal/misc/Unsafe" ({ cls := "jdk/internal/misc/Unsafe", name := "getInt", desc := "(Ljava/lang/Object;J)I" } : Jvm.MethodName) ({ cls := "jdk/internal/misc/Unsafe", name := "getInt", desc := "(Ljava/lang/Object;J)I" } : Jvm.MethodName)) ∈ lw_all := lw_g (lw_at lw_m3 141 rfl) rfl
theorem q719 : (Jvm.Cond.native ({ cls := "jdk/internal/misc/Unsafe", name := "getInt", desc := "(Ljava/lang/Object;J)I" } : Jvm.MethodName)) ∈ lw_all := lw_g (lw_at lw_m3 142 rfl) rfl
theorem q720 : (Jvm.Cond.constantLong "jdk/internal/misc/Unsafe" (205 : Nat) (4 : Int64)) ∈ lw_all := lw_g (lw_at lw_m3 143 rfl) rfl
theorem q721 : (Jvm.Cond.methodLink "jdk/internal/misc/Unsafe" (698 : Nat) ({ cls := "jdk/internal/misc/Unsafe", name := "makeLong", desc := "(II)J" } : Jvm.MethodName)) ∈ lw_all := lw_g (lw_at lw_m3 144 rfl) rfl
theorem q722 : (Jvm.Cond.static ({ cls := "jdk/internal/misc/Unsafe", name := "makeLong", desc := "(II)J" } : Jvm.MethodName)) ∈ lw_all := lw_g (lw_at lw_m3 145 rfl) rfl
theorem q723 : (Jvm.Cond.code ({ cls := "jdk/internal/misc/Unsafe", name := "makeLong", desc := "(II)J" } : Jvm.MethodName) prog_43_method_353_code (2 : Nat) (Option.some Jvm.ClassFile.FieldType.long)) ∈ lw_all := lw_g (lw_at lw_m3 146 rfl) rfl
theorem q724 : (Jvm.Cond.methodLink "jdk/internal/misc/Unsafe" (791 : Nat) ({ cls := "jdk/internal/misc/Unsafe", name := "toUnsignedLong", desc := "(I)J" } : Jvm.MethodName)) ∈ lw_all := lw_g (lw_at lw_m3 147 rfl) rfl
theorem q725 : (Jvm.Cond.static ({ cls := "jdk/internal/misc/Unsafe", name := "toUnsignedLong", desc := "(I)J" } : Jvm.MethodName)) ∈ lw_all := lw_g (lw_at lw_m3 148 rfl) rfl
theorem q726 : (Jvm.Cond.code ({ cls := "jdk/internal/misc/Unsafe", name := "toUnsignedLong", desc := "(I)J" } : Jvm.MethodName) prog_43_method_370_code (1 : Nat) (Option.some Jvm.ClassFile.FieldType.long)) ∈ lw_all := lw_g (lw_at lw_m3 149 rfl) rfl
theorem q727 : (Jvm.Cond.constantLong "jdk/internal/misc/Unsafe" (812 : Nat) (4294967295 : Int64)) ∈ lw_all := lw_g (lw_at lw_m3 150 rfl) rfl
theorem q728 : (Jvm.Cond.methodLink "jdk/internal/misc/Unsafe" (784 : Nat) ({ cls := "jdk/internal/misc/Unsafe", name := "pickPos", desc := "(II)I" } : Jvm.MethodName)) ∈ lw_all := lw_g (lw_at lw_m3 151 rfl) rfl
theorem q729 : (Jvm.Cond.static ({ cls := "jdk/internal/misc/Unsafe", name := "pickPos", desc := "(II)I" } : Jvm.MethodName)) ∈ lw_all := lw_g (lw_at lw_m3 152 rfl) rfl
theorem q730 : (Jvm.Cond.code ({ cls := "jdk/internal/misc/Unsafe", name := "pickPos", desc := "(II)I" } : Jvm.MethodName) prog_43_method_350_code (2 : Nat) (Option.some Jvm.ClassFile.FieldType.int)) ∈ lw_all := lw_g (lw_at lw_m3 153 rfl) rfl
theorem q731 : (Jvm.Cond.fieldLink "jdk/internal/misc/Unsafe" (351 : Nat) "jdk/internal/misc/UnsafeConstants" "BIG_ENDIAN" "Z") ∈ lw_all := lw_g (lw_at lw_m3 154 rfl) rfl
theorem q733 : (Jvm.Cond.methodLink "jdk/internal/misc/Unsafe" (47 : Nat) ({ cls := "jdk/internal/misc/Unsafe", name := "getShort", desc := "(Ljava/lang/Object;J)S" } : Jvm.MethodName)) ∈ lw_all := lw_g (lw_at lw_m3 156 rfl) rfl
theorem q734 : (Jvm.Cond.instanceMethod ({ cls := "jdk/internal/misc/Unsafe", name := "getShort", desc := "(Ljava/lang/Object;J)S" } : Jvm.MethodName)) ∈ lw_all := lw_g (lw_at lw_m3 157 rfl) rfl
theorem q735 : (Jvm.Cond.selects "jdk/internal/misc/Unsafe" ({ cls := "jdk/internal/misc/Unsafe", name := "getShort", desc := "(Ljava/lang/Object;J)S" } : Jvm.MethodName) ({ cls := "jdk/internal/misc/Unsafe", name := "getShort", desc := "(Ljava/lang/Object;J)S" } : Jvm.MethodName)) ∈ lw_all := lw_g (lw_at lw_m3 158 rfl) rfl
theorem q736 : (Jvm.Cond.native ({ cls := "jdk/internal/misc/Unsafe", name := "getShort", desc := "(Ljava/lang/Object;J)S" } : Jvm.MethodName)) ∈ lw_all := lw_g (lw_at lw_m3 159 rfl) rfl
theorem q737 : (Jvm.Cond.constantLong "jdk/internal/misc/Unsafe" (203 : Nat) (2 : Int64)) ∈ lw_all := lw_g (lw_at lw_m3 160 rfl) rfl
theorem q738 : (Jvm.Cond.constantLong "jdk/internal/misc/Unsafe" (702 : Nat) (6 : Int64)) ∈ lw_all := lw_g (lw_at lw_m3 161 rfl) rfl
theorem q739 : (Jvm.Cond.methodLink "jdk/internal/misc/Unsafe" (704 : Nat) ({ cls := "jdk/internal/misc/Unsafe", name := "makeLong", desc := "(SSSS)J" } : Jvm.MethodName)) ∈ lw_all := lw_g (lw_at lw_m3 162 rfl) rfl
theorem q740 : (Jvm.Cond.static ({ cls := "jdk/internal/misc/Unsafe", name := "makeLong", desc := "(SSSS)J" } : Jvm.MethodName)) ∈ lw_all := lw_g (lw_at lw_m3 163 rfl) rfl
theorem q741 : (Jvm.Cond.code ({ cls := "jdk/internal/misc/Unsafe", name := "makeLong", desc := "(SSSS)J" } : Jvm.MethodName) prog_43_method_352_code (4 : Nat) (Option.some Jvm.ClassFile.FieldType.long)) ∈ lw_all := lw_g (lw_at lw_m3 164 rfl) rfl
theorem q742 : (Jvm.Cond.methodLink "jdk/internal/misc/Unsafe" (788 : Nat) ({ cls := "jdk/internal/misc/Unsafe", name := "toUnsignedLong", desc := "(S)J" } : Jvm.MethodName)) ∈ lw_all := lw_g (lw_at lw_m3 165 rfl) rfl
theorem q743 : (Jvm.Cond.static ({ cls := "jdk/internal/misc/Unsafe", name := "toUnsignedLong", desc := "(S)J" } : Jvm.MethodName)) ∈ lw_all := lw_g (lw_at lw_m3 166 rfl) rfl
theorem q744 : (Jvm.Cond.code ({ cls := "jdk/internal/misc/Unsafe", name := "toUnsignedLong", desc := "(S)J" } : Jvm.MethodName) prog_43_method_369_code (1 : Nat) (Option.some Jvm.ClassFile.FieldType.long)) ∈ lw_all := lw_g (lw_at lw_m3 167 rfl) rfl
theorem q745 : (Jvm.Cond.constantLong "jdk/internal/misc/Unsafe" (810 : Nat) (65535 : Int64)) ∈ lw_all := lw_g (lw_at lw_m3 168 rfl) rfl
theorem q746 : (Jvm.Cond.methodLink "jdk/internal/misc/Unsafe" (39 : Nat) ({ cls := "jdk/internal/misc/Unsafe", name := "getByte", desc := "(Ljava/lang/Object;J)B" } : Jvm.MethodName)) ∈ lw_all := lw_g (lw_at lw_m3 169 rfl) rfl
theorem q747 : (Jvm.Cond.instanceMethod ({ cls := "jdk/internal/misc/Unsafe", name := "getByte", desc := "(Ljava/lang/Object;J)B" } : Jvm.MethodName)) ∈ lw_all := lw_g (lw_at lw_m3 170 rfl) rfl
theorem q748 : (Jvm.Cond.selects "jdk/internal/misc/Unsafe" ({ cls := "jdk/internal/misc/Unsafe", name := "getByte", desc := "(Ljava/lang/Object;J)B" } : Jvm.MethodName) ({ cls := "jdk/internal/misc/Unsafe", name := "getByte", desc := "(Ljava/lang/Object;J)B" } : Jvm.MethodName)) ∈ lw_all := lw_g (lw_at lw_m3 171 rfl) rfl
theorem q749 : (Jvm.Cond.native ({ cls := "jdk/internal/misc/Unsafe", name := "getByte", desc := "(Ljava/lang/Object;J)B" } : Jvm.MethodName)) ∈ lw_all := lw_g (lw_at lw_m3 172 rfl) rfl
theorem q750 : (Jvm.Cond.constantLong "jdk/internal/misc/Unsafe" (707 : Nat) (5 : Int64)) ∈ lw_all := lw_g (lw_at lw_m3 173 rfl) rfl
theorem q751 : (Jvm.Cond.methodLink "jdk/internal/misc/Unsafe" (709 : Nat) ({ cls := "jdk/internal/misc/Unsafe", name := "makeLong", desc := "(BBBBBBBB)J" } : Jvm.MethodName)) ∈ lw_all := lw_g (lw_at lw_m3 174 rfl) rfl
theorem q752 : (Jvm.Cond.static ({ cls := "jdk/internal/misc/Unsafe", name := "makeLong", desc := "(BBBBBBBB)J" } : Jvm.MethodName)) ∈ lw_all := lw_g (lw_at lw_m3 175 rfl) rfl
theorem q753 : (Jvm.Cond.code ({ cls := "jdk/internal/misc/Unsafe", name := "makeLong", desc := "(BBBBBBBB)J" } : Jvm.MethodName) prog_43_method_351_code (8 : Nat) (Option.some Jvm.ClassFile.FieldType.long)) ∈ lw_all := lw_g (lw_at lw_m3 176 rfl) rfl
theorem q754 : (Jvm.Cond.methodLink "jdk/internal/misc/Unsafe" (781 : Nat) ({ cls := "jdk/internal/misc/Unsafe", name := "toUnsignedLong", desc := "(B)J" } : Jvm.MethodName)) ∈ lw_all := lw_g (lw_at lw_m3 177 rfl) rfl
theorem q755 : (Jvm.Cond.static ({ cls := "jdk/internal/misc/Unsafe", name := "toUnsignedLong", desc := "(B)J" } : Jvm.MethodName)) ∈ lw_all := lw_g (lw_at lw_m3 178 rfl) rfl
theorem q756 : (Jvm.Cond.code ({ cls := "jdk/internal/misc/Unsafe", name := "toUnsignedLong", desc := "(B)J" } : Jvm.MethodName) prog_43_method_368_code (1 : Nat) (Option.some Jvm.ClassFile.FieldType.long)) ∈ lw_all := lw_g (lw_at lw_m3 179 rfl) rfl
theorem q757 : (Jvm.Cond.constantLong "jdk/internal/misc/Unsafe" (808 : Nat) (255 : Int64)) ∈ lw_all := lw_g (lw_at lw_m3 180 rfl) rfl
theorem q776 : (Jvm.Cond.instanceMethod ({ cls := "jdk/internal/misc/Unsafe", name := "getIntUnaligned", desc := "(Ljava/lang/Object;J)I" } : Jvm.MethodName)) ∈ lw_all := lw_g (lw_at lw_m3 199 rfl) rfl
theorem q777 : (Jvm.Cond.selects "jdk/internal/misc/Unsafe" ({ cls := "jdk/internal/misc/Unsafe", name := "getIntUnaligned", desc := "(Ljava/lang/Object;J)I" } : Jvm.MethodName) ({ cls := "jdk/internal/misc/Unsafe", name := "getIntUnaligned", desc := "(Ljava/lang/Object;J)I" } : Jvm.MethodName)) ∈ lw_all := lw_g (lw_at lw_m3 200 rfl) rfl
theorem q778 : (Jvm.Cond.code ({ cls := "jdk/internal/misc/Unsafe", name := "getIntUnaligned", desc := "(Ljava/lang/Object;J)I" } : Jvm.MethodName) prog_43_method_336_code (4 : Nat) (Option.some Jvm.ClassFile.FieldType.int)) ∈ lw_all := lw_g (lw_at lw_m3 201 rfl) rfl
theorem q779 : (Jvm.Cond.methodLink "jdk/internal/misc/Unsafe" (719 : Nat) ({ cls := "jdk/internal/misc/Unsafe", name := "makeInt", desc := "(SS)I" } : Jvm.MethodName)) ∈ lw_all := lw_g (lw_at lw_m3 202 rfl) rfl
theorem q780 : (Jvm.Cond.static ({ cls := "jdk/internal/misc/Unsafe", name := "makeInt", desc := "(SS)I" } : Jvm.MethodName)) ∈ lw_all := lw_g (lw_at lw_m3 203 rfl) rfl
theorem q781 : (Jvm.Cond.code ({ cls := "jdk/internal/misc/Unsafe", name := "makeInt", desc := "(SS)I" } : Jvm.MethodName) prog_43_method_354_code (2 : Nat) (Option.some Jvm.ClassFile.FieldType.int)) ∈ lw_all := lw_g (lw_at lw_m3 204 rfl) rfl
theorem q782 : (Jvm.Cond.methodLink "jdk/internal/misc/Unsafe" (792 : Nat) ({ cls := "jdk/internal/misc/Unsafe", name := "toUnsignedInt", desc := "(S)I" } : Jvm.MethodName)) ∈ lw_all := lw_g (lw_at lw_m3 205 rfl) rfl
theorem q783 : (Jvm.Cond.static ({ cls := "jdk/internal/misc/Unsafe", name := "toUnsignedInt", desc := "(S)I" } : Jvm.MethodName)) ∈ lw_all := lw_g (lw_at lw_m3 206 rfl) rfl
theorem q784 : (Jvm.Cond.code ({ cls := "jdk/internal/misc/Unsafe", name := "toUnsignedInt", desc := "(S)I" } : Jvm.MethodName) prog_43_method_367_code (1 : Nat) (Option.some Jvm.ClassFile.FieldType.int)) ∈ lw_all := lw_g (lw_at lw_m3 207 rfl) rfl
theorem q785 : (Jvm.Cond.constant "jdk/internal/misc/Unsafe" (374 : Nat) (65535 : Int32)) ∈ lw_all := lw_g (lw_at lw_m3 208 rfl) rfl
theorem q786 : (Jvm.Cond.methodLink "jdk/internal/misc/Unsafe" (723 : Nat) ({ cls := "jdk/internal/misc/Unsafe", name := "makeInt", desc := "(BBBB)I" } : Jvm.MethodName)) ∈ lw_all := lw_g (lw_at lw_m3 209 rfl) rfl
theorem q787 : (Jvm.Cond.static ({ cls := "jdk/internal/misc/Unsafe", name := "makeInt", desc := "(BBBB)I" } : Jvm.MethodName)) ∈ lw_all := lw_g (lw_at lw_m3 210 rfl) rfl
theorem q788 : (Jvm.Cond.code ({ cls := "jdk/internal/misc/Unsafe", name := "makeInt", desc := "(BBBB)I" } : Jvm.MethodName) prog_43_method_355_code (4 : Nat) (Option.some Jvm.ClassFile.FieldType.int)) ∈ lw_all := lw_g (lw_at lw_m3 211 rfl) rfl
theorem q789 : (Jvm.Cond.methodLink "jdk/internal/misc/Unsafe" (796 : Nat) ({ cls := "jdk/internal/misc/Unsafe", name := "toUnsignedInt", desc := "(B)I" } : Jvm.MethodName)) ∈ lw_all := lw_g (lw_at lw_m3 212 rfl) rfl
theorem q790 : (Jvm.Cond.static ({ cls := "jdk/internal/misc/Unsafe", name := "toUnsignedInt", desc := "(B)I" } : Jvm.MethodName)) ∈ lw_all := lw_g (lw_at lw_m3 213 rfl) rfl
theorem q791 : (Jvm.Cond.code ({ cls := "jdk/internal/misc/Unsafe", name := "toUnsignedInt", desc := "(B)I" } : Jvm.MethodName) prog_43_method_366_code (1 : Nat) (Option.some Jvm.ClassFile.FieldType.int)) ∈ lw_all := lw_g (lw_at lw_m3 214 rfl) rfl
theorem q2227 : (Jvm.Cond.castable "jdk/internal/misc/Unsafe" "java/lang/Object") ∈ lw_tbl := lw_at lw_m9 210 rfl
abbrev cJ14_numberOfLeadingZeros : ByteArray := prog_24_method_48_code
def yJ14_numberOfLeadingZeros : MethodName := ⟨RJ14, "numberOfLeadingZeros", "(J)I"⟩
abbrev cJ14_numberOfTrailingZeros : ByteArray := prog_24_method_49_code
def yJ14_numberOfTrailingZeros : MethodName := ⟨RJ14, "numberOfTrailingZeros", "(J)I"⟩
theorem q125 : (Jvm.Cond.initialized "java/lang/Long") ∈ lw_all := lw_g (lw_at lw_m1 28 rfl) rfl
theorem q761 : (Jvm.Cond.static ({ cls := "java/lang/Long", name := "numberOfLeadingZeros", desc := "(J)I" } : Jvm.MethodName)) ∈ lw_all := lw_g (lw_at lw_m3 184 rfl) rfl
theorem q762 : (Jvm.Cond.code ({ cls := "java/lang/Long", name := "numberOfLeadingZeros", desc := "(J)I" } : Jvm.MethodName) prog_24_method_48_code (3 : Nat) (Option.some Jvm.ClassFile.FieldType.int)) ∈ lw_all := lw_g (lw_at lw_m3 185 rfl) rfl
theorem q763 : (Jvm.Cond.methodLink "java/lang/Long" (308 : Nat) ({ cls := "java/lang/Integer", name := "numberOfLeadingZeros", desc := "(I)I" } : Jvm.MethodName)) ∈ lw_all := lw_g (lw_at lw_m3 186 rfl) rfl
theorem q770 : (Jvm.Cond.static ({ cls := "java/lang/Long", name := "numberOfTrailingZeros", desc := "(J)I" } : Jvm.MethodName)) ∈ lw_all := lw_g (lw_at lw_m3 193 rfl) rfl
theorem q771 : (Jvm.Cond.code ({ cls := "java/lang/Long", name := "numberOfTrailingZeros", desc := "(J)I" } : Jvm.MethodName) prog_24_method_49_code (3 : Nat) (Option.some Jvm.ClassFile.FieldType.int)) ∈ lw_all := lw_g (lw_at lw_m3 194 rfl) rfl
theorem q772 : (Jvm.Cond.methodLink "java/lang/Long" (311 : Nat) ({ cls := "java/lang/Integer", name := "numberOfTrailingZeros", desc := "(I)I" } : Jvm.MethodName)) ∈ lw_all := lw_g (lw_at lw_m3 195 rfl) rfl
abbrev cJ15_numberOfLeadingZeros : ByteArray := prog_22_method_47_code
def yJ15_numberOfLeadingZeros : MethodName := ⟨RJ15, "numberOfLeadingZeros", "(I)I"⟩
abbrev cJ15_numberOfTrailingZeros : ByteArray := prog_22_method_48_code
def yJ15_numberOfTrailingZeros : MethodName := ⟨RJ15, "numberOfTrailingZeros", "(I)I"⟩
abbrev cJ15_bitCount : ByteArray := prog_22_method_49_code
def yJ15_bitCount : MethodName := ⟨RJ15, "bitCount", "(I)I"⟩
abbrev cJ15_stringSize : ByteArray := prog_22_method_13_code
def yJ15_stringSize : MethodName := ⟨RJ15, "stringSize", "(I)I"⟩
abbrev cJ15_getChars : ByteArray := prog_22_method_12_code
def yJ15_getChars : MethodName := ⟨RJ15, "getChars", "(II[B)I"⟩
theorem q126 : (Jvm.Cond.initialized "java/lang/Integer") ∈ lw_all := lw_g (lw_at lw_m1 29 rfl) rfl
theorem q764 : (Jvm.Cond.static ({ cls := "java/lang/Integer", name := "numberOfLeadingZeros", desc := "(I)I" } : Jvm.MethodName)) ∈ lw_all := lw_g (lw_at lw_m3 187 rfl) rfl
theorem q765 : (Jvm.Cond.code ({ cls := "java/lang/Integer", name := "numberOfLeadingZeros", desc := "(I)I" } : Jvm.MethodName) prog_22_method_47_code (2 : Nat) (Option.some Jvm.ClassFile.FieldType.int)) ∈ lw_all := lw_g (lw_at lw_m3 188 rfl) rfl
theorem q766 : (Jvm.Cond.constant "java/lang/Integer" (264 : Nat) (65536 : Int32)) ∈ lw_all := lw_g (lw_at lw_m3 189 rfl) rfl
theorem q773 : (Jvm.Cond.static ({ cls := "java/lang/Integer", name := "numberOfTrailingZeros", desc := "(I)I" } : Jvm.MethodName)) ∈ lw_all := lw_g (lw_at lw_m3 196 rfl) rfl
theorem q774 : (Jvm.Cond.code ({ cls := "java/lang/Integer", name := "numberOfTrailingZeros", desc := "(I)I" } : Jvm.MethodName) prog_22_method_48_code (2 : Nat) (Option.some Jvm.ClassFile.FieldType.int)) ∈ lw_all := lw_g (lw_at lw_m3 197 rfl) rfl
theorem q923 : (Jvm.Cond.static ({ cls := "java/lang/Integer", name := "bitCount", desc := "(I)I" } : Jvm.MethodName)) ∈ lw_all := lw_g (lw_at lw_m4 106 rfl) rfl
theorem q924 : (Jvm.Cond.code ({ cls := "java/lang/Integer", name := "bitCount", desc := "(I)I" } : Jvm.MethodName) prog_22_method_49_code (1 : Nat) (Option.some Jvm.ClassFile.FieldType.int)) ∈ lw_all := lw_g (lw_at lw_m4 107 rfl) rfl
theorem q925 : (Jvm.Cond.constant "java/lang/Integer" (265 : Nat) (1431655765 : Int32)) ∈ lw_all := lw_g (lw_at lw_m4 108 rfl) rfl
theorem q926 : (Jvm.Cond.constant "java/lang/Integer" (266 : Nat) (858993459 : Int32)) ∈ lw_all := lw_g (lw_at lw_m4 109 rfl) rfl
theorem q927 : (Jvm.Cond.constant "java/lang/Integer" (267 : Nat) (252645135 : Int32)) ∈ lw_all := lw_g (lw_at lw_m4 110 rfl) rfl
theorem q1345 : (Jvm.Cond.static ({ cls := "java/lang/Integer", name := "stringSize", desc := "(I)I" } : Jvm.MethodName)) ∈ lw_all := lw_g (lw_at lw_m6 48 rfl) rfl
theorem q1346 : (Jvm.Cond.code ({ cls := "java/lang/Integer", name := "stringSize", desc := "(I)I" } : Jvm.MethodName) prog_22_method_13_code (4 : Nat) (Option.some Jvm.ClassFile.FieldType.int)) ∈ lw_all := lw_g (lw_at lw_m6 49 rfl) rfl
theorem q1348 : (Jvm.Cond.static ({ cls := "java/lang/Integer", name := "getChars", desc := "(II[B)I" } : Jvm.MethodName)) ∈ lw_all := lw_g (lw_at lw_m6 51 rfl) rfl
theorem q1349 : (Jvm.Cond.code ({ cls := "java/lang/Integer", name := "getChars", desc := "(II[B)I" } : Jvm.MethodName) prog_22_method_12_code (7 : Nat) (Option.some Jvm.ClassFile.FieldType.int)) ∈ lw_all := lw_g (lw_at lw_m6 52 rfl) rfl
theorem q1350 : (Jvm.Cond.fieldLink "java/lang/Integer" (83 : Nat) "java/lang/Integer" "DigitOnes" "[B") ∈ lw_all := lw_g (lw_at lw_m6 53 rfl) rfl
theorem q1351 : (Jvm.Cond.laysStatic "java/lang/Integer" "DigitOnes" "[B") ∈ lw_tbl := lw_at lw_m6 54 rfl
theorem q1352 : (Jvm.Cond.fieldLink "java/lang/Integer" (87 : Nat) "java/lang/Integer" "DigitTens" "[B") ∈ lw_all := lw_g (lw_at lw_m6 55 rfl) rfl
theorem q1353 : (Jvm.Cond.laysStatic "java/lang/Integer" "DigitTens" "[B") ∈ lw_tbl := lw_at lw_m6 56 rfl
abbrev cJ16_floatToIntBits : ByteArray := prog_21_method_24_code
def yJ16_floatToIntBits : MethodName := ⟨RJ16, "floatToIntBits", "(F)I"⟩
abbrev cJ16_isNaN : ByteArray := prog_21_method_6_code
def yJ16_isNaN : MethodName := ⟨RJ16, "isNaN", "(F)Z"⟩
theorem q127 : (Jvm.Cond.initialized "java/lang/Float") ∈ lw_all := lw_g (lw_at lw_m1 30 rfl) rfl
theorem q1024 : (Jvm.Cond.static ({ cls := "java/lang/Float", name := "floatToIntBits", desc := "(F)I" } : Jvm.MethodName)) ∈ lw_all := lw_g (lw_at lw_m4 207 rfl) rfl
theorem q1025 : (Jvm.Cond.code ({ cls := "java/lang/Float", name := "floatToIntBits", desc := "(F)I" } : Jvm.MethodName) prog_21_method_24_code (1 : Nat) (Option.some Jvm.ClassFile.FieldType.int)) ∈ lw_all := lw_g (lw_at lw_m4 208 rfl) rfl
theorem q1026 : (Jvm.Cond.methodLink "java/lang/Float" (59 : Nat) ({ cls := "java/lang/Float", name := "isNaN", desc := "(F)Z" } : Jvm.MethodName)) ∈ lw_all := lw_g (lw_at lw_m4 209 rfl) rfl
theorem q1027 : (Jvm.Cond.static ({ cls := "java/lang/Float", name := "isNaN", desc := "(F)Z" } : Jvm.MethodName)) ∈ lw_all := lw_g (lw_at lw_m4 210 rfl) rfl
theorem q1028 : (Jvm.Cond.code ({ cls := "java/lang/Float", name := "isNaN", desc := "(F)Z" } : Jvm.MethodName) prog_21_method_6_code (1 : Nat) (Option.some Jvm.ClassFile.FieldType.boolean)) ∈ lw_all := lw_g (lw_at lw_m4 211 rfl) rfl
theorem q1029 : (Jvm.Cond.methodLink "java/lang/Float" (74 : Nat) ({ cls := "java/lang/Float", name := "floatToRawIntBits", desc := "(F)I" } : Jvm.MethodName)) ∈ lw_all := lw_g (lw_at lw_m4 212 rfl) rfl
theorem q1030 : (Jvm.Cond.static ({ cls := "java/lang/Float", name := "floatToRawIntBits", desc := "(F)I" } : Jvm.MethodName)) ∈ lw_all := lw_g (lw_at lw_m4 213 rfl) rfl
theorem q1031 : (Jvm.Cond.native ({ cls := "java/lang/Float", name := "floatToRawIntBits", desc := "(F)I" } : Jvm.MethodName)) ∈ lw_all := lw_g (lw_at lw_m4 214 rfl) rfl
theorem q1032 : (Jvm.Cond.constant "java/lang/Float" (77 : Nat) (2143289344 : Int32)) ∈ lw_all := lw_g (lw_at lw_m4 215 rfl) rfl
abbrev cJ17_doubleToLongBits : ByteArray := prog_19_method_23_code
def yJ17_doubleToLongBits : MethodName := ⟨RJ17, "doubleToLongBits", "(D)J"⟩
abbrev cJ17_isNaN : ByteArray := prog_19_method_6_code
def yJ17_isNaN : MethodName := ⟨RJ17, "isNaN", "(D)Z"⟩
theorem q128 : (Jvm.Cond.initialized "java/lang/Double") ∈ lw_all := lw_g (lw_at lw_m1 31 rfl) rfl
theorem q1058 : (Jvm.Cond.static ({ cls := "java/lang/Double", name := "doubleToLongBits", desc := "(D)J" } : Jvm.MethodName)) ∈ lw_all := lw_g (lw_at lw_m5 1 rfl) rfl
theorem q1059 : (Jvm.Cond.code ({ cls := "java/lang/Double", name := "doubleToLongBits", desc := "(D)J" } : Jvm.MethodName) prog_19_method_23_code (2 : Nat) (Option.some Jvm.ClassFile.FieldType.long)) ∈ lw_all := lw_g (lw_at lw_m5 2 rfl) rfl
theorem q1060 : (Jvm.Cond.methodLink "java/lang/Double" (122 : Nat) ({ cls := "java/lang/Double", name := "isNaN", desc := "(D)Z" } : Jvm.MethodName)) ∈ lw_all := lw_g (lw_at lw_m5 3 rfl) rfl
theorem q1061 : (Jvm.Cond.static ({ cls := "java/lang/Double", name := "isNaN", desc := "(D)Z" } : Jvm.MethodName)) ∈ lw_all := lw_g (lw_at lw_m5 4 rfl) rfl
theorem q1062 : (Jvm.Cond.code ({ cls := "java/lang/Double", name := "isNaN", desc := "(D)Z" } : Jvm.MethodName) prog_19_method_6_code (2 : Nat) (Option.some Jvm.ClassFile.FieldType.boolean)) ∈ lw_all := lw_g (lw_at lw_m5 5 rfl) rfl
theorem q1063 : (Jvm.Cond.methodLink "java/lang/Double" (134 : Nat) ({ cls := "java/lang/Double", name := "doubleToRawLongBits", desc := "(D)J" } : Jvm.MethodName)) ∈ lw_all := lw_g (lw_at lw_m5 6 rfl) rfl
theorem q1064 : (Jvm.Cond.static ({ cls := "java/lang/Double", name := "doubleToRawLongBits", desc := "(D)J" } : Jvm.MethodName)) ∈ lw_all := lw_g (lw_at lw_m5 7 rfl) rfl
theorem q1065 : (Jvm.Cond.native ({ cls := "java/lang/Double", name := "doubleToRawLongBits", desc := "(D)J" } : Jvm.MethodName)) ∈ lw_all := lw_g (lw_at lw_m5 8 rfl) rfl
theorem q1066 : (Jvm.Cond.constantLong "java/lang/Double" (137 : Nat) (9221120237041090560 : Int64)) ∈ lw_all := lw_g (lw_at lw_m5 9 rfl) rfl
abbrev cJ18_init : ByteArray := prog_13_method_2_code
def yJ18_init : MethodName := ⟨RJ18, "<init>", "(I)V"⟩
abbrev cJ18_append : ByteArray := prog_13_method_22_code
def yJ18_append : MethodName := ⟨RJ18, "append", "(Ljava/lang/String;)Ljava/lang/AbstractStringBuilder;"⟩
abbrev cJ18_appendNull : ByteArray := prog_13_method_26_code
def yJ18_appendNull : MethodName := ⟨RJ18, "appendNull", "()Ljava/lang/AbstractStringBuilder;"⟩
abbrev cJ18_ensureCapacityInternal : ByteArray := prog_13_method_9_code
def yJ18_ensureCapacityInternal : MethodName := ⟨RJ18, "ensureCapacityInternal", "(I)V"⟩
abbrev cJ18_newCapacity : ByteArray := prog_13_method_10_code
def yJ18_newCapacity : MethodName := ⟨RJ18, "newCapacity", "(I)I"⟩
abbrev cJ18_isLatin1 : ByteArray := prog_13_method_68_code
def yJ18_isLatin1 : MethodName := ⟨RJ18, "isLatin1", "()Z"⟩
abbrev cJ18_putStringAt : ByteArray := prog_13_method_73_code
def yJ18_putStringAt : MethodName := ⟨RJ18, "putStringAt", "(ILjava/lang/String;)V"⟩
abbrev cJ18_inflateIfNeededFor : ByteArray := prog_13_method_71_code
def yJ18_inflateIfNeededFor : MethodName := ⟨RJ18, "inflateIfNeededFor", "(Ljava/lang/String;)V"⟩
abbrev cJ18_inflate : ByteArray := prog_13_method_11_code
def yJ18_inflate : MethodName := ⟨RJ18, "inflate", "()V"⟩
abbrev cJ18_append_2 : ByteArray := prog_13_method_31_code
def yJ18_append_2 : MethodName := ⟨RJ18, "append", "(C)Ljava/lang/AbstractStringBuilder;"⟩
abbrev cJ18_append_3 : ByteArray := prog_13_method_32_code
def yJ18_append_3 : MethodName := ⟨RJ18, "append", "(I)Ljava/lang/AbstractStringBuilder;"⟩
abbrev cJ18_getValue : ByteArray := prog_13_method_64_code
def yJ18_getValue : MethodName := ⟨RJ18, "getValue", "()[B"⟩
abbrev cJ18_length : ByteArray := prog_13_method_6_code
def yJ18_length : MethodName := ⟨RJ18, "length", "()I"⟩
theorem q129 : (Jvm.Cond.initialized "java/lang/AbstractStringBuilder") ∈ lw_all := lw_g (lw_at lw_m1 32 rfl) rfl
theorem q1176 : (Jvm.Cond.instanceMethod ({ cls := "java/lang/AbstractStringBuilder", name := "<init>", desc := "(I)V" } : Jvm.MethodName)) ∈ lw_all := lw_g (lw_at lw_m5 119 rfl) rfl
theorem q1177 : (Jvm.Cond.code ({ cls := "java/lang/AbstractStringBuilder", name := "<init>", desc := "(I)V" } : Jvm.MethodName) prog_13_method_2_code (2 : Nat) (Option.none : Option Jvm.ClassFile.FieldType)) ∈ lw_all := lw_g (lw_at lw_m5 120 rfl) rfl
theorem q1178 : (Jvm.Cond.methodLink "java/lang/AbstractStringBuilder" (3 : Nat) ({ cls := "java/lang/Object", name := "<init>", desc := "()V" } : Jvm.MethodName)) ∈ lw_all := lw_g (lw_at lw_m5 121 rfl) rfl
theorem q1179 : (Jvm.Cond.fieldLink "java/lang/AbstractStringBuilder" (18 : Nat) "java/lang/String" "COMPACT_STRINGS" "Z") ∈ lw_all := lw_g (lw_at lw_m5 122 rfl) rfl
theorem q1181 : (Jvm.Cond.methodLink "java/lang/AbstractStringBuilder" (26 : Nat) ({ cls := "java/lang/StringUTF16", name := "newBytesFor", desc := "(I)[B" } : Jvm.MethodName)) ∈ lw_all := lw_g (lw_at lw_m5 124 rfl) rfl
theorem q1188 : (Jvm.Cond.fieldLink "java/lang/AbstractStringBuilder" (15 : Nat) "java/lang/AbstractStringBuilder" "value" "[B") ∈ lw_all := lw_g (lw_at lw_m5 131 rfl) rfl
theorem q1189 : (Jvm.Cond.fieldLink "java/lang/AbstractStringBuilder" (22 : Nat) "java/lang/AbstractStringBuilder" "coder" "B") ∈ lw_all := lw_g (lw_at lw_m5 132 rfl) rfl
theorem q1191 : (Jvm.Cond.fieldLink "java/lang/AbstractStringBuilder" (79 : Nat) "java/lang/AbstractStringBuilder" "count" "I") ∈ lw_all := lw_g (lw_at lw_m5 134 rfl) rfl
theorem q1193 : (Jvm.Cond.soleField "java/lang/AbstractStringBuilder" "value") ∈ lw_all := lw_g (lw_at lw_m5 136 rfl) rfl
theorem q1195 : (Jvm.Cond.soleField "java/lang/AbstractStringBuilder" "coder") ∈ lw_all := lw_g (lw_at lw_m5 138 rfl) rfl
theorem q1197 : (Jvm.Cond.soleField "java/lang/AbstractStringBuilder" "maybeLatin1") ∈ lw_all := lw_g (lw_at lw_m5 140 rfl) rfl
theorem q1199 : (Jvm.Cond.soleField "java/lang/AbstractStringBuilder" "count") ∈ lw_all := lw_g (lw_at lw_m5 142 rfl) rfl
theorem q1210 : (Jvm.Cond.instanceMethod ({ cls := "java/lang/AbstractStringBuilder", name := "append", desc := "(Ljava/lang/String;)Ljava/lang/AbstractStringBuilder;" } : Jvm.MethodName)) ∈ lw_all := lw_g (lw_at lw_m5 153 rfl) rfl
theorem q1211 : (Jvm.Cond.code ({ cls := "java/lang/AbstractStringBuilder", name := "append", desc := "(Ljava/lang/String;)Ljava/lang/AbstractStringBuilder;" } : Jvm.MethodName) prog_13_method_22_code (3 : Nat) (Option.some (Jvm.ClassFile.FieldType.object "java/lang/AbstractStringBuilder"))) ∈ lw_all := lw_g (lw_at lw_m5 154 rfl) rfl
theorem q1212 : (Jvm.Cond.methodLink "java/lang/AbstractStringBuilder" (204 : Nat) ({ cls := "java/lang/AbstractStringBuilder", name := "appendNull", desc := "()Ljava/lang/AbstractStringBuilder;" } : Jvm.MethodName)) ∈ lw_all := lw_g (lw_at lw_m5 155 rfl) rfl
theorem q1213 : (Jvm.Cond.privateMethod ({ cls := "java/lang/AbstractStringBuilder", name := "appendNull", desc := "()Ljava/lang/AbstractStringBuilder;" } : Jvm.MethodName)) ∈ lw_tbl := lw_at lw_m5 156 rfl
theorem q1214 : (Jvm.Cond.instanceMethod ({ cls := "java/lang/AbstractStringBuilder", name := "appendNull", desc := "()Ljava/lang/AbstractStringBuilder;" } : Jvm.MethodName)) ∈ lw_all := lw_g (lw_at lw_m5 157 rfl) rfl
theorem q1215 : (Jvm.Cond.code ({ cls := "java/lang/AbstractStringBuilder", name := "appendNull", desc := "()Ljava/lang/AbstractStringBuilder;" } : Jvm.MethodName) prog_13_method_26_code (3 : Nat) (Option.some (Jvm.ClassFile.FieldType.object "java/lang/AbstractStringBuilder"))) ∈ lw_all := lw_g (lw_at lw_m5 158 rfl) rfl
theorem q1216 : (Jvm.Cond.methodLink "java/lang/AbstractStringBuilder" (100 : Nat) ({ cls := "java/lang/AbstractStringBuilder", name := "ensureCapacityInternal", desc := "(I)V" } : Jvm.MethodName)) ∈ lw_all := lw_g (lw_at lw_m5 159 rfl) rfl
theorem q1217 : (Jvm.Cond.privateMethod ({ cls := "java/lang/AbstractStringBuilder", name := "ensureCapacityInternal", desc := "(I)V" } : Jvm.MethodName)) ∈ lw_tbl := lw_at lw_m5 160 rfl
theorem q1218 : (Jvm.Cond.instanceMethod ({ cls := "java/lang/AbstractStringBuilder", name := "ensureCapacityInternal", desc := "(I)V" } : Jvm.MethodName)) ∈ lw_all := lw_g (lw_at lw_m5 161 rfl) rfl
theorem q1219 : (Jvm.Cond.code ({ cls := "java/lang/AbstractStringBuilder", name := "ensureCapacityInternal", desc := "(I)V" } : Jvm.MethodName) prog_13_method_9_code (3 : Nat) (Option.none : Option Jvm.ClassFile.FieldType)) ∈ lw_all := lw_g (lw_at lw_m5 162 rfl) rfl
theorem q1220 : (Jvm.Cond.methodLink "java/lang/AbstractStringBuilder" (104 : Nat) ({ cls := "java/lang/AbstractStringBuilder", name := "newCapacity", desc := "(I)I" } : Jvm.MethodName)) ∈ lw_all := lw_g (lw_at lw_m5 163 rfl) rfl
theorem q1221 : (Jvm.Cond.privateMethod ({ cls := "java/lang/AbstractStringBuilder", name := "newCapacity", desc := "(I)I" } : Jvm.MethodName)) ∈ lw_tbl := lw_at lw_m5 164 rfl
theorem q1222 : (Jvm.Cond.instanceMethod ({ cls := "java/lang/AbstractStringBuilder", name := "newCapacity", desc := "(I)I" } : Jvm.MethodName)) ∈ lw_all := lw_g (lw_at lw_m5 165 rfl) rfl
theorem q1223 : (Jvm.Cond.code ({ cls := "java/lang/AbstractStringBuilder", name := "newCapacity", desc := "(I)I" } : Jvm.MethodName) prog_13_method_10_code (6 : Nat) (Option.some Jvm.ClassFile.FieldType.int)) ∈ lw_all := lw_g (lw_at lw_m5 166 rfl) rfl
theorem q1224 : (Jvm.Cond.methodLink "java/lang/AbstractStringBuilder" (114 : Nat) ({ cls := "jdk/internal/util/ArraysSupport", name := "newLength", desc := "(III)I" } : Jvm.MethodName)) ∈ lw_all := lw_g (lw_at lw_m5 167 rfl) rfl
theorem q1232 : (Jvm.Cond.constant "java/lang/AbstractStringBuilder" (39 : Nat) (2147483647 : Int32)) ∈ lw_all := lw_g (lw_at lw_m5 175 rfl) rfl
theorem q1233 : (Jvm.Cond.methodLink "java/lang/AbstractStringBuilder" (108 : Nat) ({ cls := "java/util/Arrays", name := "copyOf", desc := "([BI)[B" } : Jvm.MethodName)) ∈ lw_all := lw_g (lw_at lw_m5 176 rfl) rfl
theorem q1241 : (Jvm.Cond.methodLink "java/lang/AbstractStringBuilder" (83 : Nat) ({ cls := "java/lang/AbstractStringBuilder", name := "isLatin1", desc := "()Z" } : Jvm.MethodName)) ∈ lw_all := lw_g (lw_at lw_m5 184 rfl) rfl
theorem q1242 : (Jvm.Cond.instanceMethod ({ cls := "java/lang/AbstractStringBuilder", name := "isLatin1", desc := "()Z" } : Jvm.MethodName)) ∈ lw_all := lw_g (lw_at lw_m5 185 rfl) rfl
theorem q1243 : (Jvm.Cond.sameMethod "java/lang/AbstractStringBuilder" "java/lang/AbstractStringBuilder" "isLatin1" "()Z") ∈ lw_all := lw_g (lw_at lw_m5 186 rfl) rfl
theorem q1245 : (Jvm.Cond.code ({ cls := "java/lang/AbstractStringBuilder", name := "isLatin1", desc := "()Z" } : Jvm.MethodName) prog_13_method_68_code (1 : Nat) (Option.some Jvm.ClassFile.FieldType.boolean)) ∈ lw_all := lw_g (lw_at lw_m5 188 rfl) rfl
theorem q1246 : (Jvm.Cond.methodLink "java/lang/AbstractStringBuilder" (226 : Nat) ({ cls := "java/lang/StringUTF16", name := "putCharsAt", desc := "([BICCCC)I" } : Jvm.MethodName)) ∈ lw_all := lw_g (lw_at lw_m5 189 rfl) rfl
theorem q1272 : (Jvm.Cond.methodLink "java/lang/AbstractStringBuilder" (32 : Nat) ({ cls := "java/lang/String", name := "length", desc := "()I" } : Jvm.MethodName)) ∈ lw_all := lw_g (lw_at lw_m5 215 rfl) rfl
theorem q1281 : (Jvm.Cond.methodLink "java/lang/AbstractStringBuilder" (208 : Nat) ({ cls := "java/lang/AbstractStringBuilder", name := "putStringAt", desc := "(ILjava/lang/String;)V" } : Jvm.MethodName)) ∈ lw_all := lw_g (lw_at lw_m5 224 rfl) rfl
theorem q1282 : (Jvm.Cond.privateMethod ({ cls := "java/lang/AbstractStringBuilder", name := "putStringAt", desc := "(ILjava/lang/String;)V" } : Jvm.MethodName)) ∈ lw_tbl := lw_at lw_m5 225 rfl
theorem q1283 : (Jvm.Cond.instanceMethod ({ cls := "java/lang/AbstractStringBuilder", name := "putStringAt", desc := "(ILjava/lang/String;)V" } : Jvm.MethodName)) ∈ lw_all := lw_g (lw_at lw_m5 226 rfl) rfl
theorem q1284 : (Jvm.Cond.code ({ cls := "java/lang/AbstractStringBuilder", name := "putStringAt", desc := "(ILjava/lang/String;)V" } : Jvm.MethodName) prog_13_method_73_code (3 : Nat) (Option.none : Option Jvm.ClassFile.FieldType)) ∈ lw_all := lw_g (lw_at lw_m5 227 rfl) rfl
theorem q1285 : (Jvm.Cond.methodLink "java/lang/AbstractStringBuilder" (397 : Nat) ({ cls := "java/lang/AbstractStringBuilder", name := "inflateIfNeededFor", desc := "(Ljava/lang/String;)V" } : Jvm.MethodName)) ∈ lw_all := lw_g (lw_at lw_m5 228 rfl) rfl
theorem q1286 : (Jvm.Cond.privateMethod ({ cls := "java/lang/AbstractStringBuilder", name := "inflateIfNeededFor", desc := "(Ljava/lang/String;)V" } : Jvm.MethodName)) ∈ lw_tbl := lw_at lw_m5 229 rfl
theorem q1287 : (Jvm.Cond.instanceMethod ({ cls := "java/lang/AbstractStringBuilder", name := "inflateIfNeededFor", desc := "(Ljava/lang/String;)V" } : Jvm.MethodName)) ∈ lw_all := lw_g (lw_at lw_m5 230 rfl) rfl
theorem q1288 : (Jvm.Cond.code ({ cls := "java/lang/AbstractStringBuilder", name := "inflateIfNeededFor", desc := "(Ljava/lang/String;)V" } : Jvm.MethodName) prog_13_method_71_code (2 : Nat) (Option.none : Option Jvm.ClassFile.FieldType)) ∈ lw_all := lw_g (lw_at lw_m5 231 rfl) rfl
theorem q1289 : (Jvm.Cond.methodLink "java/lang/AbstractStringBuilder" (40 : Nat) ({ cls := "java/lang/String", name := "coder", desc := "()B" } : Jvm.MethodName)) ∈ lw_all := lw_g (lw_at lw_m5 232 rfl) rfl
theorem q1290 : (Jvm.Cond.methodLink "java/lang/AbstractStringBuilder" (195 : Nat) ({ cls := "java/lang/AbstractStringBuilder", name := "inflate", desc := "()V" } : Jvm.MethodName)) ∈ lw_all := lw_g (lw_at lw_m5 233 rfl) rfl
theorem q1291 : (Jvm.Cond.privateMethod ({ cls := "java/lang/AbstractStringBuilder", name := "inflate", desc := "()V" } : Jvm.MethodName)) ∈ lw_tbl := lw_at lw_m5 234 rfl
theorem q1292 : (Jvm.Cond.instanceMethod ({ cls := "java/lang/AbstractStringBuilder", name := "inflate", desc := "()V" } : Jvm.MethodName)) ∈ lw_all := lw_g (lw_at lw_m5 235 rfl) rfl
theorem q1293 : (Jvm.Cond.code ({ cls := "java/lang/AbstractStringBuilder", name := "inflate", desc := "()V" } : Jvm.MethodName) prog_13_method_11_code (2 : Nat) (Option.none : Option Jvm.ClassFile.FieldType)) ∈ lw_all := lw_g (lw_at lw_m5 236 rfl) rfl
theorem q1294 : (Jvm.Cond.methodLink "java/lang/AbstractStringBuilder" (125 : Nat) ({ cls := "java/lang/StringLatin1", name := "inflate", desc := "([BI[BII)V" } : Jvm.MethodName)) ∈ lw_all := lw_g (lw_at lw_m5 237 rfl) rfl
theorem q1309 : (Jvm.Cond.methodLink "java/lang/AbstractStringBuilder" (399 : Nat) ({ cls := "java/lang/String", name := "getBytes", desc := "([BIB)V" } : Jvm.MethodName)) ∈ lw_all := lw_g (lw_at lw_m6 12 rfl) rfl
theorem q1320 : (Jvm.Cond.instanceMethod ({ cls := "java/lang/AbstractStringBuilder", name := "append", desc := "(C)Ljava/lang/AbstractStringBuilder;" } : Jvm.MethodName)) ∈ lw_all := lw_g (lw_at lw_m6 23 rfl) rfl
theorem q1321 : (Jvm.Cond.code ({ cls := "java/lang/AbstractStringBuilder", name := "append", desc := "(C)Ljava/lang/AbstractStringBuilder;" } : Jvm.MethodName) prog_13_method_31_code (2 : Nat) (Option.some (Jvm.ClassFile.FieldType.object "java/lang/AbstractStringBuilder"))) ∈ lw_all := lw_g (lw_at lw_m6 24 rfl) rfl
theorem q1322 : (Jvm.Cond.methodLink "java/lang/AbstractStringBuilder" (191 : Nat) ({ cls := "java/lang/StringLatin1", name := "canEncode", desc := "(C)Z" } : Jvm.MethodName)) ∈ lw_all := lw_g (lw_at lw_m6 25 rfl) rfl
theorem q1325 : (Jvm.Cond.methodLink "java/lang/AbstractStringBuilder" (197 : Nat) ({ cls := "java/lang/StringUTF16", name := "putCharSB", desc := "([BII)V" } : Jvm.MethodName)) ∈ lw_all := lw_g (lw_at lw_m6 28 rfl) rfl
theorem q1342 : (Jvm.Cond.instanceMethod ({ cls := "java/lang/AbstractStringBuilder", name := "append", desc := "(I)Ljava/lang/AbstractStringBuilder;" } : Jvm.MethodName)) ∈ lw_all := lw_g (lw_at lw_m6 45 rfl) rfl
theorem q1343 : (Jvm.Cond.code ({ cls := "java/lang/AbstractStringBuilder", name := "append", desc := "(I)Ljava/lang/AbstractStringBuilder;" } : Jvm.MethodName) prog_13_method_32_code (4 : Nat) (Option.some (Jvm.ClassFile.FieldType.object "java/lang/AbstractStringBuilder"))) ∈ lw_all := lw_g (lw_at lw_m6 46 rfl) rfl
theorem q1344 : (Jvm.Cond.methodLink "java/lang/AbstractStringBuilder" (245 : Nat) ({ cls := "java/lang/Integer", name := "stringSize", desc := "(I)I" } : Jvm.MethodName)) ∈ lw_all := lw_g (lw_at lw_m6 47 rfl) rfl
theorem q1347 : (Jvm.Cond.methodLink "java/lang/AbstractStringBuilder" (248 : Nat) ({ cls := "java/lang/Integer", name := "getChars", desc := "(II[B)I" } : Jvm.MethodName)) ∈ lw_all := lw_g (lw_at lw_m6 50 rfl) rfl
theorem q1354 : (Jvm.Cond.methodLink "java/lang/AbstractStringBuilder" (251 : Nat) ({ cls := "java/lang/StringUTF16", name := "getChars", desc := "(III[B)I" } : Jvm.MethodName)) ∈ lw_all := lw_g (lw_at lw_m6 57 rfl) rfl
theorem q1387 : (Jvm.Cond.instanceMethod ({ cls := "java/lang/AbstractStringBuilder", name := "getValue", desc := "()[B" } : Jvm.MethodName)) ∈ lw_all := lw_g (lw_at lw_m6 90 rfl) rfl
theorem q1388 : (Jvm.Cond.sameMethod "java/lang/AbstractStringBuilder" "java/lang/AbstractStringBuilder" "getValue" "()[B") ∈ lw_all := lw_g (lw_at lw_m6 91 rfl) rfl
theorem q1390 : (Jvm.Cond.code ({ cls := "java/lang/AbstractStringBuilder", name := "getValue", desc := "()[B" } : Jvm.MethodName) prog_13_method_64_code (1 : Nat) (Option.some (Jvm.ClassFile.FieldType.array Jvm.ClassFile.FieldType.byte))) ∈ lw_all := lw_g (lw_at lw_m6 93 rfl) rfl
theorem q1392 : (Jvm.Cond.instanceMethod ({ cls := "java/lang/AbstractStringBuilder", name := "length", desc := "()I" } : Jvm.MethodName)) ∈ lw_all := lw_g (lw_at lw_m6 95 rfl) rfl
theorem q1393 : (Jvm.Cond.sameMethod "java/lang/AbstractStringBuilder" "java/lang/AbstractStringBuilder" "length" "()I") ∈ lw_all := lw_g (lw_at lw_m6 96 rfl) rfl
theorem q1398 : (Jvm.Cond.code ({ cls := "java/lang/AbstractStringBuilder", name := "length", desc := "()I" } : Jvm.MethodName) prog_13_method_6_code (1 : Nat) (Option.some Jvm.ClassFile.FieldType.int)) ∈ lw_all := lw_g (lw_at lw_m6 101 rfl) rfl
theorem q2197 : (Jvm.Cond.sameMethod "java/lang/AbstractStringBuilder" "java/lang/AbstractStringBuilder" "append" "(Ljava/lang/String;)Ljava/lang/AbstractStringBuilder;") ∈ lw_all := lw_g (lw_at lw_m9 180 rfl) rfl
theorem q2198 : (Jvm.Cond.sameMethod "java/lang/AbstractStringBuilder" "java/lang/AbstractStringBuilder" "appendNull" "()Ljava/lang/AbstractStringBuilder;") ∈ lw_all := lw_g (lw_at lw_m9 181 rfl) rfl
theorem q2199 : (Jvm.Cond.sameMethod "java/lang/AbstractStringBuilder" "java/lang/AbstractStringBuilder" "ensureCapacityInternal" "(I)V") ∈ lw_all := lw_g (lw_at lw_m9 182 rfl) rfl
theorem q2200 : (Jvm.Cond.sameMethod "java/lang/AbstractStringBuilder" "java/lang/AbstractStringBuilder" "newCapacity" "(I)I") ∈ lw_all := lw_g (lw_at lw_m9 183 rfl) rfl
theorem q2201 : (Jvm.Cond.sameMethod "java/lang/AbstractStringBuilder" "java/lang/AbstractStringBuilder" "putStringAt" "(ILjava/lang/String;)V") ∈ lw_all := lw_g (lw_at lw_m9 184 rfl) rfl
theorem q2202 : (Jvm.Cond.sameMethod "java/lang/AbstractStringBuilder" "java/lang/AbstractStringBuilder" "inflateIfNeededFor" "(Ljava/lang/String;)V") ∈ lw_all := lw_g (lw_at lw_m9 185 rfl) rfl
theorem q2203 : (Jvm.Cond.sameMethod "java/lang/AbstractStringBuilder" "java/lang/AbstractStringBuilder" "inflate" "()V") ∈ lw_all := lw_g (lw_at lw_m9 186 rfl) rfl
theorem q2204 : (Jvm.Cond.sameMethod "java/lang/AbstractStringBuilder" "java/lang/AbstractStringBuilder" "append" "(C)Ljava/lang/AbstractStringBuilder;") ∈ lw_all := lw_g (lw_at lw_m9 187 rfl) rfl
theorem q2205 : (Jvm.Cond.sameMethod "java/lang/AbstractStringBuilder" "java/lang/AbstractStringBuilder" "append" "(I)Ljava/lang/AbstractStringBuilder;") ∈ lw_all := lw_g (lw_at lw_m9 188 rfl) rfl
abbrev cJ19_init : ByteArray := prog_29_method_1_code
def yJ19_init : MethodName := ⟨RJ19, "<init>", "()V"⟩
abbrev cJ19_append : ByteArray := prog_29_method_7_code
def yJ19_append : MethodName := ⟨RJ19, "append", "(Ljava/lang/String;)Ljava/lang/StringBuilder;"⟩
abbrev cJ19_append_2 : ByteArray := prog_29_method_14_code
def yJ19_append_2 : MethodName := ⟨RJ19, "append", "(C)Ljava/lang/StringBuilder;"⟩
abbrev cJ19_append_3 : ByteArray := prog_29_method_15_code
def yJ19_append_3 : MethodName := ⟨RJ19, "append", "(I)Ljava/lang/StringBuilder;"⟩
abbrev cJ19_toString : ByteArray := prog_29_method_42_code
def yJ19_toString : MethodName := ⟨RJ19, "toString", "()Ljava/lang/String;"⟩
abbrev cJ19_length : ByteArray := prog_29_method_93_code
def yJ19_length : MethodName := ⟨RJ19, "length", "()I"⟩
theorem q130 : (Jvm.Cond.initialized "java/lang/StringBuilder") ∈ lw_all := lw_g (lw_at lw_m1 33 rfl) rfl
theorem q398 : (Jvm.Cond.selects "java/lang/StringBuilder" ({ cls := "java/lang/Object", name := "getClass", desc := "()Ljava/lang/Class;" } : Jvm.MethodName) ({ cls := "java/lang/Object", name := "getClass", desc := "()Ljava/lang/Class;" } : Jvm.MethodName)) ∈ lw_all := lw_g (lw_at lw_m2 61 rfl) rfl
theorem q1171 : (Jvm.Cond.instantiable "java/lang/StringBuilder" (4 : Nat)) ∈ lw_all := lw_g (lw_at lw_m5 114 rfl) rfl
theorem q1173 : (Jvm.Cond.instanceMethod ({ cls := "java/lang/StringBuilder", name := "<init>", desc := "()V" } : Jvm.MethodName)) ∈ lw_all := lw_g (lw_at lw_m5 116 rfl) rfl
theorem q1174 : (Jvm.Cond.code ({ cls := "java/lang/StringBuilder", name := "<init>", desc := "()V" } : Jvm.MethodName) prog_29_method_1_code (1 : Nat) (Option.none : Option Jvm.ClassFile.FieldType)) ∈ lw_all := lw_g (lw_at lw_m5 117 rfl) rfl
theorem q1175 : (Jvm.Cond.methodLink "java/lang/StringBuilder" (1 : Nat) ({ cls := "java/lang/AbstractStringBuilder", name := "<init>", desc := "(I)V" } : Jvm.MethodName)) ∈ lw_all := lw_g (lw_at lw_m5 118 rfl) rfl
theorem q1192 : (Jvm.Cond.lays "java/lang/StringBuilder" "java/lang/AbstractStringBuilder" "value" "[B") ∈ lw_all := lw_g (lw_at lw_m5 135 rfl) rfl
theorem q1194 : (Jvm.Cond.lays "java/lang/StringBuilder" "java/lang/AbstractStringBuilder" "coder" "B") ∈ lw_all := lw_g (lw_at lw_m5 137 rfl) rfl
theorem q1196 : (Jvm.Cond.lays "java/lang/StringBuilder" "java/lang/AbstractStringBuilder" "maybeLatin1" "Z") ∈ lw_all := lw_g (lw_at lw_m5 139 rfl) rfl
theorem q1198 : (Jvm.Cond.lays "java/lang/StringBuilder" "java/lang/AbstractStringBuilder" "count" "I") ∈ lw_all := lw_g (lw_at lw_m5 141 rfl) rfl
theorem q1200 : (Jvm.Cond.superclass "java/lang/StringBuilder" "java/lang/AbstractStringBuilder") ∈ lw_all := lw_g (lw_at lw_m5 143 rfl) rfl
theorem q1206 : (Jvm.Cond.instanceMethod ({ cls := "java/lang/StringBuilder", name := "append", desc := "(Ljava/lang/String;)Ljava/lang/StringBuilder;" } : Jvm.MethodName)) ∈ lw_all := lw_g (lw_at lw_m5 149 rfl) rfl
theorem q1207 : (Jvm.Cond.selects "java/lang/StringBuilder" ({ cls := "java/lang/StringBuilder", name := "append", desc := "(Ljava/lang/String;)Ljava/lang/StringBuilder;" } : Jvm.MethodName) ({ cls := "java/lang/StringBuilder", name := "append", desc := "(Ljava/lang/String;)Ljava/lang/StringBuilder;" } : Jvm.MethodName)) ∈ lw_all := lw_g (lw_at lw_m5 150 rfl) rfl
theorem q1208 : (Jvm.Cond.code ({ cls := "java/lang/StringBuilder", name := "append", desc := "(Ljava/lang/String;)Ljava/lang/StringBuilder;" } : Jvm.MethodName) prog_29_method_7_code (2 : Nat) (Option.some (Jvm.ClassFile.FieldType.object "java/lang/StringBuilder"))) ∈ lw_all := lw_g (lw_at lw_m5 151 rfl) rfl
theorem q1209 : (Jvm.Cond.methodLink "java/lang/StringBuilder" (29 : Nat) ({ cls := "java/lang/AbstractStringBuilder", name := "append", desc := "(Ljava/lang/String;)Ljava/lang/AbstractStringBuilder;" } : Jvm.MethodName)) ∈ lw_all := lw_g (lw_at lw_m5 152 rfl) rfl
theorem q1244 : (Jvm.Cond.selects "java/lang/StringBuilder" ({ cls := "java/lang/AbstractStringBuilder", name := "isLatin1", desc := "()Z" } : Jvm.MethodName) ({ cls := "java/lang/AbstractStringBuilder", name := "isLatin1", desc := "()Z" } : Jvm.MethodName)) ∈ lw_all := lw_g (lw_at lw_m5 187 rfl) rfl
theorem q1316 : (Jvm.Cond.instanceMethod ({ cls := "java/lang/StringBuilder", name := "append", desc := "(C)Ljava/lang/StringBuilder;" } : Jvm.MethodName)) ∈ lw_all := lw_g (lw_at lw_m6 19 rfl) rfl
theorem q1317 : (Jvm.Cond.selects "java/lang/StringBuilder" ({ cls := "java/lang/StringBuilder", name := "append", desc := "(C)Ljava/lang/StringBuilder;" } : Jvm.MethodName) ({ cls := "java/lang/StringBuilder", name := "append", desc := "(C)Ljava/lang/StringBuilder;" } : Jvm.MethodName)) ∈ lw_all := lw_g (lw_at lw_m6 20 rfl) rfl
theorem q1318 : (Jvm.Cond.code ({ cls := "java/lang/StringBuilder", name := "append", desc := "(C)Ljava/lang/StringBuilder;" } : Jvm.MethodName) prog_29_method_14_code (2 : Nat) (Option.some (Jvm.ClassFile.FieldType.object "java/lang/StringBuilder"))) ∈ lw_all := lw_g (lw_at lw_m6 21 rfl) rfl
theorem q1319 : (Jvm.Cond.methodLink "java/lang/StringBuilder" (50 : Nat) ({ cls := "java/lang/AbstractStringBuilder", name := "append", desc := "(C)Ljava/lang/AbstractStringBuilder;" } : Jvm.MethodName)) ∈ lw_all := lw_g (lw_at lw_m6 22 rfl) rfl
theorem q1338 : (Jvm.Cond.instanceMethod ({ cls := "java/lang/StringBuilder", name := "append", desc := "(I)Ljava/lang/StringBuilder;" } : Jvm.MethodName)) ∈ lw_all := lw_g (lw_at lw_m6 41 rfl) rfl
theorem q1339 : (Jvm.Cond.selects "java/lang/StringBuilder" ({ cls := "java/lang/StringBuilder", name := "append", desc := "(I)Ljava/lang/StringBuilder;" } : Jvm.MethodName) ({ cls := "java/lang/StringBuilder", name := "append", desc := "(I)Ljava/lang/StringBuilder;" } : Jvm.MethodName)) ∈ lw_all := lw_g (lw_at lw_m6 42 rfl) rfl
theorem q1340 : (Jvm.Cond.code ({ cls := "java/lang/StringBuilder", name := "append", desc := "(I)Ljava/lang/StringBuilder;" } : Jvm.MethodName) prog_29_method_15_code (2 : Nat) (Option.some (Jvm.ClassFile.FieldType.object "java/lang/StringBuilder"))) ∈ lw_all := lw_g (lw_at lw_m6 43 rfl) rfl
theorem q1341 : (Jvm.Cond.methodLink "java/lang/StringBuilder" (53 : Nat) ({ cls := "java/lang/AbstractStringBuilder", name := "append", desc := "(I)Ljava/lang/AbstractStringBuilder;" } : Jvm.MethodName)) ∈ lw_all := lw_g (lw_at lw_m6 44 rfl) rfl
theorem q1375 : (Jvm.Cond.instanceMethod ({ cls := "java/lang/StringBuilder", name := "toString", desc := "()Ljava/lang/String;" } : Jvm.MethodName)) ∈ lw_all := lw_g (lw_at lw_m6 78 rfl) rfl
theorem q1376 : (Jvm.Cond.selects "java/lang/StringBuilder" ({ cls := "java/lang/StringBuilder", name := "toString", desc := "()Ljava/lang/String;" } : Jvm.MethodName) ({ cls := "java/lang/StringBuilder", name := "toString", desc := "()Ljava/lang/String;" } : Jvm.MethodName)) ∈ lw_all := lw_g (lw_at lw_m6 79 rfl) rfl
theorem q1377 : (Jvm.Cond.code ({ cls := "java/lang/StringBuilder", name := "toString", desc := "()Ljava/lang/String;" } : Jvm.MethodName) prog_29_method_42_code (1 : Nat) (Option.some (Jvm.ClassFile.FieldType.object "java/lang/String"))) ∈ lw_all := lw_g (lw_at lw_m6 80 rfl) rfl
theorem q1378 : (Jvm.Cond.classLink "java/lang/StringBuilder" (18 : Nat) "java/lang/String") ∈ lw_all := lw_g (lw_at lw_m6 81 rfl) rfl
theorem q1379 : (Jvm.Cond.methodLink "java/lang/StringBuilder" (137 : Nat) ({ cls := "java/lang/String", name := "<init>", desc := "(Ljava/lang/StringBuilder;)V" } : Jvm.MethodName)) ∈ lw_all := lw_g (lw_at lw_m6 82 rfl) rfl
theorem q1389 : (Jvm.Cond.selects "java/lang/StringBuilder" ({ cls := "java/lang/AbstractStringBuilder", name := "getValue", desc := "()[B" } : Jvm.MethodName) ({ cls := "java/lang/AbstractStringBuilder", name := "getValue", desc := "()[B" } : Jvm.MethodName)) ∈ lw_all := lw_g (lw_at lw_m6 92 rfl) rfl
theorem q1394 : (Jvm.Cond.selects "java/lang/StringBuilder" ({ cls := "java/lang/AbstractStringBuilder", name := "length", desc := "()I" } : Jvm.MethodName) ({ cls := "java/lang/StringBuilder", name := "length", desc := "()I" } : Jvm.MethodName)) ∈ lw_all := lw_g (lw_at lw_m6 97 rfl) rfl
theorem q1395 : (Jvm.Cond.instanceMethod ({ cls := "java/lang/StringBuilder", name := "length", desc := "()I" } : Jvm.MethodName)) ∈ lw_all := lw_g (lw_at lw_m6 98 rfl) rfl
theorem q1396 : (Jvm.Cond.code ({ cls := "java/lang/StringBuilder", name := "length", desc := "()I" } : Jvm.MethodName) prog_29_method_93_code (1 : Nat) (Option.some Jvm.ClassFile.FieldType.int)) ∈ lw_all := lw_g (lw_at lw_m6 99 rfl) rfl
theorem q1397 : (Jvm.Cond.methodLink "java/lang/StringBuilder" (343 : Nat) ({ cls := "java/lang/AbstractStringBuilder", name := "length", desc := "()I" } : Jvm.MethodName)) ∈ lw_all := lw_g (lw_at lw_m6 100 rfl) rfl
theorem q2228 : (Jvm.Cond.castable "java/lang/StringBuilder" "java/lang/Object") ∈ lw_tbl := lw_at lw_m9 211 rfl
abbrev cJ2_checkBoundsBeginEnd : ByteArray := prog_28_method_158_code
def yJ2_checkBoundsBeginEnd : MethodName := ⟨RJ2, "checkBoundsBeginEnd", "(III)V"⟩
abbrev cJ2_length : ByteArray := prog_28_method_54_code
def yJ2_length : MethodName := ⟨RJ2, "length", "()I"⟩
abbrev cJ2_coder : ByteArray := prog_28_method_152_code
def yJ2_coder : MethodName := ⟨RJ2, "coder", "()B"⟩
abbrev cJ2_checkBoundsOffCount : ByteArray := prog_28_method_157_code
def yJ2_checkBoundsOffCount : MethodName := ⟨RJ2, "checkBoundsOffCount", "(III)I"⟩
abbrev cJ2_getBytes : ByteArray := prog_28_method_147_code
def yJ2_getBytes : MethodName := ⟨RJ2, "getBytes", "([BIB)V"⟩
abbrev cJ2_checkIndex : ByteArray := prog_28_method_155_code
def yJ2_checkIndex : MethodName := ⟨RJ2, "checkIndex", "(II)V"⟩
abbrev cJ2_init : ByteArray := prog_28_method_53_code
def yJ2_init : MethodName := ⟨RJ2, "<init>", "(Ljava/lang/StringBuilder;)V"⟩
abbrev cJ2_init_2 : ByteArray := prog_28_method_150_code
def yJ2_init_2 : MethodName := ⟨RJ2, "<init>", "(Ljava/lang/AbstractStringBuilder;Ljava/lang/Void;)V"⟩
abbrev cJ2_charAt : ByteArray := prog_28_method_56_code
def yJ2_charAt : MethodName := ⟨RJ2, "charAt", "(I)C"⟩
abbrev cJ2_isLatin1 : ByteArray := prog_28_method_154_code
def yJ2_isLatin1 : MethodName := ⟨RJ2, "isLatin1", "()Z"⟩
theorem q106 : (Jvm.Cond.initialized "java/lang/String") ∈ lw_all := lw_g (lw_at lw_m1 9 rfl) rfl
theorem q397 : (Jvm.Cond.selects "java/lang/String" ({ cls := "java/lang/Object", name := "getClass", desc := "()Ljava/lang/Class;" } : Jvm.MethodName) ({ cls := "java/lang/Object", name := "getClass", desc := "()Ljava/lang/Class;" } : Jvm.MethodName)) ∈ lw_all := lw_g (lw_at lw_m2 60 rfl) rfl
theorem q558 : (Jvm.Cond.instantiable "java/lang/String" (4 : Nat)) ∈ lw_all := lw_g (lw_at lw_m2 221 rfl) rfl
theorem q559 : (Jvm.Cond.laysFinal "java/lang/String" "java/lang/String" "value" "[B") ∈ lw_all := lw_g (lw_at lw_m2 222 rfl) rfl
theorem q560 : (Jvm.Cond.soleField "java/lang/String" "value") ∈ lw_all := lw_g (lw_at lw_m2 223 rfl) rfl
theorem q561 : (Jvm.Cond.laysFinal "java/lang/String" "java/lang/String" "coder" "B") ∈ lw_all := lw_g (lw_at lw_m2 224 rfl) rfl
theorem q562 : (Jvm.Cond.soleField "java/lang/String" "coder") ∈ lw_all := lw_g (lw_at lw_m2 225 rfl) rfl
theorem q1180 : (Jvm.Cond.laysStatic "java/lang/String" "COMPACT_STRINGS" "Z") ∈ lw_tbl := lw_at lw_m5 123 rfl
theorem q1190 : (Jvm.Cond.fieldLink "java/lang/String" (1048 : Nat) "java/lang/AbstractStringBuilder" "maybeLatin1" "Z") ∈ lw_all := lw_g (lw_at lw_m5 133 rfl) rfl
theorem q1256 : (Jvm.Cond.static ({ cls := "java/lang/String", name := "checkBoundsBeginEnd", desc := "(III)V" } : Jvm.MethodName)) ∈ lw_all := lw_g (lw_at lw_m5 199 rfl) rfl
theorem q1257 : (Jvm.Cond.code ({ cls := "java/lang/String", name := "checkBoundsBeginEnd", desc := "(III)V" } : Jvm.MethodName) prog_28_method_158_code (3 : Nat) (Option.none : Option Jvm.ClassFile.FieldType)) ∈ lw_all := lw_g (lw_at lw_m5 200 rfl) rfl
theorem q1258 : (Jvm.Cond.fieldLink "java/lang/String" (1053 : Nat) "jdk/internal/util/Preconditions" "SIOOBE_FORMATTER" "Ljava/util/function/BiFunction;") ∈ lw_all := lw_g (lw_at lw_m5 201 rfl) rfl
theorem q1260 : (Jvm.Cond.methodLink "java/lang/String" (1062 : Nat) ({ cls := "jdk/internal/util/Preconditions", name := "checkFromToIndex", desc := "(IIILjava/util/function/BiFunction;)I" } : Jvm.MethodName)) ∈ lw_all := lw_g (lw_at lw_m5 203 rfl) rfl
theorem q1273 : (Jvm.Cond.instanceMethod ({ cls := "java/lang/String", name := "length", desc := "()I" } : Jvm.MethodName)) ∈ lw_all := lw_g (lw_at lw_m5 216 rfl) rfl
theorem q1274 : (Jvm.Cond.selects "java/lang/String" ({ cls := "java/lang/String", name := "length", desc := "()I" } : Jvm.MethodName) ({ cls := "java/lang/String", name := "length", desc := "()I" } : Jvm.MethodName)) ∈ lw_all := lw_g (lw_at lw_m5 217 rfl) rfl
theorem q1275 : (Jvm.Cond.code ({ cls := "java/lang/String", name := "length", desc := "()I" } : Jvm.MethodName) prog_28_method_54_code (1 : Nat) (Option.some Jvm.ClassFile.FieldType.int)) ∈ lw_all := lw_g (lw_at lw_m5 218 rfl) rfl
theorem q1276 : (Jvm.Cond.methodLink "java/lang/String" (335 : Nat) ({ cls := "java/lang/String", name := "coder", desc := "()B" } : Jvm.MethodName)) ∈ lw_all := lw_g (lw_at lw_m5 219 rfl) rfl
theorem q1277 : (Jvm.Cond.instanceMethod ({ cls := "java/lang/String", name := "coder", desc := "()B" } : Jvm.MethodName)) ∈ lw_all := lw_g (lw_at lw_m5 220 rfl) rfl
theorem q1278 : (Jvm.Cond.selects "java/lang/String" ({ cls := "java/lang/String", name := "coder", desc := "()B" } : Jvm.MethodName) ({ cls := "java/lang/String", name := "coder", desc := "()B" } : Jvm.MethodName)) ∈ lw_all := lw_g (lw_at lw_m5 221 rfl) rfl
theorem q1279 : (Jvm.Cond.code ({ cls := "java/lang/String", name := "coder", desc := "()B" } : Jvm.MethodName) prog_28_method_152_code (1 : Nat) (Option.some Jvm.ClassFile.FieldType.byte)) ∈ lw_all := lw_g (lw_at lw_m5 222 rfl) rfl
theorem q1280 : (Jvm.Cond.fieldLink "java/lang/String" (38 : Nat) "java/lang/String" "COMPACT_STRINGS" "Z") ∈ lw_all := lw_g (lw_at lw_m5 223 rfl) rfl
theorem q1304 : (Jvm.Cond.static ({ cls := "java/lang/String", name := "checkBoundsOffCount", desc := "(III)I" } : Jvm.MethodName)) ∈ lw_all := lw_g (lw_at lw_m6 7 rfl) rfl
theorem q1305 : (Jvm.Cond.code ({ cls := "java/lang/String", name := "checkBoundsOffCount", desc := "(III)I" } : Jvm.MethodName) prog_28_method_157_code (3 : Nat) (Option.some Jvm.ClassFile.FieldType.int)) ∈ lw_all := lw_g (lw_at lw_m6 8 rfl) rfl
theorem q1306 : (Jvm.Cond.methodLink "java/lang/String" (1065 : Nat) ({ cls := "jdk/internal/util/Preconditions", name := "checkFromIndexSize", desc := "(IIILjava/util/function/BiFunction;)I" } : Jvm.MethodName)) ∈ lw_all := lw_g (lw_at lw_m6 9 rfl) rfl
theorem q1310 : (Jvm.Cond.instanceMethod ({ cls := "java/lang/String", name := "getBytes", desc := "([BIB)V" } : Jvm.MethodName)) ∈ lw_all := lw_g (lw_at lw_m6 13 rfl) rfl
theorem q1311 : (Jvm.Cond.selects "java/lang/String" ({ cls := "java/lang/String", name := "getBytes", desc := "([BIB)V" } : Jvm.MethodName) ({ cls := "java/lang/String", name := "getBytes", desc := "([BIB)V" } : Jvm.MethodName)) ∈ lw_all := lw_g (lw_at lw_m6 14 rfl) rfl
theorem q1312 : (Jvm.Cond.code ({ cls := "java/lang/String", name := "getBytes", desc := "([BIB)V" } : Jvm.MethodName) prog_28_method_147_code (4 : Nat) (Option.none : Option Jvm.ClassFile.FieldType)) ∈ lw_all := lw_g (lw_at lw_m6 15 rfl) rfl
theorem q1313 : (Jvm.Cond.methodLink "java/lang/String" (212 : Nat) ({ cls := "java/lang/System", name := "arraycopy", desc := "(Ljava/lang/Object;ILjava/lang/Object;II)V" } : Jvm.MethodName)) ∈ lw_all := lw_g (lw_at lw_m6 16 rfl) rfl
theorem q1314 : (Jvm.Cond.methodLink "java/lang/String" (106 : Nat) ({ cls := "java/lang/StringLatin1", name := "inflate", desc := "([BI[BII)V" } : Jvm.MethodName)) ∈ lw_all := lw_g (lw_at lw_m6 17 rfl) rfl
theorem q1332 : (Jvm.Cond.static ({ cls := "java/lang/String", name := "checkIndex", desc := "(II)V" } : Jvm.MethodName)) ∈ lw_all := lw_g (lw_at lw_m6 35 rfl) rfl
theorem q1333 : (Jvm.Cond.code ({ cls := "java/lang/String", name := "checkIndex", desc := "(II)V" } : Jvm.MethodName) prog_28_method_155_code (2 : Nat) (Option.none : Option Jvm.ClassFile.FieldType)) ∈ lw_all := lw_g (lw_at lw_m6 36 rfl) rfl
theorem q1334 : (Jvm.Cond.methodLink "java/lang/String" (1059 : Nat) ({ cls := "jdk/internal/util/Preconditions", name := "checkIndex", desc := "(IILjava/util/function/BiFunction;)I" } : Jvm.MethodName)) ∈ lw_all := lw_g (lw_at lw_m6 37 rfl) rfl
theorem q1380 : (Jvm.Cond.instanceMethod ({ cls := "java/lang/String", name := "<init>", desc := "(Ljava/lang/StringBuilder;)V" } : Jvm.MethodName)) ∈ lw_all := lw_g (lw_at lw_m6 83 rfl) rfl
theorem q1381 : (Jvm.Cond.code ({ cls := "java/lang/String", name := "<init>", desc := "(Ljava/lang/StringBuilder;)V" } : Jvm.MethodName) prog_28_method_53_code (2 : Nat) (Option.none : Option Jvm.ClassFile.FieldType)) ∈ lw_all := lw_g (lw_at lw_m6 84 rfl) rfl
theorem q1382 : (Jvm.Cond.methodLink "java/lang/String" (489 : Nat) ({ cls := "java/lang/String", name := "<init>", desc := "(Ljava/lang/AbstractStringBuilder;Ljava/lang/Void;)V" } : Jvm.MethodName)) ∈ lw_all := lw_g (lw_at lw_m6 85 rfl) rfl
theorem q1383 : (Jvm.Cond.instanceMethod ({ cls := "java/lang/String", name := "<init>", desc := "(Ljava/lang/AbstractStringBuilder;Ljava/lang/Void;)V" } : Jvm.MethodName)) ∈ lw_all := lw_g (lw_at lw_m6 86 rfl) rfl
theorem q1384 : (Jvm.Cond.code ({ cls := "java/lang/String", name := "<init>", desc := "(Ljava/lang/AbstractStringBuilder;Ljava/lang/Void;)V" } : Jvm.MethodName) prog_28_method_150_code (5 : Nat) (Option.none : Option Jvm.ClassFile.FieldType)) ∈ lw_all := lw_g (lw_at lw_m6 87 rfl) rfl
theorem q1385 : (Jvm.Cond.methodLink "java/lang/String" (1 : Nat) ({ cls := "java/lang/Object", name := "<init>", desc := "()V" } : Jvm.MethodName)) ∈ lw_all := lw_g (lw_at lw_m6 88 rfl) rfl
theorem q1386 : (Jvm.Cond.methodLink "java/lang/String" (552 : Nat) ({ cls := "java/lang/AbstractStringBuilder", name := "getValue", desc := "()[B" } : Jvm.MethodName)) ∈ lw_all := lw_g (lw_at lw_m6 89 rfl) rfl
theorem q1391 : (Jvm.Cond.methodLink "java/lang/String" (549 : Nat) ({ cls := "java/lang/AbstractStringBuilder", name := "length", desc := "()I" } : Jvm.MethodName)) ∈ lw_all := lw_g (lw_at lw_m6 94 rfl) rfl
theorem q1399 : (Jvm.Cond.methodLink "java/lang/String" (1047 : Nat) ({ cls := "java/lang/AbstractStringBuilder", name := "isLatin1", desc := "()Z" } : Jvm.MethodName)) ∈ lw_all := lw_g (lw_at lw_m6 102 rfl) rfl
theorem q1400 : (Jvm.Cond.methodLink "java/lang/String" (54 : Nat) ({ cls := "java/util/Arrays", name := "copyOfRange", desc := "([BII)[B" } : Jvm.MethodName)) ∈ lw_all := lw_g (lw_at lw_m6 103 rfl) rfl
theorem q1409 : (Jvm.Cond.methodLink "java/lang/String" (1051 : Nat) ({ cls := "java/lang/StringUTF16", name := "compress", desc := "([BII)[B" } : Jvm.MethodName)) ∈ lw_all := lw_g (lw_at lw_m6 112 rfl) rfl
theorem q1419 : (Jvm.Cond.methodLink "java/lang/String" (47 : Nat) ({ cls := "java/lang/StringUTF16", name := "coderFromArrayLen", desc := "([BI)B" } : Jvm.MethodName)) ∈ lw_all := lw_g (lw_at lw_m6 122 rfl) rfl
theorem q1422 : (Jvm.Cond.fieldLink "java/lang/String" (9 : Nat) "java/lang/String" "value" "[B") ∈ lw_all := lw_g (lw_at lw_m6 125 rfl) rfl
theorem q1423 : (Jvm.Cond.fieldLink "java/lang/String" (15 : Nat) "java/lang/String" "coder" "B") ∈ lw_all := lw_g (lw_at lw_m6 126 rfl) rfl
theorem q1424 : (Jvm.Cond.lays "java/lang/String" "java/lang/String" "hash" "I") ∈ lw_all := lw_g (lw_at lw_m6 127 rfl) rfl
theorem q1425 : (Jvm.Cond.soleField "java/lang/String" "hash") ∈ lw_all := lw_g (lw_at lw_m6 128 rfl) rfl
theorem q1426 : (Jvm.Cond.lays "java/lang/String" "java/lang/String" "hashIsZero" "Z") ∈ lw_all := lw_g (lw_at lw_m6 129 rfl) rfl
theorem q1427 : (Jvm.Cond.soleField "java/lang/String" "hashIsZero") ∈ lw_all := lw_g (lw_at lw_m6 130 rfl) rfl
theorem q1428 : (Jvm.Cond.superclass "java/lang/String" "java/lang/Object") ∈ lw_all := lw_g (lw_at lw_m6 131 rfl) rfl
theorem q1431 : (Jvm.Cond.instanceMethod ({ cls := "java/lang/String", name := "charAt", desc := "(I)C" } : Jvm.MethodName)) ∈ lw_all := lw_g (lw_at lw_m6 134 rfl) rfl
theorem q1432 : (Jvm.Cond.selects "java/lang/String" ({ cls := "java/lang/String", name := "charAt", desc := "(I)C" } : Jvm.MethodName) ({ cls := "java/lang/String", name := "charAt", desc := "(I)C" } : Jvm.MethodName)) ∈ lw_all := lw_g (lw_at lw_m6 135 rfl) rfl
theorem q1433 : (Jvm.Cond.code ({ cls := "java/lang/String", name := "charAt", desc := "(I)C" } : Jvm.MethodName) prog_28_method_56_code (2 : Nat) (Option.some Jvm.ClassFile.FieldType.char)) ∈ lw_all := lw_g (lw_at lw_m6 136 rfl) rfl
theorem q1434 : (Jvm.Cond.methodLink "java/lang/String" (492 : Nat) ({ cls := "java/lang/String", name := "isLatin1", desc := "()Z" } : Jvm.MethodName)) ∈ lw_all := lw_g (lw_at lw_m6 137 rfl) rfl
theorem q1435 : (Jvm.Cond.instanceMethod ({ cls := "java/lang/String", name := "isLatin1", desc := "()Z" } : Jvm.MethodName)) ∈ lw_all := lw_g (lw_at lw_m6 138 rfl) rfl
theorem q1436 : (Jvm.Cond.selects "java/lang/String" ({ cls := "java/lang/String", name := "isLatin1", desc := "()Z" } : Jvm.MethodName) ({ cls := "java/lang/String", name := "isLatin1", desc := "()Z" } : Jvm.MethodName)) ∈ lw_all := lw_g (lw_at lw_m6 139 rfl) rfl
theorem q1437 : (Jvm.Cond.code ({ cls := "java/lang/String", name := "isLatin1", desc := "()Z" } : Jvm.MethodName) prog_28_method_154_code (1 : Nat) (Option.some Jvm.ClassFile.FieldType.boolean)) ∈ lw_all := lw_g (lw_at lw_m6 140 rfl) rfl
theorem q1438 : (Jvm.Cond.methodLink "java/lang/String" (495 : Nat) ({ cls := "java/lang/StringLatin1", name := "charAt", desc := "([BI)C" } : Jvm.MethodName)) ∈ lw_all := lw_g (lw_at lw_m6 141 rfl) rfl
theorem q1442 : (Jvm.Cond.methodLink "java/lang/String" (498 : Nat) ({ cls := "java/lang/StringUTF16", name := "charAt", desc := "([BI)C" } : Jvm.MethodName)) ∈ lw_all := lw_g (lw_at lw_m6 145 rfl) rfl
theorem q2229 : (Jvm.Cond.castable "java/lang/String" "java/lang/Object") ∈ lw_tbl := lw_at lw_m9 212 rfl
abbrev cJ20_init : ByteArray := object_method_1_code
def yJ20_init : MethodName := ⟨RJ20, "<init>", "()V"⟩
theorem q137 : (Jvm.Cond.instanceMethod ({ cls := "java/lang/Object", name := "<init>", desc := "()V" } : Jvm.MethodName)) ∈ lw_all := lw_g (lw_at lw_m1 40 rfl) rfl
theorem q138 : (Jvm.Cond.code ({ cls := "java/lang/Object", name := "<init>", desc := "()V" } : Jvm.MethodName) object_method_1_code (1 : Nat) (Option.none : Option Jvm.ClassFile.FieldType)) ∈ lw_all := lw_g (lw_at lw_m1 41 rfl) rfl
theorem q342 : (Jvm.Cond.native ({ cls := "java/lang/Object", name := "clone", desc := "()Ljava/lang/Object;" } : Jvm.MethodName)) ∈ lw_all := lw_g (lw_at lw_m2 5 rfl) rfl
theorem q343 : (Jvm.Cond.instanceMethod ({ cls := "java/lang/Object", name := "clone", desc := "()Ljava/lang/Object;" } : Jvm.MethodName)) ∈ lw_all := lw_g (lw_at lw_m2 6 rfl) rfl
theorem q385 : (Jvm.Cond.instanceMethod ({ cls := "java/lang/Object", name := "getClass", desc := "()Ljava/lang/Class;" } : Jvm.MethodName)) ∈ lw_all := lw_g (lw_at lw_m2 48 rfl) rfl
theorem q386 : (Jvm.Cond.sameMethod "java/lang/Object" "java/lang/Object" "getClass" "()Ljava/lang/Class;") ∈ lw_all := lw_g (lw_at lw_m2 49 rfl) rfl
theorem q401 : (Jvm.Cond.native ({ cls := "java/lang/Object", name := "getClass", desc := "()Ljava/lang/Class;" } : Jvm.MethodName)) ∈ lw_all := lw_g (lw_at lw_m2 64 rfl) rfl
theorem q2206 : (Jvm.Cond.initialized "java/lang/Object") ∈ lw_all := lw_g (lw_at lw_m9 189 rfl) rfl
theorem q2233 : (Jvm.Cond.declares ({ cls := "java/lang/Object", name := "getClass", desc := "()Ljava/lang/Class;" } : Jvm.MethodName)) ∈ lw_tbl := lw_at lw_m9 216 rfl
abbrev cJ3_inflate : ByteArray := prog_30_method_50_code
def yJ3_inflate : MethodName := ⟨RJ3, "inflate", "([BI[BII)V"⟩
abbrev cJ3_canEncode : ByteArray := prog_30_method_3_code
def yJ3_canEncode : MethodName := ⟨RJ3, "canEncode", "(C)Z"⟩
abbrev cJ3_charAt : ByteArray := prog_30_method_2_code
def yJ3_charAt : MethodName := ⟨RJ3, "charAt", "([BI)C"⟩
theorem q107 : (Jvm.Cond.initialized "java/lang/StringLatin1") ∈ lw_all := lw_g (lw_at lw_m1 10 rfl) rfl
theorem q1295 : (Jvm.Cond.static ({ cls := "java/lang/StringLatin1", name := "inflate", desc := "([BI[BII)V" } : Jvm.MethodName)) ∈ lw_all := lw_g (lw_at lw_m5 238 rfl) rfl
theorem q1296 : (Jvm.Cond.code ({ cls := "java/lang/StringLatin1", name := "inflate", desc := "([BI[BII)V" } : Jvm.MethodName) prog_30_method_50_code (5 : Nat) (Option.none : Option Jvm.ClassFile.FieldType)) ∈ lw_all := lw_g (lw_at lw_m5 239 rfl) rfl
theorem q1297 : (Jvm.Cond.methodLink "java/lang/StringLatin1" (240 : Nat) ({ cls := "java/lang/StringUTF16", name := "inflate", desc := "([BI[BII)V" } : Jvm.MethodName)) ∈ lw_all := lw_g (lw_at lw_m6 0 rfl) rfl
theorem q1323 : (Jvm.Cond.static ({ cls := "java/lang/StringLatin1", name := "canEncode", desc := "(C)Z" } : Jvm.MethodName)) ∈ lw_all := lw_g (lw_at lw_m6 26 rfl) rfl
theorem q1324 : (Jvm.Cond.code ({ cls := "java/lang/StringLatin1", name := "canEncode", desc := "(C)Z" } : Jvm.MethodName) prog_30_method_3_code (1 : Nat) (Option.some Jvm.ClassFile.FieldType.boolean)) ∈ lw_all := lw_g (lw_at lw_m6 27 rfl) rfl
theorem q1439 : (Jvm.Cond.static ({ cls := "java/lang/StringLatin1", name := "charAt", desc := "([BI)C" } : Jvm.MethodName)) ∈ lw_all := lw_g (lw_at lw_m6 142 rfl) rfl
theorem q1440 : (Jvm.Cond.code ({ cls := "java/lang/StringLatin1", name := "charAt", desc := "([BI)C" } : Jvm.MethodName) prog_30_method_2_code (2 : Nat) (Option.some Jvm.ClassFile.FieldType.char)) ∈ lw_all := lw_g (lw_at lw_m6 143 rfl) rfl
theorem q1441 : (Jvm.Cond.methodLink "java/lang/StringLatin1" (9 : Nat) ({ cls := "java/lang/String", name := "checkIndex", desc := "(II)V" } : Jvm.MethodName)) ∈ lw_all := lw_g (lw_at lw_m6 144 rfl) rfl
abbrev cJ4_checkFromToIndex : ByteArray := prog_46_method_12_code
def yJ4_checkFromToIndex : MethodName := ⟨RJ4, "checkFromToIndex", "(IIILjava/util/function/BiFunction;)I"⟩
abbrev cJ4_checkFromIndexSize : ByteArray := prog_46_method_13_code
def yJ4_checkFromIndexSize : MethodName := ⟨RJ4, "checkFromIndexSize", "(IIILjava/util/function/BiFunction;)I"⟩
abbrev cJ4_checkIndex : ByteArray := prog_46_method_11_code
def yJ4_checkIndex : MethodName := ⟨RJ4, "checkIndex", "(IILjava/util/function/BiFunction;)I"⟩
theorem q108 : (Jvm.Cond.initialized "jdk/internal/util/Preconditions") ∈ lw_all := lw_g (lw_at lw_m1 11 rfl) rfl
theorem q1259 : (Jvm.Cond.laysStatic "jdk/internal/util/Preconditions" "SIOOBE_FORMATTER" "Ljava/util/function/BiFunction;") ∈ lw_tbl := lw_at lw_m5 202 rfl
theorem q1261 : (Jvm.Cond.static ({ cls := "jdk/internal/util/Preconditions", name := "checkFromToIndex", desc := "(IIILjava/util/function/BiFunction;)I" } : Jvm.MethodName)) ∈ lw_all := lw_g (lw_at lw_m5 204 rfl) rfl
theorem q1262 : (Jvm.Cond.code ({ cls := "jdk/internal/util/Preconditions", name := "checkFromToIndex", desc := "(IIILjava/util/function/BiFunction;)I" } : Jvm.MethodName) prog_46_method_12_code (4 : Nat) (Option.some Jvm.ClassFile.FieldType.int)) ∈ lw_all := lw_g (lw_at lw_m5 205 rfl) rfl
theorem q1307 : (Jvm.Cond.static ({ cls := "jdk/internal/util/Preconditions", name := "checkFromIndexSize", desc := "(IIILjava/util/function/BiFunction;)I" } : Jvm.MethodName)) ∈ lw_all := lw_g (lw_at lw_m6 10 rfl) rfl
theorem q1308 : (Jvm.Cond.code ({ cls := "jdk/internal/util/Preconditions", name := "checkFromIndexSize", desc := "(IIILjava/util/function/BiFunction;)I" } : Jvm.MethodName) prog_46_method_13_code (4 : Nat) (Option.some Jvm.ClassFile.FieldType.int)) ∈ lw_all := lw_g (lw_at lw_m6 11 rfl) rfl
theorem q1335 : (Jvm.Cond.static ({ cls := "jdk/internal/util/Preconditions", name := "checkIndex", desc := "(IILjava/util/function/BiFunction;)I" } : Jvm.MethodName)) ∈ lw_all := lw_g (lw_at lw_m6 38 rfl) rfl
theorem q1336 : (Jvm.Cond.code ({ cls := "jdk/internal/util/Preconditions", name := "checkIndex", desc := "(IILjava/util/function/BiFunction;)I" } : Jvm.MethodName) prog_46_method_11_code (3 : Nat) (Option.some Jvm.ClassFile.FieldType.int)) ∈ lw_all := lw_g (lw_at lw_m6 39 rfl) rfl
abbrev cJ5_newBytesFor : ByteArray := prog_31_method_2_code
def yJ5_newBytesFor : MethodName := ⟨RJ5, "newBytesFor", "(I)[B"⟩
abbrev cJ5_newBytesLength : ByteArray := prog_31_method_3_code
def yJ5_newBytesLength : MethodName := ⟨RJ5, "newBytesLength", "(I)I"⟩
abbrev cJ5_putCharsAt : ByteArray := prog_31_method_81_code
def yJ5_putCharsAt : MethodName := ⟨RJ5, "putCharsAt", "([BICCCC)I"⟩
abbrev cJ5_checkBoundsBeginEnd : ByteArray := prog_31_method_93_code
def yJ5_checkBoundsBeginEnd : MethodName := ⟨RJ5, "checkBoundsBeginEnd", "(II[B)V"⟩
abbrev cJ5_length : ByteArray := prog_31_method_6_code
def yJ5_length : MethodName := ⟨RJ5, "length", "([B)I"⟩
abbrev cJ5_putChar : ByteArray := prog_31_method_4_code
def yJ5_putChar : MethodName := ⟨RJ5, "putChar", "([BII)V"⟩
abbrev cJ5_inflate : ByteArray := prog_31_method_86_code
def yJ5_inflate : MethodName := ⟨RJ5, "inflate", "([BI[BII)V"⟩
abbrev cJ5_checkBoundsOffCount : ByteArray := prog_31_method_94_code
def yJ5_checkBoundsOffCount : MethodName := ⟨RJ5, "checkBoundsOffCount", "(II[B)V"⟩
abbrev cJ5_putCharSB : ByteArray := prog_31_method_71_code
def yJ5_putCharSB : MethodName := ⟨RJ5, "putCharSB", "([BII)V"⟩
abbrev cJ5_checkIndex : ByteArray := prog_31_method_91_code
def yJ5_checkIndex : MethodName := ⟨RJ5, "checkIndex", "(I[B)V"⟩
abbrev cJ5_getChars : ByteArray := prog_31_method_77_code
def yJ5_getChars : MethodName := ⟨RJ5, "getChars", "(III[B)I"⟩
abbrev cJ5_getChars_2 : ByteArray := prog_31_method_89_code
def yJ5_getChars_2 : MethodName := ⟨RJ5, "getChars", "(II[B)I"⟩
abbrev cJ5_compress : ByteArray := prog_31_method_17_code
def yJ5_compress : MethodName := ⟨RJ5, "compress", "([BII)[B"⟩
abbrev cJ5_compress_2 : ByteArray := prog_31_method_22_code
def yJ5_compress_2 : MethodName := ⟨RJ5, "compress", "([BI[BII)I"⟩
abbrev cJ5_getChar : ByteArray := prog_31_method_5_code
def yJ5_getChar : MethodName := ⟨RJ5, "getChar", "([BI)C"⟩
abbrev cJ5_coderFromArrayLen : ByteArray := prog_31_method_15_code
def yJ5_coderFromArrayLen : MethodName := ⟨RJ5, "coderFromArrayLen", "([BI)B"⟩
abbrev cJ5_charAt : ByteArray := prog_31_method_83_code
def yJ5_charAt : MethodName := ⟨RJ5, "charAt", "([BI)C"⟩
theorem q109 : (Jvm.Cond.initialized "java/lang/StringUTF16") ∈ lw_all := lw_g (lw_at lw_m1 12 rfl) rfl
theorem q1182 : (Jvm.Cond.static ({ cls := "java/lang/StringUTF16", name := "newBytesFor", desc := "(I)[B" } : Jvm.MethodName)) ∈ lw_all := lw_g (lw_at lw_m5 125 rfl) rfl
theorem q1183 : (Jvm.Cond.code ({ cls := "java/lang/StringUTF16", name := "newBytesFor", desc := "(I)[B" } : Jvm.MethodName) prog_31_method_2_code (1 : Nat) (Option.some (Jvm.ClassFile.FieldType.array Jvm.ClassFile.FieldType.byte))) ∈ lw_all := lw_g (lw_at lw_m5 126 rfl) rfl
theorem q1184 : (Jvm.Cond.methodLink "java/lang/StringUTF16" (11 : Nat) ({ cls := "java/lang/StringUTF16", name := "newBytesLength", desc := "(I)I" } : Jvm.MethodName)) ∈ lw_all := lw_g (lw_at lw_m5 127 rfl) rfl
theorem q1185 : (Jvm.Cond.static ({ cls := "java/lang/StringUTF16", name := "newBytesLength", desc := "(I)I" } : Jvm.MethodName)) ∈ lw_all := lw_g (lw_at lw_m5 128 rfl) rfl
theorem q1186 : (Jvm.Cond.code ({ cls := "java/lang/StringUTF16", name := "newBytesLength", desc := "(I)I" } : Jvm.MethodName) prog_31_method_3_code (1 : Nat) (Option.some Jvm.ClassFile.FieldType.int)) ∈ lw_all := lw_g (lw_at lw_m5 129 rfl) rfl
theorem q1187 : (Jvm.Cond.constant "java/lang/StringUTF16" (20 : Nat) (1073741823 : Int32)) ∈ lw_all := lw_g (lw_at lw_m5 130 rfl) rfl
theorem q1247 : (Jvm.Cond.static ({ cls := "java/lang/StringUTF16", name := "putCharsAt", desc := "([BICCCC)I" } : Jvm.MethodName)) ∈ lw_all := lw_g (lw_at lw_m5 190 rfl) rfl
theorem q1248 : (Jvm.Cond.code ({ cls := "java/lang/StringUTF16", name := "putCharsAt", desc := "([BICCCC)I" } : Jvm.MethodName) prog_31_method_81_code (7 : Nat) (Option.some Jvm.ClassFile.FieldType.int)) ∈ lw_all := lw_g (lw_at lw_m5 191 rfl) rfl
theorem q1249 : (Jvm.Cond.methodLink "java/lang/StringUTF16" (96 : Nat) ({ cls := "java/lang/StringUTF16", name := "checkBoundsBeginEnd", desc := "(II[B)V" } : Jvm.MethodName)) ∈ lw_all := lw_g (lw_at lw_m5 192 rfl) rfl
theorem q1250 : (Jvm.Cond.static ({ cls := "java/lang/StringUTF16", name := "checkBoundsBeginEnd", desc := "(II[B)V" } : Jvm.MethodName)) ∈ lw_all := lw_g (lw_at lw_m5 193 rfl) rfl
theorem q1251 : (Jvm.Cond.code ({ cls := "java/lang/StringUTF16", name := "checkBoundsBeginEnd", desc := "(II[B)V" } : Jvm.MethodName) prog_31_method_93_code (3 : Nat) (Option.none : Option Jvm.ClassFile.FieldType)) ∈ lw_all := lw_g (lw_at lw_m5 194 rfl) rfl
theorem q1252 : (Jvm.Cond.methodLink "java/lang/StringUTF16" (48 : Nat) ({ cls := "java/lang/StringUTF16", name := "length", desc := "([B)I" } : Jvm.MethodName)) ∈ lw_all := lw_g (lw_at lw_m5 195 rfl) rfl
theorem q1253 : (Jvm.Cond.static ({ cls := "java/lang/StringUTF16", name := "length", desc := "([B)I" } : Jvm.MethodName)) ∈ lw_all := lw_g (lw_at lw_m5 196 rfl) rfl
theorem q1254 : (Jvm.Cond.code ({ cls := "java/lang/StringUTF16", name := "length", desc := "([B)I" } : Jvm.MethodName) prog_31_method_6_code (1 : Nat) (Option.some Jvm.ClassFile.FieldType.int)) ∈ lw_all := lw_g (lw_at lw_m5 197 rfl) rfl
theorem q1255 : (Jvm.Cond.methodLink "java/lang/StringUTF16" (241 : Nat) ({ cls := "java/lang/String", name := "checkBoundsBeginEnd", desc := "(III)V" } : Jvm.MethodName)) ∈ lw_all := lw_g (lw_at lw_m5 198 rfl) rfl
theorem q1263 : (Jvm.Cond.methodLink "java/lang/StringUTF16" (111 : Nat) ({ cls := "java/lang/StringUTF16", name := "putChar", desc := "([BII)V" } : Jvm.MethodName)) ∈ lw_all := lw_g (lw_at lw_m5 206 rfl) rfl
theorem q1264 : (Jvm.Cond.static ({ cls := "java/lang/StringUTF16", name := "putChar", desc := "([BII)V" } : Jvm.MethodName)) ∈ lw_all := lw_g (lw_at lw_m5 207 rfl) rfl
theorem q1265 : (Jvm.Cond.code ({ cls := "java/lang/StringUTF16", name := "putChar", desc := "([BII)V" } : Jvm.MethodName) prog_31_method_4_code (3 : Nat) (Option.none : Option Jvm.ClassFile.FieldType)) ∈ lw_all := lw_g (lw_at lw_m5 208 rfl) rfl
theorem q1266 : (Jvm.Cond.fieldLink "java/lang/StringUTF16" (44 : Nat) "java/lang/StringUTF16" "$assertionsDisabled" "Z") ∈ lw_all := lw_g (lw_at lw_m5 209 rfl) rfl
theorem q1267 : (Jvm.Cond.laysStatic "java/lang/StringUTF16" "$assertionsDisabled" "Z") ∈ lw_tbl := lw_at lw_m5 210 rfl
theorem q1268 : (Jvm.Cond.fieldLink "java/lang/StringUTF16" (59 : Nat) "java/lang/StringUTF16" "HI_BYTE_SHIFT" "I") ∈ lw_all := lw_g (lw_at lw_m5 211 rfl) rfl
theorem q1269 : (Jvm.Cond.laysStatic "java/lang/StringUTF16" "HI_BYTE_SHIFT" "I") ∈ lw_tbl := lw_at lw_m5 212 rfl
theorem q1270 : (Jvm.Cond.fieldLink "java/lang/StringUTF16" (63 : Nat) "java/lang/StringUTF16" "LO_BYTE_SHIFT" "I") ∈ lw_all := lw_g (lw_at lw_m5 213 rfl) rfl
theorem q1271 : (Jvm.Cond.laysStatic "java/lang/StringUTF16" "LO_BYTE_SHIFT" "I") ∈ lw_tbl := lw_at lw_m5 214 rfl
theorem q1298 : (Jvm.Cond.static ({ cls := "java/lang/StringUTF16", name := "inflate", desc := "([BI[BII)V" } : Jvm.MethodName)) ∈ lw_all := lw_g (lw_at lw_m6 1 rfl) rfl
theorem q1299 : (Jvm.Cond.code ({ cls := "java/lang/StringUTF16", name := "inflate", desc := "([BI[BII)V" } : Jvm.MethodName) prog_31_method_86_code (6 : Nat) (Option.none : Option Jvm.ClassFile.FieldType)) ∈ lw_all := lw_g (lw_at lw_m6 2 rfl) rfl
theorem q1300 : (Jvm.Cond.methodLink "java/lang/StringUTF16" (173 : Nat) ({ cls := "java/lang/StringUTF16", name := "checkBoundsOffCount", desc := "(II[B)V" } : Jvm.MethodName)) ∈ lw_all := lw_g (lw_at lw_m6 3 rfl) rfl
theorem q1301 : (Jvm.Cond.static ({ cls := "java/lang/StringUTF16", name := "checkBoundsOffCount", desc := "(II[B)V" } : Jvm.MethodName)) ∈ lw_all := lw_g (lw_at lw_m6 4 rfl) rfl
theorem q1302 : (Jvm.Cond.code ({ cls := "java/lang/StringUTF16", name := "checkBoundsOffCount", desc := "(II[B)V" } : Jvm.MethodName) prog_31_method_94_code (3 : Nat) (Option.none : Option Jvm.ClassFile.FieldType)) ∈ lw_all := lw_g (lw_at lw_m6 5 rfl) rfl
theorem q1303 : (Jvm.Cond.methodLink "java/lang/StringUTF16" (419 : Nat) ({ cls := "java/lang/String", name := "checkBoundsOffCount", desc := "(III)I" } : Jvm.MethodName)) ∈ lw_all := lw_g (lw_at lw_m6 6 rfl) rfl
theorem q1326 : (Jvm.Cond.static ({ cls := "java/lang/StringUTF16", name := "putCharSB", desc := "([BII)V" } : Jvm.MethodName)) ∈ lw_all := lw_g (lw_at lw_m6 29 rfl) rfl
theorem q1327 : (Jvm.Cond.code ({ cls := "java/lang/StringUTF16", name := "putCharSB", desc := "([BII)V" } : Jvm.MethodName) prog_31_method_71_code (3 : Nat) (Option.none : Option Jvm.ClassFile.FieldType)) ∈ lw_all := lw_g (lw_at lw_m6 30 rfl) rfl
theorem q1328 : (Jvm.Cond.methodLink "java/lang/StringUTF16" (67 : Nat) ({ cls := "java/lang/StringUTF16", name := "checkIndex", desc := "(I[B)V" } : Jvm.MethodName)) ∈ lw_all := lw_g (lw_at lw_m6 31 rfl) rfl
theorem q1329 : (Jvm.Cond.static ({ cls := "java/lang/StringUTF16", name := "checkIndex", desc := "(I[B)V" } : Jvm.MethodName)) ∈ lw_all := lw_g (lw_at lw_m6 32 rfl) rfl
theorem q1330 : (Jvm.Cond.code ({ cls := "java/lang/StringUTF16", name := "checkIndex", desc := "(I[B)V" } : Jvm.MethodName) prog_31_method_91_code (2 : Nat) (Option.none : Option Jvm.ClassFile.FieldType)) ∈ lw_all := lw_g (lw_at lw_m6 33 rfl) rfl
theorem q1331 : (Jvm.Cond.methodLink "java/lang/StringUTF16" (414 : Nat) ({ cls := "java/lang/String", name := "checkIndex", desc := "(II)V" } : Jvm.MethodName)) ∈ lw_all := lw_g (lw_at lw_m6 34 rfl) rfl
theorem q1355 : (Jvm.Cond.static ({ cls := "java/lang/StringUTF16", name := "getChars", desc := "(III[B)I" } : Jvm.MethodName)) ∈ lw_all := lw_g (lw_at lw_m6 58 rfl) rfl
theorem q1356 : (Jvm.Cond.code ({ cls := "java/lang/StringUTF16", name := "getChars", desc := "(III[B)I" } : Jvm.MethodName) prog_31_method_77_code (5 : Nat) (Option.some Jvm.ClassFile.FieldType.int)) ∈ lw_all := lw_g (lw_at lw_m6 59 rfl) rfl
theorem q1357 : (Jvm.Cond.methodLink "java/lang/StringUTF16" (393 : Nat) ({ cls := "java/lang/StringUTF16", name := "getChars", desc := "(II[B)I" } : Jvm.MethodName)) ∈ lw_all := lw_g (lw_at lw_m6 60 rfl) rfl
theorem q1358 : (Jvm.Cond.static ({ cls := "java/lang/StringUTF16", name := "getChars", desc := "(II[B)I" } : Jvm.MethodName)) ∈ lw_all := lw_g (lw_at lw_m6 61 rfl) rfl
theorem q1359 : (Jvm.Cond.code ({ cls := "java/lang/StringUTF16", name := "getChars", desc := "(II[B)I" } : Jvm.MethodName) prog_31_method_89_code (7 : Nat) (Option.some Jvm.ClassFile.FieldType.int)) ∈ lw_all := lw_g (lw_at lw_m6 62 rfl) rfl
theorem q1360 : (Jvm.Cond.fieldLink "java/lang/StringUTF16" (403 : Nat) "java/lang/Integer" "DigitOnes" "[B") ∈ lw_all := lw_g (lw_at lw_m6 63 rfl) rfl
theorem q1361 : (Jvm.Cond.fieldLink "java/lang/StringUTF16" (407 : Nat) "java/lang/Integer" "DigitTens" "[B") ∈ lw_all := lw_g (lw_at lw_m6 64 rfl) rfl
theorem q1410 : (Jvm.Cond.static ({ cls := "java/lang/StringUTF16", name := "compress", desc := "([BII)[B" } : Jvm.MethodName)) ∈ lw_all := lw_g (lw_at lw_m6 113 rfl) rfl
theorem q1411 : (Jvm.Cond.code ({ cls := "java/lang/StringUTF16", name := "compress", desc := "([BII)[B" } : Jvm.MethodName) prog_31_method_17_code (6 : Nat) (Option.some (Jvm.ClassFile.FieldType.array Jvm.ClassFile.FieldType.byte))) ∈ lw_all := lw_g (lw_at lw_m6 114 rfl) rfl
theorem q1412 : (Jvm.Cond.methodLink "java/lang/StringUTF16" (123 : Nat) ({ cls := "java/lang/StringUTF16", name := "compress", desc := "([BI[BII)I" } : Jvm.MethodName)) ∈ lw_all := lw_g (lw_at lw_m6 115 rfl) rfl
theorem q1413 : (Jvm.Cond.static ({ cls := "java/lang/StringUTF16", name := "compress", desc := "([BI[BII)I" } : Jvm.MethodName)) ∈ lw_all := lw_g (lw_at lw_m6 116 rfl) rfl
theorem q1414 : (Jvm.Cond.code ({ cls := "java/lang/StringUTF16", name := "compress", desc := "([BI[BII)I" } : Jvm.MethodName) prog_31_method_22_code (7 : Nat) (Option.some Jvm.ClassFile.FieldType.int)) ∈ lw_all := lw_g (lw_at lw_m6 117 rfl) rfl
theorem q1415 : (Jvm.Cond.methodLink "java/lang/StringUTF16" (71 : Nat) ({ cls := "java/lang/StringUTF16", name := "getChar", desc := "([BI)C" } : Jvm.MethodName)) ∈ lw_all := lw_g (lw_at lw_m6 118 rfl) rfl
theorem q1416 : (Jvm.Cond.static ({ cls := "java/lang/StringUTF16", name := "getChar", desc := "([BI)C" } : Jvm.MethodName)) ∈ lw_all := lw_g (lw_at lw_m6 119 rfl) rfl
theorem q1417 : (Jvm.Cond.code ({ cls := "java/lang/StringUTF16", name := "getChar", desc := "([BI)C" } : Jvm.MethodName) prog_31_method_5_code (2 : Nat) (Option.some Jvm.ClassFile.FieldType.char)) ∈ lw_all := lw_g (lw_at lw_m6 120 rfl) rfl
theorem q1418 : (Jvm.Cond.methodLink "java/lang/StringUTF16" (126 : Nat) ({ cls := "java/util/Arrays", name := "copyOfRange", desc := "([BII)[B" } : Jvm.MethodName)) ∈ lw_all := lw_g (lw_at lw_m6 121 rfl) rfl
theorem q1420 : (Jvm.Cond.static ({ cls := "java/lang/StringUTF16", name := "coderFromArrayLen", desc := "([BI)B" } : Jvm.MethodName)) ∈ lw_all := lw_g (lw_at lw_m6 123 rfl) rfl
theorem q1421 : (Jvm.Cond.code ({ cls := "java/lang/StringUTF16", name := "coderFromArrayLen", desc := "([BI)B" } : Jvm.MethodName) prog_31_method_15_code (2 : Nat) (Option.some Jvm.ClassFile.FieldType.byte)) ∈ lw_all := lw_g (lw_at lw_m6 124 rfl) rfl
theorem q1443 : (Jvm.Cond.static ({ cls := "java/lang/StringUTF16", name := "charAt", desc := "([BI)C" } : Jvm.MethodName)) ∈ lw_all := lw_g (lw_at lw_m6 146 rfl) rfl
theorem q1444 : (Jvm.Cond.code ({ cls := "java/lang/StringUTF16", name := "charAt", desc := "([BI)C" } : Jvm.MethodName) prog_31_method_83_code (2 : Nat) (Option.some Jvm.ClassFile.FieldType.char)) ∈ lw_all := lw_g (lw_at lw_m6 147 rfl) rfl
abbrev cJ6_init : ByteArray := prog_33_method_2_code
def yJ6_init : MethodName := ⟨RJ6, "<init>", "(Ljava/lang/String;)V"⟩
abbrev cJ6_init_2 : ByteArray := prog_33_method_1_code
def yJ6_init_2 : MethodName := ⟨RJ6, "<init>", "()V"⟩
abbrev cJ6_init_3 : ByteArray := prog_33_method_5_code
def yJ6_init_3 : MethodName := ⟨RJ6, "<init>", "(Ljava/lang/String;Ljava/lang/Throwable;ZZ)V"⟩
theorem q110 : (Jvm.Cond.initialized "java/lang/Throwable") ∈ lw_all := lw_g (lw_at lw_m1 13 rfl) rfl
theorem q505 : (Jvm.Cond.instanceMethod ({ cls := "java/lang/Throwable", name := "<init>", desc := "(Ljava/lang/String;)V" } : Jvm.MethodName)) ∈ lw_all := lw_g (lw_at lw_m2 168 rfl) rfl
theorem q506 : (Jvm.Cond.code ({ cls := "java/lang/Throwable", name := "<init>", desc := "(Ljava/lang/String;)V" } : Jvm.MethodName) prog_33_method_2_code (2 : Nat) (Option.none : Option Jvm.ClassFile.FieldType)) ∈ lw_all := lw_g (lw_at lw_m2 169 rfl) rfl
theorem q507 : (Jvm.Cond.methodLink "java/lang/Throwable" (1 : Nat) ({ cls := "java/lang/Object", name := "<init>", desc := "()V" } : Jvm.MethodName)) ∈ lw_all := lw_g (lw_at lw_m2 170 rfl) rfl
theorem q508 : (Jvm.Cond.fieldLink "java/lang/Throwable" (13 : Nat) "java/lang/Throwable" "UNASSIGNED_STACK" "[Ljava/lang/StackTraceElement;") ∈ lw_all := lw_g (lw_at lw_m2 171 rfl) rfl
theorem q509 : (Jvm.Cond.laysStatic "java/lang/Throwable" "UNASSIGNED_STACK" "[Ljava/lang/StackTraceElement;") ∈ lw_tbl := lw_at lw_m2 172 rfl
theorem q510 : (Jvm.Cond.fieldLink "java/lang/Throwable" (20 : Nat) "java/lang/Throwable" "SUPPRESSED_SENTINEL" "Ljava/util/List;") ∈ lw_all := lw_g (lw_at lw_m2 173 rfl) rfl
theorem q511 : (Jvm.Cond.laysStatic "java/lang/Throwable" "SUPPRESSED_SENTINEL" "Ljava/util/List;") ∈ lw_tbl := lw_at lw_m2 174 rfl
theorem q512 : (Jvm.Cond.methodLink "java/lang/Throwable" (27 : Nat) ({ cls := "java/lang/Throwable", name := "fillInStackTrace", desc := "()Ljava/lang/Throwable;" } : Jvm.MethodName)) ∈ lw_all := lw_g (lw_at lw_m2 175 rfl) rfl
theorem q513 : (Jvm.Cond.instanceMethod ({ cls := "java/lang/Throwable", name := "fillInStackTrace", desc := "()Ljava/lang/Throwable;" } : Jvm.MethodName)) ∈ lw_all := lw_g (lw_at lw_m2 176 rfl) rfl
theorem q514 : (Jvm.Cond.sameMethod "java/lang/Throwable" "java/lang/Throwable" "fillInStackTrace" "()Ljava/lang/Throwable;") ∈ lw_all := lw_g (lw_at lw_m2 177 rfl) rfl
theorem q517 : (Jvm.Cond.codeSync ({ cls := "java/lang/Throwable", name := "fillInStackTrace", desc := "()Ljava/lang/Throwable;" } : Jvm.MethodName) prog_33_method_18_code (1 : Nat) (Option.some (Jvm.ClassFile.FieldType.object "java/lang/Throwable"))) ∈ lw_all := lw_g (lw_at lw_m2 180 rfl) rfl
theorem q518 : (Jvm.Cond.methodLink "java/lang/Throwable" (202 : Nat) ({ cls := "java/lang/Throwable", name := "fillInStackTrace", desc := "(I)Ljava/lang/Throwable;" } : Jvm.MethodName)) ∈ lw_all := lw_g (lw_at lw_m2 181 rfl) rfl
theorem q519 : (Jvm.Cond.privateMethod ({ cls := "java/lang/Throwable", name := "fillInStackTrace", desc := "(I)Ljava/lang/Throwable;" } : Jvm.MethodName)) ∈ lw_tbl := lw_at lw_m2 182 rfl
theorem q520 : (Jvm.Cond.instanceMethod ({ cls := "java/lang/Throwable", name := "fillInStackTrace", desc := "(I)Ljava/lang/Throwable;" } : Jvm.MethodName)) ∈ lw_all := lw_g (lw_at lw_m2 183 rfl) rfl
theorem q521 : (Jvm.Cond.instantiable "java/lang/Throwable" (6 : Nat)) ∈ lw_all := lw_g (lw_at lw_m2 184 rfl) rfl
theorem q522 : (Jvm.Cond.native ({ cls := "java/lang/Throwable", name := "fillInStackTrace", desc := "(I)Ljava/lang/Throwable;" } : Jvm.MethodName)) ∈ lw_all := lw_g (lw_at lw_m2 185 rfl) rfl
theorem q523 : (Jvm.Cond.fieldLink "java/lang/Throwable" (198 : Nat) "java/lang/Throwable" "backtrace" "Ljava/lang/Object;") ∈ lw_all := lw_g (lw_at lw_m2 186 rfl) rfl
theorem q524 : (Jvm.Cond.fieldLink "java/lang/Throwable" (31 : Nat) "java/lang/Throwable" "detailMessage" "Ljava/lang/String;") ∈ lw_all := lw_g (lw_at lw_m2 187 rfl) rfl
theorem q525 : (Jvm.Cond.fieldLink "java/lang/Throwable" (7 : Nat) "java/lang/Throwable" "cause" "Ljava/lang/Throwable;") ∈ lw_all := lw_g (lw_at lw_m2 188 rfl) rfl
theorem q526 : (Jvm.Cond.fieldLink "java/lang/Throwable" (17 : Nat) "java/lang/Throwable" "stackTrace" "[Ljava/lang/StackTraceElement;") ∈ lw_all := lw_g (lw_at lw_m2 189 rfl) rfl
theorem q527 : (Jvm.Cond.fieldLink "java/lang/Throwable" (24 : Nat) "java/lang/Throwable" "suppressedExceptions" "Ljava/util/List;") ∈ lw_all := lw_g (lw_at lw_m2 190 rfl) rfl
theorem q529 : (Jvm.Cond.soleField "java/lang/Throwable" "backtrace") ∈ lw_all := lw_g (lw_at lw_m2 192 rfl) rfl
theorem q531 : (Jvm.Cond.soleField "java/lang/Throwable" "detailMessage") ∈ lw_all := lw_g (lw_at lw_m2 194 rfl) rfl
theorem q533 : (Jvm.Cond.soleField "java/lang/Throwable" "cause") ∈ lw_all := lw_g (lw_at lw_m2 196 rfl) rfl
theorem q535 : (Jvm.Cond.soleField "java/lang/Throwable" "stackTrace") ∈ lw_all := lw_g (lw_at lw_m2 198 rfl) rfl
theorem q537 : (Jvm.Cond.soleField "java/lang/Throwable" "depth") ∈ lw_all := lw_g (lw_at lw_m2 200 rfl) rfl
theorem q539 : (Jvm.Cond.soleField "java/lang/Throwable" "suppressedExceptions") ∈ lw_all := lw_g (lw_at lw_m2 202 rfl) rfl
theorem q546 : (Jvm.Cond.declares ({ cls := "java/lang/Throwable", name := "<init>", desc := "()V" } : Jvm.MethodName)) ∈ lw_tbl := lw_at lw_m2 209 rfl
theorem q547 : (Jvm.Cond.declares ({ cls := "java/lang/Throwable", name := "<init>", desc := "(Ljava/lang/String;)V" } : Jvm.MethodName)) ∈ lw_tbl := lw_at lw_m2 210 rfl
theorem q549 : (Jvm.Cond.lays "java/lang/Throwable" "java/lang/Throwable" "cause" "Ljava/lang/Throwable;") ∈ lw_all := lw_g (lw_at lw_m2 212 rfl) rfl
theorem q550 : (Jvm.Cond.lays "java/lang/Throwable" "java/lang/Throwable" "stackTrace" "[Ljava/lang/StackTraceElement;") ∈ lw_all := lw_g (lw_at lw_m2 213 rfl) rfl
theorem q551 : (Jvm.Cond.lays "java/lang/Throwable" "java/lang/Throwable" "suppressedExceptions" "Ljava/util/List;") ∈ lw_all := lw_g (lw_at lw_m2 214 rfl) rfl
theorem q552 : (Jvm.Cond.lays "java/lang/Throwable" "java/lang/Throwable" "detailMessage" "Ljava/lang/String;") ∈ lw_all := lw_g (lw_at lw_m2 215 rfl) rfl
theorem q553 : (Jvm.Cond.lays "java/lang/Throwable" "java/lang/Throwable" "backtrace" "Ljava/lang/Object;") ∈ lw_all := lw_g (lw_at lw_m2 216 rfl) rfl
theorem q554 : (Jvm.Cond.fieldLink "java/lang/Throwable" (198 : Nat) "java/lang/Throwable" "backtrace" "Ljava/lang/Object;") ∈ lw_all := lw_g (lw_at lw_m2 217 rfl) rfl
theorem q555 : (Jvm.Cond.superclass "java/lang/Throwable" "java/lang/Object") ∈ lw_all := lw_g (lw_at lw_m2 218 rfl) rfl
theorem q556 : (Jvm.Cond.instanceMethod ({ cls := "java/lang/Throwable", name := "<init>", desc := "()V" } : Jvm.MethodName)) ∈ lw_all := lw_g (lw_at lw_m2 219 rfl) rfl
theorem q557 : (Jvm.Cond.code ({ cls := "java/lang/Throwable", name := "<init>", desc := "()V" } : Jvm.MethodName) prog_33_method_1_code (1 : Nat) (Option.none : Option Jvm.ClassFile.FieldType)) ∈ lw_all := lw_g (lw_at lw_m2 220 rfl) rfl
theorem q1541 : (Jvm.Cond.instanceMethod ({ cls := "java/lang/Throwable", name := "<init>", desc := "(Ljava/lang/String;Ljava/lang/Throwable;ZZ)V" } : Jvm.MethodName)) ∈ lw_all := lw_g (lw_at lw_m7 4 rfl) rfl
theorem q1542 : (Jvm.Cond.code ({ cls := "java/lang/Throwable", name := "<init>", desc := "(Ljava/lang/String;Ljava/lang/Throwable;ZZ)V" } : Jvm.MethodName) prog_33_method_5_code (5 : Nat) (Option.none : Option Jvm.ClassFile.FieldType)) ∈ lw_all := lw_g (lw_at lw_m7 5 rfl) rfl
theorem q2196 : (Jvm.Cond.sameMethod "java/lang/Throwable" "java/lang/Throwable" "fillInStackTrace" "(I)Ljava/lang/Throwable;") ∈ lw_all := lw_g (lw_at lw_m9 179 rfl) rfl
theorem q2230 : (Jvm.Cond.castable "java/lang/Throwable" "java/lang/Object") ∈ lw_tbl := lw_at lw_m9 213 rfl
abbrev cJ7_init : ByteArray := prog_20_method_2_code
def yJ7_init : MethodName := ⟨RJ7, "<init>", "(Ljava/lang/String;)V"⟩
abbrev cJ7_init_2 : ByteArray := prog_20_method_5_code
def yJ7_init_2 : MethodName := ⟨RJ7, "<init>", "(Ljava/lang/String;Ljava/lang/Throwable;ZZ)V"⟩
theorem q111 : (Jvm.Cond.initialized "java/lang/Exception") ∈ lw_all := lw_g (lw_at lw_m1 14 rfl) rfl
theorem q502 : (Jvm.Cond.instanceMethod ({ cls := "java/lang/Exception", name := "<init>", desc := "(Ljava/lang/String;)V" } : Jvm.MethodName)) ∈ lw_all := lw_g (lw_at lw_m2 165 rfl) rfl
theorem q503 : (Jvm.Cond.code ({ cls := "java/lang/Exception", name := "<init>", desc := "(Ljava/lang/String;)V" } : Jvm.MethodName) prog_20_method_2_code (2 : Nat) (Option.none : Option Jvm.ClassFile.FieldType)) ∈ lw_all := lw_g (lw_at lw_m2 166 rfl) rfl
theorem q504 : (Jvm.Cond.methodLink "java/lang/Exception" (7 : Nat) ({ cls := "java/lang/Throwable", name := "<init>", desc := "(Ljava/lang/String;)V" } : Jvm.MethodName)) ∈ lw_all := lw_g (lw_at lw_m2 167 rfl) rfl
theorem q544 : (Jvm.Cond.declares ({ cls := "java/lang/Exception", name := "<init>", desc := "()V" } : Jvm.MethodName)) ∈ lw_tbl := lw_at lw_m2 207 rfl
theorem q545 : (Jvm.Cond.declares ({ cls := "java/lang/Exception", name := "<init>", desc := "(Ljava/lang/String;)V" } : Jvm.MethodName)) ∈ lw_tbl := lw_at lw_m2 208 rfl
theorem q1538 : (Jvm.Cond.instanceMethod ({ cls := "java/lang/Exception", name := "<init>", desc := "(Ljava/lang/String;Ljava/lang/Throwable;ZZ)V" } : Jvm.MethodName)) ∈ lw_all := lw_g (lw_at lw_m7 1 rfl) rfl
theorem q1539 : (Jvm.Cond.code ({ cls := "java/lang/Exception", name := "<init>", desc := "(Ljava/lang/String;Ljava/lang/Throwable;ZZ)V" } : Jvm.MethodName) prog_20_method_5_code (5 : Nat) (Option.none : Option Jvm.ClassFile.FieldType)) ∈ lw_all := lw_g (lw_at lw_m7 2 rfl) rfl
theorem q1540 : (Jvm.Cond.methodLink "java/lang/Exception" (16 : Nat) ({ cls := "java/lang/Throwable", name := "<init>", desc := "(Ljava/lang/String;Ljava/lang/Throwable;ZZ)V" } : Jvm.MethodName)) ∈ lw_all := lw_g (lw_at lw_m7 3 rfl) rfl
abbrev cJ8_min : ByteArray := prog_25_method_69_code
def yJ8_min : MethodName := ⟨RJ8, "min", "(II)I"⟩
abbrev cJ8_max : ByteArray := prog_25_method_65_code
def yJ8_max : MethodName := ⟨RJ8, "max", "(II)I"⟩
theorem q113 : (Jvm.Cond.initialized "java/lang/Math") ∈ lw_all := lw_g (lw_at lw_m1 16 rfl) rfl
theorem q408 : (Jvm.Cond.static ({ cls := "java/lang/Math", name := "min", desc := "(II)I" } : Jvm.MethodName)) ∈ lw_all := lw_g (lw_at lw_m2 71 rfl) rfl
theorem q409 : (Jvm.Cond.code ({ cls := "java/lang/Math", name := "min", desc := "(II)I" } : Jvm.MethodName) prog_25_method_69_code (2 : Nat) (Option.some Jvm.ClassFile.FieldType.int)) ∈ lw_all := lw_g (lw_at lw_m2 72 rfl) rfl
theorem q637 : (Jvm.Cond.static ({ cls := "java/lang/Math", name := "max", desc := "(II)I" } : Jvm.MethodName)) ∈ lw_all := lw_g (lw_at lw_m3 60 rfl) rfl
theorem q638 : (Jvm.Cond.code ({ cls := "java/lang/Math", name := "max", desc := "(II)I" } : Jvm.MethodName) prog_25_method_65_code (2 : Nat) (Option.some Jvm.ClassFile.FieldType.int)) ∈ lw_all := lw_g (lw_at lw_m3 61 rfl) rfl
abbrev cJ9_copyOf : ByteArray := prog_38_method_119_code
def yJ9_copyOf : MethodName := ⟨RJ9, "copyOf", "([Ljava/lang/Object;I)[Ljava/lang/Object;"⟩
abbrev cJ9_copyOf_2 : ByteArray := prog_38_method_120_code
def yJ9_copyOf_2 : MethodName := ⟨RJ9, "copyOf", "([Ljava/lang/Object;ILjava/lang/Class;)[Ljava/lang/Object;"⟩
abbrev cJ9_fill : ByteArray := prog_38_method_103_code
def yJ9_fill : MethodName := ⟨RJ9, "fill", "([II)V"⟩
abbrev cJ9_equals : ByteArray := prog_38_method_83_code
def yJ9_equals : MethodName := ⟨RJ9, "equals", "([I[I)Z"⟩
abbrev cJ9_copyOf_3 : ByteArray := prog_38_method_121_code
def yJ9_copyOf_3 : MethodName := ⟨RJ9, "copyOf", "([BI)[B"⟩
abbrev cJ9_copyOfRange : ByteArray := prog_38_method_132_code
def yJ9_copyOfRange : MethodName := ⟨RJ9, "copyOfRange", "([BII)[B"⟩
abbrev cJ9_copyOfRangeByte : ByteArray := prog_38_method_133_code
def yJ9_copyOfRangeByte : MethodName := ⟨RJ9, "copyOfRangeByte", "([BII)[B"⟩
abbrev cJ9_checkLength : ByteArray := prog_38_method_131_code
def yJ9_checkLength : MethodName := ⟨RJ9, "checkLength", "(II)V"⟩
theorem q117 : (Jvm.Cond.initialized "java/util/Arrays") ∈ lw_all := lw_g (lw_at lw_m1 20 rfl) rfl
theorem q382 : (Jvm.Cond.static ({ cls := "java/util/Arrays", name := "copyOf", desc := "([Ljava/lang/Object;I)[Ljava/lang/Object;" } : Jvm.MethodName)) ∈ lw_all := lw_g (lw_at lw_m2 45 rfl) rfl
theorem q383 : (Jvm.Cond.code ({ cls := "java/util/Arrays", name := "copyOf", desc := "([Ljava/lang/Object;I)[Ljava/lang/Object;" } : Jvm.MethodName) prog_38_method_119_code (2 : Nat) (Option.some (Jvm.ClassFile.FieldType.array (Jvm.ClassFile.FieldType.object "java/lang/Object")))) ∈ lw_all := lw_g (lw_at lw_m2 46 rfl) rfl
theorem q384 : (Jvm.Cond.methodLink "java/util/Arrays" (86 : Nat) ({ cls := "java/lang/Object", name := "getClass", desc := "()Ljava/lang/Class;" } : Jvm.MethodName)) ∈ lw_all := lw_g (lw_at lw_m2 47 rfl) rfl
theorem q402 : (Jvm.Cond.methodLink "java/util/Arrays" (300 : Nat) ({ cls := "java/util/Arrays", name := "copyOf", desc := "([Ljava/lang/Object;ILjava/lang/Class;)[Ljava/lang/Object;" } : Jvm.MethodName)) ∈ lw_all := lw_g (lw_at lw_m2 65 rfl) rfl
theorem q403 : (Jvm.Cond.static ({ cls := "java/util/Arrays", name := "copyOf", desc := "([Ljava/lang/Object;ILjava/lang/Class;)[Ljava/lang/Object;" } : Jvm.MethodName)) ∈ lw_all := lw_g (lw_at lw_m2 66 rfl) rfl
theorem q404 : (Jvm.Cond.code ({ cls := "java/util/Arrays", name := "copyOf", desc := "([Ljava/lang/Object;ILjava/lang/Class;)[Ljava/lang/Object;" } : Jvm.MethodName) prog_38_method_120_code (4 : Nat) (Option.some (Jvm.ClassFile.FieldType.array (Jvm.ClassFile.FieldType.object "java/lang/Object")))) ∈ lw_all := lw_g (lw_at lw_m2 67 rfl) rfl
theorem q405 : (Jvm.Cond.classLink "java/util/Arrays" (110 : Nat) "[Ljava/lang/Object;") ∈ lw_all := lw_g (lw_at lw_m2 68 rfl) rfl
theorem q406 : (Jvm.Cond.classLink "java/util/Arrays" (2 : Nat) "java/lang/Object") ∈ lw_all := lw_g (lw_at lw_m2 69 rfl) rfl
theorem q407 : (Jvm.Cond.methodLink "java/util/Arrays" (304 : Nat) ({ cls := "java/lang/Math", name := "min", desc := "(II)I" } : Jvm.MethodName)) ∈ lw_all := lw_g (lw_at lw_m2 70 rfl) rfl
theorem q410 : (Jvm.Cond.methodLink "java/util/Arrays" (150 : Nat) ({ cls := "java/lang/System", name := "arraycopy", desc := "(Ljava/lang/Object;ILjava/lang/Object;II)V" } : Jvm.MethodName)) ∈ lw_all := lw_g (lw_at lw_m2 73 rfl) rfl
theorem q626 : (Jvm.Cond.static ({ cls := "java/util/Arrays", name := "fill", desc := "([II)V" } : Jvm.MethodName)) ∈ lw_all := lw_g (lw_at lw_m3 49 rfl) rfl
theorem q627 : (Jvm.Cond.code ({ cls := "java/util/Arrays", name := "fill", desc := "([II)V" } : Jvm.MethodName) prog_38_method_103_code (4 : Nat) (Option.none : Option Jvm.ClassFile.FieldType)) ∈ lw_all := lw_g (lw_at lw_m3 50 rfl) rfl
theorem q690 : (Jvm.Cond.static ({ cls := "java/util/Arrays", name := "equals", desc := "([I[I)Z" } : Jvm.MethodName)) ∈ lw_all := lw_g (lw_at lw_m3 113 rfl) rfl
theorem q691 : (Jvm.Cond.code ({ cls := "java/util/Arrays", name := "equals", desc := "([I[I)Z" } : Jvm.MethodName) prog_38_method_83_code (3 : Nat) (Option.some Jvm.ClassFile.FieldType.boolean)) ∈ lw_all := lw_g (lw_at lw_m3 114 rfl) rfl
theorem q692 : (Jvm.Cond.methodLink "java/util/Arrays" (254 : Nat) ({ cls := "jdk/internal/util/ArraysSupport", name := "mismatch", desc := "([I[II)I" } : Jvm.MethodName)) ∈ lw_all := lw_g (lw_at lw_m3 115 rfl) rfl
theorem q1234 : (Jvm.Cond.static ({ cls := "java/util/Arrays", name := "copyOf", desc := "([BI)[B" } : Jvm.MethodName)) ∈ lw_all := lw_g (lw_at lw_m5 177 rfl) rfl
theorem q1235 : (Jvm.Cond.code ({ cls := "java/util/Arrays", name := "copyOf", desc := "([BI)[B" } : Jvm.MethodName) prog_38_method_121_code (3 : Nat) (Option.some (Jvm.ClassFile.FieldType.array Jvm.ClassFile.FieldType.byte))) ∈ lw_all := lw_g (lw_at lw_m5 178 rfl) rfl
theorem q1236 : (Jvm.Cond.methodLink "java/util/Arrays" (310 : Nat) ({ cls := "[B", name := "clone", desc := "()Ljava/lang/Object;" } : Jvm.MethodName)) ∈ lw_all := lw_g (lw_at lw_m5 179 rfl) rfl
theorem q1240 : (Jvm.Cond.classLink "java/util/Arrays" (311 : Nat) "[B") ∈ lw_all := lw_g (lw_at lw_m5 183 rfl) rfl
theorem q1401 : (Jvm.Cond.static ({ cls := "java/util/Arrays", name := "copyOfRange", desc := "([BII)[B" } : Jvm.MethodName)) ∈ lw_all := lw_g (lw_at lw_m6 104 rfl) rfl
theorem q1402 : (Jvm.Cond.code ({ cls := "java/util/Arrays", name := "copyOfRange", desc := "([BII)[B" } : Jvm.MethodName) prog_38_method_132_code (3 : Nat) (Option.some (Jvm.ClassFile.FieldType.array Jvm.ClassFile.FieldType.byte))) ∈ lw_all := lw_g (lw_at lw_m6 105 rfl) rfl
theorem q1403 : (Jvm.Cond.methodLink "java/util/Arrays" (339 : Nat) ({ cls := "java/util/Arrays", name := "copyOfRangeByte", desc := "([BII)[B" } : Jvm.MethodName)) ∈ lw_all := lw_g (lw_at lw_m6 106 rfl) rfl
theorem q1404 : (Jvm.Cond.static ({ cls := "java/util/Arrays", name := "copyOfRangeByte", desc := "([BII)[B" } : Jvm.MethodName)) ∈ lw_all := lw_g (lw_at lw_m6 107 rfl) rfl
theorem q1405 : (Jvm.Cond.code ({ cls := "java/util/Arrays", name := "copyOfRangeByte", desc := "([BII)[B" } : Jvm.MethodName) prog_38_method_133_code (5 : Nat) (Option.some (Jvm.ClassFile.FieldType.array Jvm.ClassFile.FieldType.byte))) ∈ lw_all := lw_g (lw_at lw_m6 108 rfl) rfl
theorem q1406 : (Jvm.Cond.methodLink "java/util/Arrays" (343 : Nat) ({ cls := "java/util/Arrays", name := "checkLength", desc := "(II)V" } : Jvm.MethodName)) ∈ lw_all := lw_g (lw_at lw_m6 109 rfl) rfl
theorem q1407 : (Jvm.Cond.static ({ cls := "java/util/Arrays", name := "checkLength", desc := "(II)V" } : Jvm.MethodName)) ∈ lw_all := lw_g (lw_at lw_m6 110 rfl) rfl
theorem q1408 : (Jvm.Cond.code ({ cls := "java/util/Arrays", name := "checkLength", desc := "(II)V" } : Jvm.MethodName) prog_38_method_131_code (2 : Nat) (Option.none : Option Jvm.ClassFile.FieldType)) ∈ lw_all := lw_g (lw_at lw_m6 111 rfl) rfl
abbrev cX0_init : ByteArray := prog_1_method_3_code
def yX0_init : MethodName := ⟨RX0, "<init>", "()V"⟩
abbrev cX0_asset : ByteArray := prog_1_method_5_code
def yX0_asset : MethodName := ⟨RX0, "asset", "(II)I"⟩
abbrev cX0_in : ByteArray := prog_1_method_1_code
def yX0_in : MethodName := ⟨RX0, "in", "(JJJ)Z"⟩
abbrev cX0_keeps : ByteArray := prog_1_method_4_code
def yX0_keeps : MethodName := ⟨RX0, "keeps", "()LFireSale$Town;"⟩
abbrev cX0_house : ByteArray := prog_1_method_6_code
def yX0_house : MethodName := ⟨RX0, "house", "(II)I"⟩
abbrev cX0_set : ByteArray := prog_1_method_8_code
def yX0_set : MethodName := ⟨RX0, "set", "(III)I"⟩
abbrev cX0_isOf : ByteArray := prog_1_method_7_code
def yX0_isOf : MethodName := ⟨RX0, "isOf", "(II)Z"⟩
abbrev cX0_hold : ByteArray := prog_1_method_9_code
def yX0_hold : MethodName := ⟨RX0, "hold", "(III)I"⟩
abbrev cX0_loan : ByteArray := prog_1_method_10_code
def yX0_loan : MethodName := ⟨RX0, "loan", "(III)I"⟩
abbrev cX0_curve : ByteArray := prog_1_method_11_code
def yX0_curve : MethodName := ⟨RX0, "curve", "(III)I"⟩
abbrev cX0_lay : ByteArray := prog_1_method_12_code
def yX0_lay : MethodName := ⟨RX0, "lay", "(IIII)I"⟩
abbrev cX0_lift : ByteArray := prog_1_method_13_code
def yX0_lift : MethodName := ⟨RX0, "lift", "(II)I"⟩
abbrev cX0_net : ByteArray := prog_1_method_14_code
def yX0_net : MethodName := ⟨RX0, "net", "(II)I"⟩
abbrev cX0_merge : ByteArray := prog_1_method_15_code
def yX0_merge : MethodName := ⟨RX0, "merge", "(II)I"⟩
abbrev cX0_close : ByteArray := prog_1_method_16_code
def yX0_close : MethodName := ⟨RX0, "close", "(I)I"⟩
abbrev cX0_live : ByteArray := prog_1_method_17_code
def yX0_live : MethodName := ⟨RX0, "live", "()I"⟩
abbrev cX0_has : ByteArray := prog_1_method_2_code
def yX0_has : MethodName := ⟨RX0, "has", "(II)Z"⟩
abbrev cX0_undo : ByteArray := prog_1_method_18_code
def yX0_undo : MethodName := ⟨RX0, "undo", "()I"⟩
abbrev cX0_of : ByteArray := prog_1_method_19_code
def yX0_of : MethodName := ⟨RX0, "of", "(II)I"⟩
abbrev cX0_loansOf : ByteArray := prog_1_method_20_code
def yX0_loansOf : MethodName := ⟨RX0, "loansOf", "(IZ)I"⟩
abbrev cX0_holding : ByteArray := prog_1_method_21_code
def yX0_holding : MethodName := ⟨RX0, "holding", "(II)I"⟩
abbrev cX0_owes : ByteArray := prog_1_method_22_code
def yX0_owes : MethodName := ⟨RX0, "owes", "(II)I"⟩
abbrev cX0_ofAsset : ByteArray := prog_1_method_23_code
def yX0_ofAsset : MethodName := ⟨RX0, "ofAsset", "(II)I"⟩
abbrev cX0_shelf : ByteArray := prog_1_method_24_code
def yX0_shelf : MethodName := ⟨RX0, "shelf", "(III)I"⟩
abbrev cX0_state : ByteArray := prog_1_method_26_code
def yX0_state : MethodName := ⟨RX0, "state", "(II)I"⟩
abbrev cX0_isState : ByteArray := prog_1_method_25_code
def yX0_isState : MethodName := ⟨RX0, "isState", "(I)Z"⟩
abbrev cX0_rounds : ByteArray := prog_1_method_27_code
def yX0_rounds : MethodName := ⟨RX0, "rounds", "(Z)I"⟩
abbrev cX0_price : ByteArray := prog_1_method_28_code
def yX0_price : MethodName := ⟨RX0, "price", "(II)I"⟩
abbrev cX0_worth : ByteArray := prog_1_method_29_code
def yX0_worth : MethodName := ⟨RX0, "worth", "(II)I"⟩
abbrev cX0_mustSell : ByteArray := prog_1_method_30_code
def yX0_mustSell : MethodName := ⟨RX0, "mustSell", "(III)I"⟩
abbrev cX0_round : ByteArray := prog_1_method_31_code
def yX0_round : MethodName := ⟨RX0, "round", "(II)I"⟩
abbrev cX0_worthIn : ByteArray := prog_1_method_32_code
def yX0_worthIn : MethodName := ⟨RX0, "worthIn", "(II)I"⟩
abbrev cX0_sharpest : ByteArray := prog_1_method_33_code
def yX0_sharpest : MethodName := ⟨RX0, "sharpest", "()I"⟩
abbrev cX0_ranked : ByteArray := prog_1_method_34_code
def yX0_ranked : MethodName := ⟨RX0, "ranked", "(I)I"⟩
abbrev cX0_fellIn : ByteArray := prog_1_method_35_code
def yX0_fellIn : MethodName := ⟨RX0, "fellIn", "(I)I"⟩
abbrev cX0_next : ByteArray := prog_1_method_37_code
def yX0_next : MethodName := ⟨RX0, "next", "(IIII)I"⟩
abbrev cX0_told : ByteArray := prog_1_method_36_code
def yX0_told : MethodName := ⟨RX0, "told", "(III)LFireSale$State;"⟩
abbrev cX0_isSteady : ByteArray := prog_1_method_38_code
def yX0_isSteady : MethodName := ⟨RX0, "isSteady", "(III)I"⟩
abbrev cX0_index : ByteArray := prog_1_method_39_code
def yX0_index : MethodName := ⟨RX0, "index", "(I)I"⟩
abbrev cX0_drop : ByteArray := prog_1_method_40_code
def yX0_drop : MethodName := ⟨RX0, "drop", "(I)I"⟩
abbrev cX0_ratio : ByteArray := prog_1_method_41_code
def yX0_ratio : MethodName := ⟨RX0, "ratio", "(II)I"⟩
abbrev cX0_mood : ByteArray := prog_1_method_42_code
def yX0_mood : MethodName := ⟨RX0, "mood", "()J"⟩
abbrev cX0_hundredths : ByteArray := prog_1_method_43_code
def yX0_hundredths : MethodName := ⟨RX0, "hundredths", "()I"⟩
abbrev cX0_rescue : ByteArray := prog_1_method_45_code
def yX0_rescue : MethodName := ⟨RX0, "rescue", "(III)I"⟩
abbrev cX0_withCoins : ByteArray := prog_1_method_44_code
def yX0_withCoins : MethodName := ⟨RX0, "withCoins", "(LFireSale$Town;II)LFireSale$State;"⟩
abbrev cX0_helper : ByteArray := prog_1_method_47_code
def yX0_helper : MethodName := ⟨RX0, "helper", "(II)I"⟩
abbrev cX0_bestHouse : ByteArray := prog_1_method_46_code
def yX0_bestHouse : MethodName := ⟨RX0, "bestHouse", "(LFireSale$Town;I)I"⟩
abbrev cX0_coinsFor : ByteArray := prog_1_method_49_code
def yX0_coinsFor : MethodName := ⟨RX0, "coinsFor", "(I)I"⟩
abbrev cX0_isSafe : ByteArray := prog_1_method_48_code
def yX0_isSafe : MethodName := ⟨RX0, "isSafe", "(II)Z"⟩
abbrev cX0_aid : ByteArray := prog_1_method_50_code
def yX0_aid : MethodName := ⟨RX0, "aid", "(III)I"⟩
abbrev cX0_bestAid : ByteArray := prog_1_method_52_code
def yX0_bestAid : MethodName := ⟨RX0, "bestAid", "(III)I"⟩
abbrev cX0_gives : ByteArray := prog_1_method_51_code
def yX0_gives : MethodName := ⟨RX0, "gives", "(LFireSale$Town;[IIII)V"⟩
abbrev cX0_buyer : ByteArray := prog_1_method_53_code
def yX0_buyer : MethodName := ⟨RX0, "buyer", "(III)I"⟩
abbrev cX0_capFor : ByteArray := prog_1_method_54_code
def yX0_capFor : MethodName := ⟨RX0, "capFor", "(I)I"⟩
abbrev cX0_shockFor : ByteArray := prog_1_method_55_code
def yX0_shockFor : MethodName := ⟨RX0, "shockFor", "(I)I"⟩
abbrev cX0_domino : ByteArray := prog_1_method_57_code
def yX0_domino : MethodName := ⟨RX0, "domino", "(II)I"⟩
abbrev cX0_with : ByteArray := prog_1_method_56_code
def yX0_with : MethodName := ⟨RX0, "with", "(I)LFireSale$State;"⟩
abbrev cX0_keystone : ByteArray := prog_1_method_58_code
def yX0_keystone : MethodName := ⟨RX0, "keystone", "()I"⟩
abbrev cX0_pulls : ByteArray := prog_1_method_59_code
def yX0_pulls : MethodName := ⟨RX0, "pulls", "(I)I"⟩
abbrev cX0_room : ByteArray := prog_1_method_60_code
def yX0_room : MethodName := ⟨RX0, "room", "(I)I"⟩
abbrev cX0_stress : ByteArray := prog_1_method_62_code
def yX0_stress : MethodName := ⟨RX0, "stress", "(II)I"⟩
abbrev cX0_stressed : ByteArray := prog_1_method_61_code
def yX0_stressed : MethodName := ⟨RX0, "stressed", "(LFireSale$Town;I)LFireSale$State;"⟩
abbrev cX0_fewest : ByteArray := prog_1_method_63_code
def yX0_fewest : MethodName := ⟨RX0, "fewest", "()I"⟩
abbrev cX0_doubtful : ByteArray := prog_1_method_64_code
def yX0_doubtful : MethodName := ⟨RX0, "doubtful", "()I"⟩
abbrev cX0_spell : ByteArray := prog_1_method_65_code
def yX0_spell : MethodName := ⟨RX0, "spell", "(I)I"⟩
abbrev cX0_count : ByteArray := prog_1_method_67_code
def yX0_count : MethodName := ⟨RX0, "count", "(I)I"⟩
abbrev cX0_loanMany : ByteArray := prog_1_method_66_code
def yX0_loanMany : MethodName := ⟨RX0, "loanMany", "()I"⟩
abbrev cX0_feed : ByteArray := prog_1_method_68_code
def yX0_feed : MethodName := ⟨RX0, "feed", "(IIIII)I"⟩
abbrev cX0_lays : ByteArray := prog_1_method_69_code
def yX0_lays : MethodName := ⟨RX0, "lays", "([I)V"⟩
abbrev cX0_back : ByteArray := prog_1_method_70_code
def yX0_back : MethodName := ⟨RX0, "back", "(I)I"⟩
abbrev cX0_text : ByteArray := prog_1_method_71_code
def yX0_text : MethodName := ⟨RX0, "text", "()I"⟩
theorem q98 : (Jvm.Cond.initialized "FireSale") ∈ lw_all := lw_g (lw_at lw_m1 1 rfl) rfl
theorem q132 : (Jvm.Cond.instantiable "FireSale" (6 : Nat)) ∈ lw_all := lw_g (lw_at lw_m1 35 rfl) rfl
theorem q134 : (Jvm.Cond.instanceMethod ({ cls := "FireSale", name := "<init>", desc := "()V" } : Jvm.MethodName)) ∈ lw_all := lw_g (lw_at lw_m1 37 rfl) rfl
theorem q135 : (Jvm.Cond.code ({ cls := "FireSale", name := "<init>", desc := "()V" } : Jvm.MethodName) prog_1_method_3_code (1 : Nat) (Option.none : Option Jvm.ClassFile.FieldType)) ∈ lw_all := lw_g (lw_at lw_m1 38 rfl) rfl
theorem q136 : (Jvm.Cond.methodLink "FireSale" (1 : Nat) ({ cls := "java/lang/Object", name := "<init>", desc := "()V" } : Jvm.MethodName)) ∈ lw_all := lw_g (lw_at lw_m1 39 rfl) rfl
theorem q139 : (Jvm.Cond.classLink "FireSale" (7 : Nat) "FireSale$Town") ∈ lw_all := lw_g (lw_at lw_m1 42 rfl) rfl
theorem q141 : (Jvm.Cond.methodLinkNest "FireSale" (9 : Nat) ({ cls := "FireSale$Town", name := "<init>", desc := "()V" } : Jvm.MethodName) "FireSale") ∈ lw_tbl := lw_at lw_m1 44 rfl
theorem q158 : (Jvm.Cond.fieldLinkNest "FireSale" (180 : Nat) "FireSale$Shelf" "row" "[LFireSale$Rule;" "FireSale") ∈ lw_tbl := lw_at lw_m1 61 rfl
theorem q162 : (Jvm.Cond.fieldLinkNest "FireSale" (117 : Nat) "FireSale$Shelf" "many" "I" "FireSale") ∈ lw_tbl := lw_at lw_m1 65 rfl
theorem q181 : (Jvm.Cond.fieldLinkNest "FireSale" (254 : Nat) "FireSale$State" "sold" "[I" "FireSale") ∈ lw_tbl := lw_at lw_m1 84 rfl
theorem q184 : (Jvm.Cond.fieldLinkNest "FireSale" (145 : Nat) "FireSale$State" "fallen" "I" "FireSale") ∈ lw_tbl := lw_at lw_m1 87 rfl
theorem q191 : (Jvm.Cond.fieldLinkNest "FireSale" (51 : Nat) "FireSale$Town" "assets" "I" "FireSale") ∈ lw_tbl := lw_at lw_m1 94 rfl
theorem q194 : (Jvm.Cond.fieldLinkNest "FireSale" (64 : Nat) "FireSale$Town" "houses" "I" "FireSale") ∈ lw_tbl := lw_at lw_m1 97 rfl
theorem q197 : (Jvm.Cond.fieldLinkNest "FireSale" (58 : Nat) "FireSale$Town" "curve" "[[I" "FireSale") ∈ lw_tbl := lw_at lw_m1 100 rfl
theorem q200 : (Jvm.Cond.fieldLinkNest "FireSale" (67 : Nat) "FireSale$Town" "of" "[[I" "FireSale") ∈ lw_tbl := lw_at lw_m1 103 rfl
theorem q203 : (Jvm.Cond.fieldLinkNest "FireSale" (87 : Nat) "FireSale$Town" "hold" "[[I" "FireSale") ∈ lw_tbl := lw_at lw_m1 106 rfl
theorem q206 : (Jvm.Cond.fieldLinkNest "FireSale" (92 : Nat) "FireSale$Town" "loan" "[[I" "FireSale") ∈ lw_tbl := lw_at lw_m1 109 rfl
theorem q210 : (Jvm.Cond.fieldLinkNest "FireSale" (107 : Nat) "FireSale$Town" "shelves" "[LFireSale$Shelf;" "FireSale") ∈ lw_tbl := lw_at lw_m1 113 rfl
theorem q212 : (Jvm.Cond.fieldLinkNest "FireSale" (337 : Nat) "FireSale$Town" "forced" "I" "FireSale") ∈ lw_tbl := lw_at lw_m1 115 rfl
theorem q214 : (Jvm.Cond.fieldLinkNest "FireSale" (328 : Nat) "FireSale$Town" "taken" "[I" "FireSale") ∈ lw_tbl := lw_at lw_m1 117 rfl
theorem q216 : (Jvm.Cond.fieldLinkNest "FireSale" (331 : Nat) "FireSale$Town" "capped" "[I" "FireSale") ∈ lw_tbl := lw_at lw_m1 119 rfl
theorem q218 : (Jvm.Cond.fieldLinkNest "FireSale" (334 : Nat) "FireSale$Town" "shocked" "[I" "FireSale") ∈ lw_tbl := lw_at lw_m1 121 rfl
theorem q254 : (Jvm.Cond.classLink "FireSale" (16 : Nat) "java/util/ArrayDeque") ∈ lw_all := lw_g (lw_at lw_m1 157 rfl) rfl
theorem q256 : (Jvm.Cond.methodLink "FireSale" (18 : Nat) ({ cls := "java/util/ArrayDeque", name := "<init>", desc := "()V" } : Jvm.MethodName)) ∈ lw_all := lw_g (lw_at lw_m1 159 rfl) rfl
theorem q275 : (Jvm.Cond.fieldLink "FireSale" (10 : Nat) "FireSale" "now" "LFireSale$Town;") ∈ lw_all := lw_g (lw_at lw_m1 178 rfl) rfl
theorem q276 : (Jvm.Cond.fieldLink "FireSale" (19 : Nat) "FireSale" "acts" "Ljava/util/ArrayDeque;") ∈ lw_all := lw_g (lw_at lw_m1 179 rfl) rfl
theorem q277 : (Jvm.Cond.fieldLink "FireSale" (314 : Nat) "FireSale" "bestGiven" "[I") ∈ lw_all := lw_g (lw_at lw_m1 180 rfl) rfl
theorem q278 : (Jvm.Cond.fieldLink "FireSale" (317 : Nat) "FireSale" "bestLost" "I") ∈ lw_all := lw_g (lw_at lw_m1 181 rfl) rfl
theorem q280 : (Jvm.Cond.fieldLink "FireSale" (23 : Nat) "FireSale" "tape" "[B") ∈ lw_all := lw_g (lw_at lw_m1 183 rfl) rfl
theorem q282 : (Jvm.Cond.fieldLink "FireSale" (367 : Nat) "FireSale" "taped" "I") ∈ lw_all := lw_g (lw_at lw_m1 185 rfl) rfl
theorem q283 : (Jvm.Cond.lays "FireSale" "FireSale" "now" "LFireSale$Town;") ∈ lw_all := lw_g (lw_at lw_m1 186 rfl) rfl
theorem q284 : (Jvm.Cond.soleField "FireSale" "now") ∈ lw_all := lw_g (lw_at lw_m1 187 rfl) rfl
theorem q285 : (Jvm.Cond.laysFinal "FireSale" "FireSale" "acts" "Ljava/util/ArrayDeque;") ∈ lw_all := lw_g (lw_at lw_m1 188 rfl) rfl
theorem q286 : (Jvm.Cond.soleField "FireSale" "acts") ∈ lw_all := lw_g (lw_at lw_m1 189 rfl) rfl
theorem q287 : (Jvm.Cond.lays "FireSale" "FireSale" "bestGiven" "[I") ∈ lw_all := lw_g (lw_at lw_m1 190 rfl) rfl
theorem q288 : (Jvm.Cond.soleField "FireSale" "bestGiven") ∈ lw_all := lw_g (lw_at lw_m1 191 rfl) rfl
theorem q289 : (Jvm.Cond.lays "FireSale" "FireSale" "bestLost" "I") ∈ lw_all := lw_g (lw_at lw_m1 192 rfl) rfl
theorem q290 : (Jvm.Cond.soleField "FireSale" "bestLost") ∈ lw_all := lw_g (lw_at lw_m1 193 rfl) rfl
theorem q291 : (Jvm.Cond.laysFinal "FireSale" "FireSale" "tape" "[B") ∈ lw_all := lw_g (lw_at lw_m1 194 rfl) rfl
theorem q292 : (Jvm.Cond.soleField "FireSale" "tape") ∈ lw_all := lw_g (lw_at lw_m1 195 rfl) rfl
theorem q293 : (Jvm.Cond.lays "FireSale" "FireSale" "taped" "I") ∈ lw_all := lw_g (lw_at lw_m1 196 rfl) rfl
theorem q294 : (Jvm.Cond.soleField "FireSale" "taped") ∈ lw_all := lw_g (lw_at lw_m1 197 rfl) rfl
theorem q295 : (Jvm.Cond.superclass "FireSale" "java/lang/Object") ∈ lw_all := lw_g (lw_at lw_m1 198 rfl) rfl
theorem q298 : (Jvm.Cond.instanceMethod ({ cls := "FireSale", name := "asset", desc := "(II)I" } : Jvm.MethodName)) ∈ lw_all := lw_g (lw_at lw_m1 201 rfl) rfl
theorem q299 : (Jvm.Cond.selects "FireSale" ({ cls := "FireSale", name := "asset", desc := "(II)I" } : Jvm.MethodName) ({ cls := "FireSale", name := "asset", desc := "(II)I" } : Jvm.MethodName)) ∈ lw_all := lw_g (lw_at lw_m1 202 rfl) rfl
theorem q300 : (Jvm.Cond.code ({ cls := "FireSale", name := "asset", desc := "(II)I" } : Jvm.MethodName) prog_1_method_5_code (4 : Nat) (Option.some Jvm.ClassFile.FieldType.int)) ∈ lw_all := lw_g (lw_at lw_m1 203 rfl) rfl
theorem q301 : (Jvm.Cond.constantLong "FireSale" (43 : Nat) (200 : Int64)) ∈ lw_all := lw_g (lw_at lw_m1 204 rfl) rfl
theorem q302 : (Jvm.Cond.methodLink "FireSale" (45 : Nat) ({ cls := "FireSale", name := "in", desc := "(JJJ)Z" } : Jvm.MethodName)) ∈ lw_all := lw_g (lw_at lw_m1 205 rfl) rfl
theorem q303 : (Jvm.Cond.static ({ cls := "FireSale", name := "in", desc := "(JJJ)Z" } : Jvm.MethodName)) ∈ lw_all := lw_g (lw_at lw_m1 206 rfl) rfl
theorem q304 : (Jvm.Cond.code ({ cls := "FireSale", name := "in", desc := "(JJJ)Z" } : Jvm.MethodName) prog_1_method_1_code (6 : Nat) (Option.some Jvm.ClassFile.FieldType.boolean)) ∈ lw_all := lw_g (lw_at lw_m1 207 rfl) rfl
theorem q305 : (Jvm.Cond.constantLong "FireSale" (49 : Nat) (9 : Int64)) ∈ lw_all := lw_g (lw_at lw_m1 208 rfl) rfl
theorem q306 : (Jvm.Cond.methodLink "FireSale" (55 : Nat) ({ cls := "FireSale", name := "keeps", desc := "()LFireSale$Town;" } : Jvm.MethodName)) ∈ lw_all := lw_g (lw_at lw_m1 209 rfl) rfl
theorem q307 : (Jvm.Cond.privateMethod ({ cls := "FireSale", name := "keeps", desc := "()LFireSale$Town;" } : Jvm.MethodName)) ∈ lw_tbl := lw_at lw_m1 210 rfl
theorem q308 : (Jvm.Cond.instanceMethod ({ cls := "FireSale", name := "keeps", desc := "()LFireSale$Town;" } : Jvm.MethodName)) ∈ lw_all := lw_g (lw_at lw_m1 211 rfl) rfl
theorem q309 : (Jvm.Cond.code ({ cls := "FireSale", name := "keeps", desc := "()LFireSale$Town;" } : Jvm.MethodName) prog_1_method_4_code (1 : Nat) (Option.some (Jvm.ClassFile.FieldType.object "FireSale$Town"))) ∈ lw_all := lw_g (lw_at lw_m1 212 rfl) rfl
theorem q310 : (Jvm.Cond.methodLink "FireSale" (27 : Nat) ({ cls := "java/util/ArrayDeque", name := "size", desc := "()I" } : Jvm.MethodName)) ∈ lw_all := lw_g (lw_at lw_m1 213 rfl) rfl
theorem q317 : (Jvm.Cond.methodLink "FireSale" (31 : Nat) ({ cls := "java/util/ArrayDeque", name := "removeFirst", desc := "()Ljava/lang/Object;" } : Jvm.MethodName)) ∈ lw_all := lw_g (lw_at lw_m1 220 rfl) rfl
theorem q331 : (Jvm.Cond.methodLink "FireSale" (35 : Nat) ({ cls := "FireSale$Town", name := "copy", desc := "()LFireSale$Town;" } : Jvm.MethodName)) ∈ lw_all := lw_g (lw_at lw_m1 234 rfl) rfl
theorem q367 : (Jvm.Cond.methodLink "FireSale" (39 : Nat) ({ cls := "java/util/ArrayDeque", name := "addLast", desc := "(Ljava/lang/Object;)V" } : Jvm.MethodName)) ∈ lw_all := lw_g (lw_at lw_m2 30 rfl) rfl
theorem q387 : (Jvm.Cond.selects "FireSale" ({ cls := "java/lang/Object", name := "getClass", desc := "()Ljava/lang/Class;" } : Jvm.MethodName) ({ cls := "java/lang/Object", name := "getClass", desc := "()Ljava/lang/Class;" } : Jvm.MethodName)) ∈ lw_all := lw_g (lw_at lw_m2 50 rfl) rfl
theorem q415 : (Jvm.Cond.instanceMethod ({ cls := "FireSale", name := "house", desc := "(II)I" } : Jvm.MethodName)) ∈ lw_all := lw_g (lw_at lw_m2 78 rfl) rfl
theorem q416 : (Jvm.Cond.selects "FireSale" ({ cls := "FireSale", name := "house", desc := "(II)I" } : Jvm.MethodName) ({ cls := "FireSale", name := "house", desc := "(II)I" } : Jvm.MethodName)) ∈ lw_all := lw_g (lw_at lw_m2 79 rfl) rfl
theorem q417 : (Jvm.Cond.code ({ cls := "FireSale", name := "house", desc := "(II)I" } : Jvm.MethodName) prog_1_method_6_code (4 : Nat) (Option.some Jvm.ClassFile.FieldType.int)) ∈ lw_all := lw_g (lw_at lw_m2 80 rfl) rfl
theorem q418 : (Jvm.Cond.constantLong "FireSale" (62 : Nat) (9999 : Int64)) ∈ lw_all := lw_g (lw_at lw_m2 81 rfl) rfl
theorem q420 : (Jvm.Cond.instanceMethod ({ cls := "FireSale", name := "set", desc := "(III)I" } : Jvm.MethodName)) ∈ lw_all := lw_g (lw_at lw_m2 83 rfl) rfl
theorem q421 : (Jvm.Cond.selects "FireSale" ({ cls := "FireSale", name := "set", desc := "(III)I" } : Jvm.MethodName) ({ cls := "FireSale", name := "set", desc := "(III)I" } : Jvm.MethodName)) ∈ lw_all := lw_g (lw_at lw_m2 84 rfl) rfl
theorem q422 : (Jvm.Cond.code ({ cls := "FireSale", name := "set", desc := "(III)I" } : Jvm.MethodName) prog_1_method_8_code (5 : Nat) (Option.some Jvm.ClassFile.FieldType.int)) ∈ lw_all := lw_g (lw_at lw_m2 85 rfl) rfl
theorem q423 : (Jvm.Cond.methodLink "FireSale" (72 : Nat) ({ cls := "FireSale$Town", name := "isHouse", desc := "(I)Z" } : Jvm.MethodName)) ∈ lw_all := lw_g (lw_at lw_m2 86 rfl) rfl
theorem q428 : (Jvm.Cond.constantLong "FireSale" (76 : Nat) (4 : Int64)) ∈ lw_all := lw_g (lw_at lw_m2 91 rfl) rfl
theorem q429 : (Jvm.Cond.methodLink "FireSale" (78 : Nat) ({ cls := "FireSale", name := "isOf", desc := "(II)Z" } : Jvm.MethodName)) ∈ lw_all := lw_g (lw_at lw_m2 92 rfl) rfl
theorem q430 : (Jvm.Cond.static ({ cls := "FireSale", name := "isOf", desc := "(II)Z" } : Jvm.MethodName)) ∈ lw_all := lw_g (lw_at lw_m2 93 rfl) rfl
theorem q431 : (Jvm.Cond.code ({ cls := "FireSale", name := "isOf", desc := "(II)Z" } : Jvm.MethodName) prog_1_method_7_code (2 : Nat) (Option.some Jvm.ClassFile.FieldType.boolean)) ∈ lw_all := lw_g (lw_at lw_m2 94 rfl) rfl
theorem q432 : (Jvm.Cond.constantLong "FireSale" (70 : Nat) (99 : Int64)) ∈ lw_all := lw_g (lw_at lw_m2 95 rfl) rfl
theorem q434 : (Jvm.Cond.instanceMethod ({ cls := "FireSale", name := "hold", desc := "(III)I" } : Jvm.MethodName)) ∈ lw_all := lw_g (lw_at lw_m2 97 rfl) rfl
theorem q435 : (Jvm.Cond.selects "FireSale" ({ cls := "FireSale", name := "hold", desc := "(III)I" } : Jvm.MethodName) ({ cls := "FireSale", name := "hold", desc := "(III)I" } : Jvm.MethodName)) ∈ lw_all := lw_g (lw_at lw_m2 98 rfl) rfl
theorem q436 : (Jvm.Cond.code ({ cls := "FireSale", name := "hold", desc := "(III)I" } : Jvm.MethodName) prog_1_method_9_code (5 : Nat) (Option.some Jvm.ClassFile.FieldType.int)) ∈ lw_all := lw_g (lw_at lw_m2 99 rfl) rfl
theorem q437 : (Jvm.Cond.methodLink "FireSale" (82 : Nat) ({ cls := "FireSale$Town", name := "isAsset", desc := "(I)Z" } : Jvm.MethodName)) ∈ lw_all := lw_g (lw_at lw_m2 100 rfl) rfl
theorem q441 : (Jvm.Cond.constantLong "FireSale" (85 : Nat) (60 : Int64)) ∈ lw_all := lw_g (lw_at lw_m2 104 rfl) rfl
theorem q443 : (Jvm.Cond.instanceMethod ({ cls := "FireSale", name := "loan", desc := "(III)I" } : Jvm.MethodName)) ∈ lw_all := lw_g (lw_at lw_m2 106 rfl) rfl
theorem q444 : (Jvm.Cond.selects "FireSale" ({ cls := "FireSale", name := "loan", desc := "(III)I" } : Jvm.MethodName) ({ cls := "FireSale", name := "loan", desc := "(III)I" } : Jvm.MethodName)) ∈ lw_all := lw_g (lw_at lw_m2 107 rfl) rfl
theorem q445 : (Jvm.Cond.code ({ cls := "FireSale", name := "loan", desc := "(III)I" } : Jvm.MethodName) prog_1_method_10_code (5 : Nat) (Option.some Jvm.ClassFile.FieldType.int)) ∈ lw_all := lw_g (lw_at lw_m2 108 rfl) rfl
theorem q446 : (Jvm.Cond.constantLong "FireSale" (90 : Nat) (999 : Int64)) ∈ lw_all := lw_g (lw_at lw_m2 109 rfl) rfl
theorem q448 : (Jvm.Cond.instanceMethod ({ cls := "FireSale", name := "curve", desc := "(III)I" } : Jvm.MethodName)) ∈ lw_all := lw_g (lw_at lw_m2 111 rfl) rfl
theorem q449 : (Jvm.Cond.selects "FireSale" ({ cls := "FireSale", name := "curve", desc := "(III)I" } : Jvm.MethodName) ({ cls := "FireSale", name := "curve", desc := "(III)I" } : Jvm.MethodName)) ∈ lw_all := lw_g (lw_at lw_m2 112 rfl) rfl
theorem q450 : (Jvm.Cond.code ({ cls := "FireSale", name := "curve", desc := "(III)I" } : Jvm.MethodName) prog_1_method_11_code (5 : Nat) (Option.some Jvm.ClassFile.FieldType.int)) ∈ lw_all := lw_g (lw_at lw_m2 113 rfl) rfl
theorem q452 : (Jvm.Cond.instanceMethod ({ cls := "FireSale", name := "lay", desc := "(IIII)I" } : Jvm.MethodName)) ∈ lw_all := lw_g (lw_at lw_m2 115 rfl) rfl
theorem q453 : (Jvm.Cond.selects "FireSale" ({ cls := "FireSale", name := "lay", desc := "(IIII)I" } : Jvm.MethodName) ({ cls := "FireSale", name := "lay", desc := "(IIII)I" } : Jvm.MethodName)) ∈ lw_all := lw_g (lw_at lw_m2 116 rfl) rfl
theorem q454 : (Jvm.Cond.code ({ cls := "FireSale", name := "lay", desc := "(IIII)I" } : Jvm.MethodName) prog_1_method_12_code (6 : Nat) (Option.some Jvm.ClassFile.FieldType.int)) ∈ lw_all := lw_g (lw_at lw_m2 117 rfl) rfl
theorem q455 : (Jvm.Cond.constantLong "FireSale" (95 : Nat) (2 : Int64)) ∈ lw_all := lw_g (lw_at lw_m2 118 rfl) rfl
theorem q456 : (Jvm.Cond.constantLong "FireSale" (97 : Nat) (360 : Int64)) ∈ lw_all := lw_g (lw_at lw_m2 119 rfl) rfl
theorem q457 : (Jvm.Cond.classLink "FireSale" (99 : Nat) "FireSale$Cap") ∈ lw_all := lw_g (lw_at lw_m2 120 rfl) rfl
theorem q459 : (Jvm.Cond.methodLink "FireSale" (101 : Nat) ({ cls := "FireSale$Cap", name := "<init>", desc := "(II)V" } : Jvm.MethodName)) ∈ lw_all := lw_g (lw_at lw_m2 122 rfl) rfl
theorem q468 : (Jvm.Cond.fieldLink "FireSale" (189 : Nat) "FireSale$Rule" "asset" "I") ∈ lw_all := lw_g (lw_at lw_m2 131 rfl) rfl
theorem q474 : (Jvm.Cond.fieldLink "FireSale" (192 : Nat) "FireSale$Rule" "much" "I") ∈ lw_all := lw_g (lw_at lw_m2 137 rfl) rfl
theorem q481 : (Jvm.Cond.classLink "FireSale" (104 : Nat) "FireSale$Shock") ∈ lw_all := lw_g (lw_at lw_m2 144 rfl) rfl
theorem q483 : (Jvm.Cond.methodLink "FireSale" (106 : Nat) ({ cls := "FireSale$Shock", name := "<init>", desc := "(II)V" } : Jvm.MethodName)) ∈ lw_all := lw_g (lw_at lw_m2 146 rfl) rfl
theorem q490 : (Jvm.Cond.methodLink "FireSale" (111 : Nat) ({ cls := "FireSale$Shelf", name := "takes", desc := "(LFireSale$Rule;)Z" } : Jvm.MethodName)) ∈ lw_all := lw_g (lw_at lw_m2 153 rfl) rfl
theorem q563 : (Jvm.Cond.methodLink "FireSale" (120 : Nat) ({ cls := "FireSale$Shelf", name := "lays", desc := "(LFireSale$Rule;)I" } : Jvm.MethodName)) ∈ lw_all := lw_g (lw_at lw_m2 226 rfl) rfl
theorem q568 : (Jvm.Cond.instanceMethod ({ cls := "FireSale", name := "lift", desc := "(II)I" } : Jvm.MethodName)) ∈ lw_all := lw_g (lw_at lw_m2 231 rfl) rfl
theorem q569 : (Jvm.Cond.selects "FireSale" ({ cls := "FireSale", name := "lift", desc := "(II)I" } : Jvm.MethodName) ({ cls := "FireSale", name := "lift", desc := "(II)I" } : Jvm.MethodName)) ∈ lw_all := lw_g (lw_at lw_m2 232 rfl) rfl
theorem q570 : (Jvm.Cond.code ({ cls := "FireSale", name := "lift", desc := "(II)I" } : Jvm.MethodName) prog_1_method_13_code (3 : Nat) (Option.some Jvm.ClassFile.FieldType.int)) ∈ lw_all := lw_g (lw_at lw_m2 233 rfl) rfl
theorem q571 : (Jvm.Cond.methodLink "FireSale" (124 : Nat) ({ cls := "FireSale$Shelf", name := "lifts", desc := "(I)I" } : Jvm.MethodName)) ∈ lw_all := lw_g (lw_at lw_m2 234 rfl) rfl
theorem q577 : (Jvm.Cond.instanceMethod ({ cls := "FireSale", name := "net", desc := "(II)I" } : Jvm.MethodName)) ∈ lw_all := lw_g (lw_at lw_m3 0 rfl) rfl
theorem q578 : (Jvm.Cond.selects "FireSale" ({ cls := "FireSale", name := "net", desc := "(II)I" } : Jvm.MethodName) ({ cls := "FireSale", name := "net", desc := "(II)I" } : Jvm.MethodName)) ∈ lw_all := lw_g (lw_at lw_m3 1 rfl) rfl
theorem q579 : (Jvm.Cond.code ({ cls := "FireSale", name := "net", desc := "(II)I" } : Jvm.MethodName) prog_1_method_14_code (5 : Nat) (Option.some Jvm.ClassFile.FieldType.int)) ∈ lw_all := lw_g (lw_at lw_m3 2 rfl) rfl
theorem q580 : (Jvm.Cond.methodLink "FireSale" (128 : Nat) ({ cls := "java/lang/Math", name := "min", desc := "(II)I" } : Jvm.MethodName)) ∈ lw_all := lw_g (lw_at lw_m3 3 rfl) rfl
theorem q582 : (Jvm.Cond.instanceMethod ({ cls := "FireSale", name := "merge", desc := "(II)I" } : Jvm.MethodName)) ∈ lw_all := lw_g (lw_at lw_m3 5 rfl) rfl
theorem q583 : (Jvm.Cond.selects "FireSale" ({ cls := "FireSale", name := "merge", desc := "(II)I" } : Jvm.MethodName) ({ cls := "FireSale", name := "merge", desc := "(II)I" } : Jvm.MethodName)) ∈ lw_all := lw_g (lw_at lw_m3 6 rfl) rfl
theorem q584 : (Jvm.Cond.code ({ cls := "FireSale", name := "merge", desc := "(II)I" } : Jvm.MethodName) prog_1_method_15_code (3 : Nat) (Option.some Jvm.ClassFile.FieldType.int)) ∈ lw_all := lw_g (lw_at lw_m3 7 rfl) rfl
theorem q585 : (Jvm.Cond.methodLink "FireSale" (134 : Nat) ({ cls := "FireSale$Town", name := "merges", desc := "(II)V" } : Jvm.MethodName)) ∈ lw_all := lw_g (lw_at lw_m3 8 rfl) rfl
theorem q595 : (Jvm.Cond.instanceMethod ({ cls := "FireSale", name := "close", desc := "(I)I" } : Jvm.MethodName)) ∈ lw_all := lw_g (lw_at lw_m3 18 rfl) rfl
theorem q596 : (Jvm.Cond.selects "FireSale" ({ cls := "FireSale", name := "close", desc := "(I)I" } : Jvm.MethodName) ({ cls := "FireSale", name := "close", desc := "(I)I" } : Jvm.MethodName)) ∈ lw_all := lw_g (lw_at lw_m3 19 rfl) rfl
theorem q597 : (Jvm.Cond.code ({ cls := "FireSale", name := "close", desc := "(I)I" } : Jvm.MethodName) prog_1_method_16_code (2 : Nat) (Option.some Jvm.ClassFile.FieldType.int)) ∈ lw_all := lw_g (lw_at lw_m3 20 rfl) rfl
theorem q598 : (Jvm.Cond.methodLink "FireSale" (137 : Nat) ({ cls := "FireSale$Town", name := "leaves", desc := "(I)V" } : Jvm.MethodName)) ∈ lw_all := lw_g (lw_at lw_m3 21 rfl) rfl
theorem q600 : (Jvm.Cond.instanceMethod ({ cls := "FireSale", name := "live", desc := "()I" } : Jvm.MethodName)) ∈ lw_all := lw_g (lw_at lw_m3 23 rfl) rfl
theorem q601 : (Jvm.Cond.selects "FireSale" ({ cls := "FireSale", name := "live", desc := "()I" } : Jvm.MethodName) ({ cls := "FireSale", name := "live", desc := "()I" } : Jvm.MethodName)) ∈ lw_all := lw_g (lw_at lw_m3 24 rfl) rfl
theorem q602 : (Jvm.Cond.code ({ cls := "FireSale", name := "live", desc := "()I" } : Jvm.MethodName) prog_1_method_17_code (2 : Nat) (Option.some Jvm.ClassFile.FieldType.int)) ∈ lw_all := lw_g (lw_at lw_m3 25 rfl) rfl
theorem q603 : (Jvm.Cond.methodLink "FireSale" (141 : Nat) ({ cls := "FireSale$Town", name := "least", desc := "()LFireSale$State;" } : Jvm.MethodName)) ∈ lw_all := lw_g (lw_at lw_m3 26 rfl) rfl
theorem q657 : (Jvm.Cond.static ({ cls := "FireSale", name := "has", desc := "(II)Z" } : Jvm.MethodName)) ∈ lw_all := lw_g (lw_at lw_m3 80 rfl) rfl
theorem q658 : (Jvm.Cond.code ({ cls := "FireSale", name := "has", desc := "(II)Z" } : Jvm.MethodName) prog_1_method_2_code (2 : Nat) (Option.some Jvm.ClassFile.FieldType.boolean)) ∈ lw_all := lw_g (lw_at lw_m3 81 rfl) rfl
theorem q802 : (Jvm.Cond.methodLink "FireSale" (150 : Nat) ({ cls := "FireSale$Town", name := "soldAll", desc := "(LFireSale$State;)I" } : Jvm.MethodName)) ∈ lw_all := lw_g (lw_at lw_m3 225 rfl) rfl
theorem q806 : (Jvm.Cond.methodLink "FireSale" (154 : Nat) ({ cls := "FireSale$Town", name := "lives", desc := "()I" } : Jvm.MethodName)) ∈ lw_all := lw_g (lw_at lw_m3 229 rfl) rfl
theorem q833 : (Jvm.Cond.instanceMethod ({ cls := "FireSale", name := "undo", desc := "()I" } : Jvm.MethodName)) ∈ lw_all := lw_g (lw_at lw_m4 16 rfl) rfl
theorem q834 : (Jvm.Cond.selects "FireSale" ({ cls := "FireSale", name := "undo", desc := "()I" } : Jvm.MethodName) ({ cls := "FireSale", name := "undo", desc := "()I" } : Jvm.MethodName)) ∈ lw_all := lw_g (lw_at lw_m4 17 rfl) rfl
theorem q835 : (Jvm.Cond.code ({ cls := "FireSale", name := "undo", desc := "()I" } : Jvm.MethodName) prog_1_method_18_code (1 : Nat) (Option.some Jvm.ClassFile.FieldType.int)) ∈ lw_all := lw_g (lw_at lw_m4 18 rfl) rfl
theorem q836 : (Jvm.Cond.methodLink "FireSale" (157 : Nat) ({ cls := "java/util/ArrayDeque", name := "isEmpty", desc := "()Z" } : Jvm.MethodName)) ∈ lw_all := lw_g (lw_at lw_m4 19 rfl) rfl
theorem q840 : (Jvm.Cond.methodLink "FireSale" (161 : Nat) ({ cls := "java/util/ArrayDeque", name := "removeLast", desc := "()Ljava/lang/Object;" } : Jvm.MethodName)) ∈ lw_all := lw_g (lw_at lw_m4 23 rfl) rfl
theorem q852 : (Jvm.Cond.instanceMethod ({ cls := "FireSale", name := "of", desc := "(II)I" } : Jvm.MethodName)) ∈ lw_all := lw_g (lw_at lw_m4 35 rfl) rfl
theorem q853 : (Jvm.Cond.selects "FireSale" ({ cls := "FireSale", name := "of", desc := "(II)I" } : Jvm.MethodName) ({ cls := "FireSale", name := "of", desc := "(II)I" } : Jvm.MethodName)) ∈ lw_all := lw_g (lw_at lw_m4 36 rfl) rfl
theorem q854 : (Jvm.Cond.code ({ cls := "FireSale", name := "of", desc := "(II)I" } : Jvm.MethodName) prog_1_method_19_code (3 : Nat) (Option.some Jvm.ClassFile.FieldType.int)) ∈ lw_all := lw_g (lw_at lw_m4 37 rfl) rfl
theorem q855 : (Jvm.Cond.methodLinkNest "FireSale" (164 : Nat) ({ cls := "FireSale$Town", name := "pieces", desc := "(I)I" } : Jvm.MethodName) "FireSale") ∈ lw_tbl := lw_at lw_m4 38 rfl
theorem q856 : (Jvm.Cond.methodLink "FireSale" (167 : Nat) ({ cls := "FireSale", name := "loansOf", desc := "(IZ)I" } : Jvm.MethodName)) ∈ lw_all := lw_g (lw_at lw_m4 39 rfl) rfl
theorem q857 : (Jvm.Cond.privateMethod ({ cls := "FireSale", name := "loansOf", desc := "(IZ)I" } : Jvm.MethodName)) ∈ lw_tbl := lw_at lw_m4 40 rfl
theorem q858 : (Jvm.Cond.instanceMethod ({ cls := "FireSale", name := "loansOf", desc := "(IZ)I" } : Jvm.MethodName)) ∈ lw_all := lw_g (lw_at lw_m4 41 rfl) rfl
theorem q859 : (Jvm.Cond.code ({ cls := "FireSale", name := "loansOf", desc := "(IZ)I" } : Jvm.MethodName) prog_1_method_20_code (5 : Nat) (Option.some Jvm.ClassFile.FieldType.int)) ∈ lw_all := lw_g (lw_at lw_m4 42 rfl) rfl
theorem q861 : (Jvm.Cond.instanceMethod ({ cls := "FireSale", name := "holding", desc := "(II)I" } : Jvm.MethodName)) ∈ lw_all := lw_g (lw_at lw_m4 44 rfl) rfl
theorem q862 : (Jvm.Cond.selects "FireSale" ({ cls := "FireSale", name := "holding", desc := "(II)I" } : Jvm.MethodName) ({ cls := "FireSale", name := "holding", desc := "(II)I" } : Jvm.MethodName)) ∈ lw_all := lw_g (lw_at lw_m4 45 rfl) rfl
theorem q863 : (Jvm.Cond.code ({ cls := "FireSale", name := "holding", desc := "(II)I" } : Jvm.MethodName) prog_1_method_21_code (3 : Nat) (Option.some Jvm.ClassFile.FieldType.int)) ∈ lw_all := lw_g (lw_at lw_m4 46 rfl) rfl
theorem q865 : (Jvm.Cond.instanceMethod ({ cls := "FireSale", name := "owes", desc := "(II)I" } : Jvm.MethodName)) ∈ lw_all := lw_g (lw_at lw_m4 48 rfl) rfl
theorem q866 : (Jvm.Cond.selects "FireSale" ({ cls := "FireSale", name := "owes", desc := "(II)I" } : Jvm.MethodName) ({ cls := "FireSale", name := "owes", desc := "(II)I" } : Jvm.MethodName)) ∈ lw_all := lw_g (lw_at lw_m4 49 rfl) rfl
theorem q867 : (Jvm.Cond.code ({ cls := "FireSale", name := "owes", desc := "(II)I" } : Jvm.MethodName) prog_1_method_22_code (3 : Nat) (Option.some Jvm.ClassFile.FieldType.int)) ∈ lw_all := lw_g (lw_at lw_m4 50 rfl) rfl
theorem q869 : (Jvm.Cond.instanceMethod ({ cls := "FireSale", name := "ofAsset", desc := "(II)I" } : Jvm.MethodName)) ∈ lw_all := lw_g (lw_at lw_m4 52 rfl) rfl
theorem q870 : (Jvm.Cond.selects "FireSale" ({ cls := "FireSale", name := "ofAsset", desc := "(II)I" } : Jvm.MethodName) ({ cls := "FireSale", name := "ofAsset", desc := "(II)I" } : Jvm.MethodName)) ∈ lw_all := lw_g (lw_at lw_m4 53 rfl) rfl
theorem q871 : (Jvm.Cond.code ({ cls := "FireSale", name := "ofAsset", desc := "(II)I" } : Jvm.MethodName) prog_1_method_23_code (3 : Nat) (Option.some Jvm.ClassFile.FieldType.int)) ∈ lw_all := lw_g (lw_at lw_m4 54 rfl) rfl
theorem q872 : (Jvm.Cond.methodLink "FireSale" (171 : Nat) ({ cls := "FireSale$Town", name := "held", desc := "(I)I" } : Jvm.MethodName)) ∈ lw_all := lw_g (lw_at lw_m4 55 rfl) rfl
theorem q876 : (Jvm.Cond.methodLink "FireSale" (174 : Nat) ({ cls := "FireSale$Town", name := "cap", desc := "(I)I" } : Jvm.MethodName)) ∈ lw_all := lw_g (lw_at lw_m4 59 rfl) rfl
theorem q877 : (Jvm.Cond.methodLink "FireSale" (177 : Nat) ({ cls := "FireSale$Town", name := "shocks", desc := "(I)I" } : Jvm.MethodName)) ∈ lw_all := lw_g (lw_at lw_m4 60 rfl) rfl
theorem q879 : (Jvm.Cond.instanceMethod ({ cls := "FireSale", name := "shelf", desc := "(III)I" } : Jvm.MethodName)) ∈ lw_all := lw_g (lw_at lw_m4 62 rfl) rfl
theorem q880 : (Jvm.Cond.selects "FireSale" ({ cls := "FireSale", name := "shelf", desc := "(III)I" } : Jvm.MethodName) ({ cls := "FireSale", name := "shelf", desc := "(III)I" } : Jvm.MethodName)) ∈ lw_all := lw_g (lw_at lw_m4 63 rfl) rfl
theorem q881 : (Jvm.Cond.code ({ cls := "FireSale", name := "shelf", desc := "(III)I" } : Jvm.MethodName) prog_1_method_24_code (5 : Nat) (Option.some Jvm.ClassFile.FieldType.int)) ∈ lw_all := lw_g (lw_at lw_m4 64 rfl) rfl
theorem q882 : (Jvm.Cond.methodLink "FireSale" (184 : Nat) ({ cls := "FireSale$Rule", name := "kind", desc := "()I" } : Jvm.MethodName)) ∈ lw_all := lw_g (lw_at lw_m4 65 rfl) rfl
theorem q892 : (Jvm.Cond.instanceMethod ({ cls := "FireSale", name := "state", desc := "(II)I" } : Jvm.MethodName)) ∈ lw_all := lw_g (lw_at lw_m4 75 rfl) rfl
theorem q893 : (Jvm.Cond.selects "FireSale" ({ cls := "FireSale", name := "state", desc := "(II)I" } : Jvm.MethodName) ({ cls := "FireSale", name := "state", desc := "(II)I" } : Jvm.MethodName)) ∈ lw_all := lw_g (lw_at lw_m4 76 rfl) rfl
theorem q894 : (Jvm.Cond.code ({ cls := "FireSale", name := "state", desc := "(II)I" } : Jvm.MethodName) prog_1_method_26_code (3 : Nat) (Option.some Jvm.ClassFile.FieldType.int)) ∈ lw_all := lw_g (lw_at lw_m4 77 rfl) rfl
theorem q895 : (Jvm.Cond.methodLink "FireSale" (197 : Nat) ({ cls := "FireSale", name := "isState", desc := "(I)Z" } : Jvm.MethodName)) ∈ lw_all := lw_g (lw_at lw_m4 78 rfl) rfl
theorem q896 : (Jvm.Cond.static ({ cls := "FireSale", name := "isState", desc := "(I)Z" } : Jvm.MethodName)) ∈ lw_all := lw_g (lw_at lw_m4 79 rfl) rfl
theorem q897 : (Jvm.Cond.code ({ cls := "FireSale", name := "isState", desc := "(I)Z" } : Jvm.MethodName) prog_1_method_25_code (1 : Nat) (Option.some Jvm.ClassFile.FieldType.boolean)) ∈ lw_all := lw_g (lw_at lw_m4 80 rfl) rfl
theorem q898 : (Jvm.Cond.constantLong "FireSale" (195 : Nat) (3 : Int64)) ∈ lw_all := lw_g (lw_at lw_m4 81 rfl) rfl
theorem q899 : (Jvm.Cond.constantLong "FireSale" (200 : Nat) (7 : Int64)) ∈ lw_all := lw_g (lw_at lw_m4 82 rfl) rfl
theorem q900 : (Jvm.Cond.methodLink "FireSale" (202 : Nat) ({ cls := "FireSale$Town", name := "state", desc := "(I)LFireSale$State;" } : Jvm.MethodName)) ∈ lw_all := lw_g (lw_at lw_m4 83 rfl) rfl
theorem q909 : (Jvm.Cond.methodLink "FireSale" (206 : Nat) ({ cls := "FireSale$Town", name := "tells", desc := "(LFireSale$State;I)I" } : Jvm.MethodName)) ∈ lw_all := lw_g (lw_at lw_m4 92 rfl) rfl
theorem q929 : (Jvm.Cond.instanceMethod ({ cls := "FireSale", name := "rounds", desc := "(Z)I" } : Jvm.MethodName)) ∈ lw_all := lw_g (lw_at lw_m4 112 rfl) rfl
theorem q930 : (Jvm.Cond.selects "FireSale" ({ cls := "FireSale", name := "rounds", desc := "(Z)I" } : Jvm.MethodName) ({ cls := "FireSale", name := "rounds", desc := "(Z)I" } : Jvm.MethodName)) ∈ lw_all := lw_g (lw_at lw_m4 113 rfl) rfl
theorem q931 : (Jvm.Cond.code ({ cls := "FireSale", name := "rounds", desc := "(Z)I" } : Jvm.MethodName) prog_1_method_27_code (2 : Nat) (Option.some Jvm.ClassFile.FieldType.int)) ∈ lw_all := lw_g (lw_at lw_m4 114 rfl) rfl
theorem q932 : (Jvm.Cond.methodLink "FireSale" (210 : Nat) ({ cls := "FireSale$Town", name := "panic", desc := "()LFireSale$State;" } : Jvm.MethodName)) ∈ lw_all := lw_g (lw_at lw_m4 115 rfl) rfl
theorem q933 : (Jvm.Cond.methodLink "FireSale" (213 : Nat) ({ cls := "FireSale$Town", name := "calm", desc := "()LFireSale$State;" } : Jvm.MethodName)) ∈ lw_all := lw_g (lw_at lw_m4 116 rfl) rfl
theorem q934 : (Jvm.Cond.methodLink "FireSale" (216 : Nat) ({ cls := "FireSale$Town", name := "rounds", desc := "(LFireSale$State;)I" } : Jvm.MethodName)) ∈ lw_all := lw_g (lw_at lw_m4 117 rfl) rfl
theorem q939 : (Jvm.Cond.instanceMethod ({ cls := "FireSale", name := "price", desc := "(II)I" } : Jvm.MethodName)) ∈ lw_all := lw_g (lw_at lw_m4 122 rfl) rfl
theorem q940 : (Jvm.Cond.selects "FireSale" ({ cls := "FireSale", name := "price", desc := "(II)I" } : Jvm.MethodName) ({ cls := "FireSale", name := "price", desc := "(II)I" } : Jvm.MethodName)) ∈ lw_all := lw_g (lw_at lw_m4 123 rfl) rfl
theorem q941 : (Jvm.Cond.code ({ cls := "FireSale", name := "price", desc := "(II)I" } : Jvm.MethodName) prog_1_method_28_code (3 : Nat) (Option.some Jvm.ClassFile.FieldType.int)) ∈ lw_all := lw_g (lw_at lw_m4 124 rfl) rfl
theorem q942 : (Jvm.Cond.methodLink "FireSale" (219 : Nat) ({ cls := "FireSale$Town", name := "price", desc := "(LFireSale$State;I)I" } : Jvm.MethodName)) ∈ lw_all := lw_g (lw_at lw_m4 125 rfl) rfl
theorem q944 : (Jvm.Cond.instanceMethod ({ cls := "FireSale", name := "worth", desc := "(II)I" } : Jvm.MethodName)) ∈ lw_all := lw_g (lw_at lw_m4 127 rfl) rfl
theorem q945 : (Jvm.Cond.selects "FireSale" ({ cls := "FireSale", name := "worth", desc := "(II)I" } : Jvm.MethodName) ({ cls := "FireSale", name := "worth", desc := "(II)I" } : Jvm.MethodName)) ∈ lw_all := lw_g (lw_at lw_m4 128 rfl) rfl
theorem q946 : (Jvm.Cond.code ({ cls := "FireSale", name := "worth", desc := "(II)I" } : Jvm.MethodName) prog_1_method_29_code (3 : Nat) (Option.some Jvm.ClassFile.FieldType.int)) ∈ lw_all := lw_g (lw_at lw_m4 129 rfl) rfl
theorem q947 : (Jvm.Cond.methodLink "FireSale" (222 : Nat) ({ cls := "FireSale$Town", name := "worth", desc := "(LFireSale$State;I)I" } : Jvm.MethodName)) ∈ lw_all := lw_g (lw_at lw_m4 130 rfl) rfl
theorem q948 : (Jvm.Cond.constant "FireSale" (225 : Nat) (-1000000 : Int32)) ∈ lw_all := lw_g (lw_at lw_m4 131 rfl) rfl
theorem q950 : (Jvm.Cond.instanceMethod ({ cls := "FireSale", name := "mustSell", desc := "(III)I" } : Jvm.MethodName)) ∈ lw_all := lw_g (lw_at lw_m4 133 rfl) rfl
theorem q951 : (Jvm.Cond.selects "FireSale" ({ cls := "FireSale", name := "mustSell", desc := "(III)I" } : Jvm.MethodName) ({ cls := "FireSale", name := "mustSell", desc := "(III)I" } : Jvm.MethodName)) ∈ lw_all := lw_g (lw_at lw_m4 134 rfl) rfl
theorem q952 : (Jvm.Cond.code ({ cls := "FireSale", name := "mustSell", desc := "(III)I" } : Jvm.MethodName) prog_1_method_30_code (5 : Nat) (Option.some Jvm.ClassFile.FieldType.int)) ∈ lw_all := lw_g (lw_at lw_m4 135 rfl) rfl
theorem q953 : (Jvm.Cond.methodLink "FireSale" (226 : Nat) ({ cls := "FireSale$Town", name := "mustSell", desc := "(LFireSale$State;I)I" } : Jvm.MethodName)) ∈ lw_all := lw_g (lw_at lw_m4 136 rfl) rfl
theorem q954 : (Jvm.Cond.methodLink "FireSale" (229 : Nat) ({ cls := "FireSale$Town", name := "sells", desc := "(LFireSale$State;I)[I" } : Jvm.MethodName)) ∈ lw_all := lw_g (lw_at lw_m4 137 rfl) rfl
theorem q956 : (Jvm.Cond.instanceMethod ({ cls := "FireSale", name := "round", desc := "(II)I" } : Jvm.MethodName)) ∈ lw_all := lw_g (lw_at lw_m4 139 rfl) rfl
theorem q957 : (Jvm.Cond.selects "FireSale" ({ cls := "FireSale", name := "round", desc := "(II)I" } : Jvm.MethodName) ({ cls := "FireSale", name := "round", desc := "(II)I" } : Jvm.MethodName)) ∈ lw_all := lw_g (lw_at lw_m4 140 rfl) rfl
theorem q958 : (Jvm.Cond.code ({ cls := "FireSale", name := "round", desc := "(II)I" } : Jvm.MethodName) prog_1_method_31_code (3 : Nat) (Option.some Jvm.ClassFile.FieldType.int)) ∈ lw_all := lw_g (lw_at lw_m4 141 rfl) rfl
theorem q959 : (Jvm.Cond.constantLong "FireSale" (233 : Nat) (2000 : Int64)) ∈ lw_all := lw_g (lw_at lw_m4 142 rfl) rfl
theorem q960 : (Jvm.Cond.methodLink "FireSale" (235 : Nat) ({ cls := "FireSale$Town", name := "behind", desc := "(I)LFireSale$State;" } : Jvm.MethodName)) ∈ lw_all := lw_g (lw_at lw_m4 143 rfl) rfl
theorem q965 : (Jvm.Cond.instanceMethod ({ cls := "FireSale", name := "worthIn", desc := "(II)I" } : Jvm.MethodName)) ∈ lw_all := lw_g (lw_at lw_m4 148 rfl) rfl
theorem q966 : (Jvm.Cond.selects "FireSale" ({ cls := "FireSale", name := "worthIn", desc := "(II)I" } : Jvm.MethodName) ({ cls := "FireSale", name := "worthIn", desc := "(II)I" } : Jvm.MethodName)) ∈ lw_all := lw_g (lw_at lw_m4 149 rfl) rfl
theorem q967 : (Jvm.Cond.code ({ cls := "FireSale", name := "worthIn", desc := "(II)I" } : Jvm.MethodName) prog_1_method_32_code (3 : Nat) (Option.some Jvm.ClassFile.FieldType.int)) ∈ lw_all := lw_g (lw_at lw_m4 150 rfl) rfl
theorem q969 : (Jvm.Cond.instanceMethod ({ cls := "FireSale", name := "sharpest", desc := "()I" } : Jvm.MethodName)) ∈ lw_all := lw_g (lw_at lw_m4 152 rfl) rfl
theorem q970 : (Jvm.Cond.selects "FireSale" ({ cls := "FireSale", name := "sharpest", desc := "()I" } : Jvm.MethodName) ({ cls := "FireSale", name := "sharpest", desc := "()I" } : Jvm.MethodName)) ∈ lw_all := lw_g (lw_at lw_m4 153 rfl) rfl
theorem q971 : (Jvm.Cond.code ({ cls := "FireSale", name := "sharpest", desc := "()I" } : Jvm.MethodName) prog_1_method_33_code (9 : Nat) (Option.some Jvm.ClassFile.FieldType.int)) ∈ lw_all := lw_g (lw_at lw_m4 154 rfl) rfl
theorem q972 : (Jvm.Cond.methodLink "FireSale" (238 : Nat) ({ cls := "FireSale$Town", name := "next", desc := "(LFireSale$State;LFireSale$State;)V" } : Jvm.MethodName)) ∈ lw_all := lw_g (lw_at lw_m4 155 rfl) rfl
theorem q973 : (Jvm.Cond.methodLink "FireSale" (242 : Nat) ({ cls := "FireSale$State", name := "like", desc := "(LFireSale$State;)V" } : Jvm.MethodName)) ∈ lw_all := lw_g (lw_at lw_m4 156 rfl) rfl
theorem q974 : (Jvm.Cond.methodLink "FireSale" (246 : Nat) ({ cls := "FireSale$Town", name := "lost", desc := "(LFireSale$State;)I" } : Jvm.MethodName)) ∈ lw_all := lw_g (lw_at lw_m4 157 rfl) rfl
theorem q976 : (Jvm.Cond.instanceMethod ({ cls := "FireSale", name := "ranked", desc := "(I)I" } : Jvm.MethodName)) ∈ lw_all := lw_g (lw_at lw_m4 159 rfl) rfl
theorem q977 : (Jvm.Cond.selects "FireSale" ({ cls := "FireSale", name := "ranked", desc := "(I)I" } : Jvm.MethodName) ({ cls := "FireSale", name := "ranked", desc := "(I)I" } : Jvm.MethodName)) ∈ lw_all := lw_g (lw_at lw_m4 160 rfl) rfl
theorem q978 : (Jvm.Cond.code ({ cls := "FireSale", name := "ranked", desc := "(I)I" } : Jvm.MethodName) prog_1_method_34_code (6 : Nat) (Option.some Jvm.ClassFile.FieldType.int)) ∈ lw_all := lw_g (lw_at lw_m4 161 rfl) rfl
theorem q979 : (Jvm.Cond.methodLink "FireSale" (249 : Nat) ({ cls := "FireSale$Town", name := "falls", desc := "()[I" } : Jvm.MethodName)) ∈ lw_all := lw_g (lw_at lw_m4 162 rfl) rfl
theorem q985 : (Jvm.Cond.instanceMethod ({ cls := "FireSale", name := "fellIn", desc := "(I)I" } : Jvm.MethodName)) ∈ lw_all := lw_g (lw_at lw_m4 168 rfl) rfl
theorem q986 : (Jvm.Cond.selects "FireSale" ({ cls := "FireSale", name := "fellIn", desc := "(I)I" } : Jvm.MethodName) ({ cls := "FireSale", name := "fellIn", desc := "(I)I" } : Jvm.MethodName)) ∈ lw_all := lw_g (lw_at lw_m4 169 rfl) rfl
theorem q987 : (Jvm.Cond.code ({ cls := "FireSale", name := "fellIn", desc := "(I)I" } : Jvm.MethodName) prog_1_method_35_code (3 : Nat) (Option.some Jvm.ClassFile.FieldType.int)) ∈ lw_all := lw_g (lw_at lw_m4 170 rfl) rfl
theorem q989 : (Jvm.Cond.instanceMethod ({ cls := "FireSale", name := "next", desc := "(IIII)I" } : Jvm.MethodName)) ∈ lw_all := lw_g (lw_at lw_m4 172 rfl) rfl
theorem q990 : (Jvm.Cond.selects "FireSale" ({ cls := "FireSale", name := "next", desc := "(IIII)I" } : Jvm.MethodName) ({ cls := "FireSale", name := "next", desc := "(IIII)I" } : Jvm.MethodName)) ∈ lw_all := lw_g (lw_at lw_m4 173 rfl) rfl
theorem q991 : (Jvm.Cond.code ({ cls := "FireSale", name := "next", desc := "(IIII)I" } : Jvm.MethodName) prog_1_method_37_code (6 : Nat) (Option.some Jvm.ClassFile.FieldType.int)) ∈ lw_all := lw_g (lw_at lw_m4 174 rfl) rfl
theorem q992 : (Jvm.Cond.methodLink "FireSale" (258 : Nat) ({ cls := "FireSale", name := "told", desc := "(III)LFireSale$State;" } : Jvm.MethodName)) ∈ lw_all := lw_g (lw_at lw_m4 175 rfl) rfl
theorem q993 : (Jvm.Cond.privateMethod ({ cls := "FireSale", name := "told", desc := "(III)LFireSale$State;" } : Jvm.MethodName)) ∈ lw_tbl := lw_at lw_m4 176 rfl
theorem q994 : (Jvm.Cond.instanceMethod ({ cls := "FireSale", name := "told", desc := "(III)LFireSale$State;" } : Jvm.MethodName)) ∈ lw_all := lw_g (lw_at lw_m4 177 rfl) rfl
theorem q995 : (Jvm.Cond.code ({ cls := "FireSale", name := "told", desc := "(III)LFireSale$State;" } : Jvm.MethodName) prog_1_method_36_code (7 : Nat) (Option.some (Jvm.ClassFile.FieldType.object "FireSale$State"))) ∈ lw_all := lw_g (lw_at lw_m4 178 rfl) rfl
theorem q996 : (Jvm.Cond.classLink "FireSale" (146 : Nat) "FireSale$State") ∈ lw_all := lw_g (lw_at lw_m4 179 rfl) rfl
theorem q997 : (Jvm.Cond.methodLinkNest "FireSale" (253 : Nat) ({ cls := "FireSale$State", name := "<init>", desc := "()V" } : Jvm.MethodName) "FireSale") ∈ lw_tbl := lw_at lw_m4 180 rfl
theorem q998 : (Jvm.Cond.methodLink "FireSale" (262 : Nat) ({ cls := "FireSale$Town", name := "behind", desc := "(LFireSale$State;I)LFireSale$State;" } : Jvm.MethodName)) ∈ lw_all := lw_g (lw_at lw_m4 181 rfl) rfl
theorem q1003 : (Jvm.Cond.instanceMethod ({ cls := "FireSale", name := "isSteady", desc := "(III)I" } : Jvm.MethodName)) ∈ lw_all := lw_g (lw_at lw_m4 186 rfl) rfl
theorem q1004 : (Jvm.Cond.selects "FireSale" ({ cls := "FireSale", name := "isSteady", desc := "(III)I" } : Jvm.MethodName) ({ cls := "FireSale", name := "isSteady", desc := "(III)I" } : Jvm.MethodName)) ∈ lw_all := lw_g (lw_at lw_m4 187 rfl) rfl
theorem q1005 : (Jvm.Cond.code ({ cls := "FireSale", name := "isSteady", desc := "(III)I" } : Jvm.MethodName) prog_1_method_38_code (5 : Nat) (Option.some Jvm.ClassFile.FieldType.int)) ∈ lw_all := lw_g (lw_at lw_m4 188 rfl) rfl
theorem q1006 : (Jvm.Cond.methodLink "FireSale" (265 : Nat) ({ cls := "FireSale$State", name := "isLike", desc := "(LFireSale$State;)Z" } : Jvm.MethodName)) ∈ lw_all := lw_g (lw_at lw_m4 189 rfl) rfl
theorem q1008 : (Jvm.Cond.instanceMethod ({ cls := "FireSale", name := "index", desc := "(I)I" } : Jvm.MethodName)) ∈ lw_all := lw_g (lw_at lw_m4 191 rfl) rfl
theorem q1009 : (Jvm.Cond.selects "FireSale" ({ cls := "FireSale", name := "index", desc := "(I)I" } : Jvm.MethodName) ({ cls := "FireSale", name := "index", desc := "(I)I" } : Jvm.MethodName)) ∈ lw_all := lw_g (lw_at lw_m4 192 rfl) rfl
theorem q1010 : (Jvm.Cond.code ({ cls := "FireSale", name := "index", desc := "(I)I" } : Jvm.MethodName) prog_1_method_39_code (2 : Nat) (Option.some Jvm.ClassFile.FieldType.int)) ∈ lw_all := lw_g (lw_at lw_m4 193 rfl) rfl
theorem q1011 : (Jvm.Cond.methodLink "FireSale" (269 : Nat) ({ cls := "FireSale$Town", name := "index", desc := "(LFireSale$State;)F" } : Jvm.MethodName)) ∈ lw_all := lw_g (lw_at lw_m4 194 rfl) rfl
theorem q1023 : (Jvm.Cond.methodLink "FireSale" (273 : Nat) ({ cls := "java/lang/Float", name := "floatToIntBits", desc := "(F)I" } : Jvm.MethodName)) ∈ lw_all := lw_g (lw_at lw_m4 206 rfl) rfl
theorem q1034 : (Jvm.Cond.instanceMethod ({ cls := "FireSale", name := "drop", desc := "(I)I" } : Jvm.MethodName)) ∈ lw_all := lw_g (lw_at lw_m4 217 rfl) rfl
theorem q1035 : (Jvm.Cond.selects "FireSale" ({ cls := "FireSale", name := "drop", desc := "(I)I" } : Jvm.MethodName) ({ cls := "FireSale", name := "drop", desc := "(I)I" } : Jvm.MethodName)) ∈ lw_all := lw_g (lw_at lw_m4 218 rfl) rfl
theorem q1036 : (Jvm.Cond.code ({ cls := "FireSale", name := "drop", desc := "(I)I" } : Jvm.MethodName) prog_1_method_40_code (2 : Nat) (Option.some Jvm.ClassFile.FieldType.int)) ∈ lw_all := lw_g (lw_at lw_m4 219 rfl) rfl
theorem q1037 : (Jvm.Cond.methodLink "FireSale" (279 : Nat) ({ cls := "FireSale$Town", name := "drop", desc := "(LFireSale$State;)I" } : Jvm.MethodName)) ∈ lw_all := lw_g (lw_at lw_m4 220 rfl) rfl
theorem q1044 : (Jvm.Cond.instanceMethod ({ cls := "FireSale", name := "ratio", desc := "(II)I" } : Jvm.MethodName)) ∈ lw_all := lw_g (lw_at lw_m4 227 rfl) rfl
theorem q1045 : (Jvm.Cond.selects "FireSale" ({ cls := "FireSale", name := "ratio", desc := "(II)I" } : Jvm.MethodName) ({ cls := "FireSale", name := "ratio", desc := "(II)I" } : Jvm.MethodName)) ∈ lw_all := lw_g (lw_at lw_m4 228 rfl) rfl
theorem q1046 : (Jvm.Cond.code ({ cls := "FireSale", name := "ratio", desc := "(II)I" } : Jvm.MethodName) prog_1_method_41_code (3 : Nat) (Option.some Jvm.ClassFile.FieldType.int)) ∈ lw_all := lw_g (lw_at lw_m4 229 rfl) rfl
theorem q1047 : (Jvm.Cond.methodLink "FireSale" (282 : Nat) ({ cls := "FireSale$Town", name := "ratio", desc := "(LFireSale$State;I)F" } : Jvm.MethodName)) ∈ lw_all := lw_g (lw_at lw_m4 230 rfl) rfl
theorem q1049 : (Jvm.Cond.instanceMethod ({ cls := "FireSale", name := "mood", desc := "()J" } : Jvm.MethodName)) ∈ lw_all := lw_g (lw_at lw_m4 232 rfl) rfl
theorem q1050 : (Jvm.Cond.selects "FireSale" ({ cls := "FireSale", name := "mood", desc := "()J" } : Jvm.MethodName) ({ cls := "FireSale", name := "mood", desc := "()J" } : Jvm.MethodName)) ∈ lw_all := lw_g (lw_at lw_m4 233 rfl) rfl
theorem q1051 : (Jvm.Cond.code ({ cls := "FireSale", name := "mood", desc := "()J" } : Jvm.MethodName) prog_1_method_42_code (1 : Nat) (Option.some Jvm.ClassFile.FieldType.long)) ∈ lw_all := lw_g (lw_at lw_m4 234 rfl) rfl
theorem q1052 : (Jvm.Cond.methodLink "FireSale" (286 : Nat) ({ cls := "FireSale$Town", name := "mood", desc := "()D" } : Jvm.MethodName)) ∈ lw_all := lw_g (lw_at lw_m4 235 rfl) rfl
theorem q1057 : (Jvm.Cond.methodLink "FireSale" (290 : Nat) ({ cls := "java/lang/Double", name := "doubleToLongBits", desc := "(D)J" } : Jvm.MethodName)) ∈ lw_all := lw_g (lw_at lw_m5 0 rfl) rfl
theorem q1068 : (Jvm.Cond.instanceMethod ({ cls := "FireSale", name := "hundredths", desc := "()I" } : Jvm.MethodName)) ∈ lw_all := lw_g (lw_at lw_m5 11 rfl) rfl
theorem q1069 : (Jvm.Cond.selects "FireSale" ({ cls := "FireSale", name := "hundredths", desc := "()I" } : Jvm.MethodName) ({ cls := "FireSale", name := "hundredths", desc := "()I" } : Jvm.MethodName)) ∈ lw_all := lw_g (lw_at lw_m5 12 rfl) rfl
theorem q1070 : (Jvm.Cond.code ({ cls := "FireSale", name := "hundredths", desc := "()I" } : Jvm.MethodName) prog_1_method_43_code (1 : Nat) (Option.some Jvm.ClassFile.FieldType.int)) ∈ lw_all := lw_g (lw_at lw_m5 13 rfl) rfl
theorem q1071 : (Jvm.Cond.constantDouble "FireSale" (296 : Nat) (4636737291354636288 : UInt64)) ∈ lw_all := lw_g (lw_at lw_m5 14 rfl) rfl
theorem q1073 : (Jvm.Cond.instanceMethod ({ cls := "FireSale", name := "rescue", desc := "(III)I" } : Jvm.MethodName)) ∈ lw_all := lw_g (lw_at lw_m5 16 rfl) rfl
theorem q1074 : (Jvm.Cond.selects "FireSale" ({ cls := "FireSale", name := "rescue", desc := "(III)I" } : Jvm.MethodName) ({ cls := "FireSale", name := "rescue", desc := "(III)I" } : Jvm.MethodName)) ∈ lw_all := lw_g (lw_at lw_m5 17 rfl) rfl
theorem q1075 : (Jvm.Cond.code ({ cls := "FireSale", name := "rescue", desc := "(III)I" } : Jvm.MethodName) prog_1_method_45_code (4 : Nat) (Option.some Jvm.ClassFile.FieldType.int)) ∈ lw_all := lw_g (lw_at lw_m5 18 rfl) rfl
theorem q1076 : (Jvm.Cond.methodLink "FireSale" (298 : Nat) ({ cls := "FireSale", name := "withCoins", desc := "(LFireSale$Town;II)LFireSale$State;" } : Jvm.MethodName)) ∈ lw_all := lw_g (lw_at lw_m5 19 rfl) rfl
theorem q1077 : (Jvm.Cond.privateMethod ({ cls := "FireSale", name := "withCoins", desc := "(LFireSale$Town;II)LFireSale$State;" } : Jvm.MethodName)) ∈ lw_tbl := lw_at lw_m5 20 rfl
theorem q1078 : (Jvm.Cond.instanceMethod ({ cls := "FireSale", name := "withCoins", desc := "(LFireSale$Town;II)LFireSale$State;" } : Jvm.MethodName)) ∈ lw_all := lw_g (lw_at lw_m5 21 rfl) rfl
theorem q1079 : (Jvm.Cond.code ({ cls := "FireSale", name := "withCoins", desc := "(LFireSale$Town;II)LFireSale$State;" } : Jvm.MethodName) prog_1_method_44_code (5 : Nat) (Option.some (Jvm.ClassFile.FieldType.object "FireSale$State"))) ∈ lw_all := lw_g (lw_at lw_m5 22 rfl) rfl
theorem q1081 : (Jvm.Cond.instanceMethod ({ cls := "FireSale", name := "helper", desc := "(II)I" } : Jvm.MethodName)) ∈ lw_all := lw_g (lw_at lw_m5 24 rfl) rfl
theorem q1082 : (Jvm.Cond.selects "FireSale" ({ cls := "FireSale", name := "helper", desc := "(II)I" } : Jvm.MethodName) ({ cls := "FireSale", name := "helper", desc := "(II)I" } : Jvm.MethodName)) ∈ lw_all := lw_g (lw_at lw_m5 25 rfl) rfl
theorem q1083 : (Jvm.Cond.code ({ cls := "FireSale", name := "helper", desc := "(II)I" } : Jvm.MethodName) prog_1_method_47_code (4 : Nat) (Option.some Jvm.ClassFile.FieldType.int)) ∈ lw_all := lw_g (lw_at lw_m5 26 rfl) rfl
theorem q1084 : (Jvm.Cond.methodLink "FireSale" (302 : Nat) ({ cls := "FireSale", name := "bestHouse", desc := "(LFireSale$Town;I)I" } : Jvm.MethodName)) ∈ lw_all := lw_g (lw_at lw_m5 27 rfl) rfl
theorem q1085 : (Jvm.Cond.privateMethod ({ cls := "FireSale", name := "bestHouse", desc := "(LFireSale$Town;I)I" } : Jvm.MethodName)) ∈ lw_tbl := lw_at lw_m5 28 rfl
theorem q1086 : (Jvm.Cond.instanceMethod ({ cls := "FireSale", name := "bestHouse", desc := "(LFireSale$Town;I)I" } : Jvm.MethodName)) ∈ lw_all := lw_g (lw_at lw_m5 29 rfl) rfl
theorem q1087 : (Jvm.Cond.code ({ cls := "FireSale", name := "bestHouse", desc := "(LFireSale$Town;I)I" } : Jvm.MethodName) prog_1_method_46_code (7 : Nat) (Option.some Jvm.ClassFile.FieldType.int)) ∈ lw_all := lw_g (lw_at lw_m5 30 rfl) rfl
theorem q1089 : (Jvm.Cond.instanceMethod ({ cls := "FireSale", name := "coinsFor", desc := "(I)I" } : Jvm.MethodName)) ∈ lw_all := lw_g (lw_at lw_m5 32 rfl) rfl
theorem q1090 : (Jvm.Cond.selects "FireSale" ({ cls := "FireSale", name := "coinsFor", desc := "(I)I" } : Jvm.MethodName) ({ cls := "FireSale", name := "coinsFor", desc := "(I)I" } : Jvm.MethodName)) ∈ lw_all := lw_g (lw_at lw_m5 33 rfl) rfl
theorem q1091 : (Jvm.Cond.code ({ cls := "FireSale", name := "coinsFor", desc := "(I)I" } : Jvm.MethodName) prog_1_method_49_code (5 : Nat) (Option.some Jvm.ClassFile.FieldType.int)) ∈ lw_all := lw_g (lw_at lw_m5 34 rfl) rfl
theorem q1092 : (Jvm.Cond.methodLink "FireSale" (306 : Nat) ({ cls := "FireSale", name := "isSafe", desc := "(II)Z" } : Jvm.MethodName)) ∈ lw_all := lw_g (lw_at lw_m5 35 rfl) rfl
theorem q1093 : (Jvm.Cond.privateMethod ({ cls := "FireSale", name := "isSafe", desc := "(II)Z" } : Jvm.MethodName)) ∈ lw_tbl := lw_at lw_m5 36 rfl
theorem q1094 : (Jvm.Cond.instanceMethod ({ cls := "FireSale", name := "isSafe", desc := "(II)Z" } : Jvm.MethodName)) ∈ lw_all := lw_g (lw_at lw_m5 37 rfl) rfl
theorem q1095 : (Jvm.Cond.code ({ cls := "FireSale", name := "isSafe", desc := "(II)Z" } : Jvm.MethodName) prog_1_method_48_code (3 : Nat) (Option.some Jvm.ClassFile.FieldType.boolean)) ∈ lw_all := lw_g (lw_at lw_m5 38 rfl) rfl
theorem q1097 : (Jvm.Cond.instanceMethod ({ cls := "FireSale", name := "aid", desc := "(III)I" } : Jvm.MethodName)) ∈ lw_all := lw_g (lw_at lw_m5 40 rfl) rfl
theorem q1098 : (Jvm.Cond.selects "FireSale" ({ cls := "FireSale", name := "aid", desc := "(III)I" } : Jvm.MethodName) ({ cls := "FireSale", name := "aid", desc := "(III)I" } : Jvm.MethodName)) ∈ lw_all := lw_g (lw_at lw_m5 41 rfl) rfl
theorem q1099 : (Jvm.Cond.code ({ cls := "FireSale", name := "aid", desc := "(III)I" } : Jvm.MethodName) prog_1_method_50_code (8 : Nat) (Option.some Jvm.ClassFile.FieldType.int)) ∈ lw_all := lw_g (lw_at lw_m5 42 rfl) rfl
theorem q1100 : (Jvm.Cond.constantLong "FireSale" (309 : Nat) (6 : Int64)) ∈ lw_all := lw_g (lw_at lw_m5 43 rfl) rfl
theorem q1101 : (Jvm.Cond.methodLink "FireSale" (311 : Nat) ({ cls := "java/lang/Math", name := "max", desc := "(II)I" } : Jvm.MethodName)) ∈ lw_all := lw_g (lw_at lw_m5 44 rfl) rfl
theorem q1103 : (Jvm.Cond.instanceMethod ({ cls := "FireSale", name := "bestAid", desc := "(III)I" } : Jvm.MethodName)) ∈ lw_all := lw_g (lw_at lw_m5 46 rfl) rfl
theorem q1104 : (Jvm.Cond.selects "FireSale" ({ cls := "FireSale", name := "bestAid", desc := "(III)I" } : Jvm.MethodName) ({ cls := "FireSale", name := "bestAid", desc := "(III)I" } : Jvm.MethodName)) ∈ lw_all := lw_g (lw_at lw_m5 47 rfl) rfl
theorem q1105 : (Jvm.Cond.code ({ cls := "FireSale", name := "bestAid", desc := "(III)I" } : Jvm.MethodName) prog_1_method_52_code (4 : Nat) (Option.some Jvm.ClassFile.FieldType.int)) ∈ lw_all := lw_g (lw_at lw_m5 48 rfl) rfl
theorem q1106 : (Jvm.Cond.methodLink "FireSale" (324 : Nat) ({ cls := "FireSale", name := "gives", desc := "(LFireSale$Town;[IIII)V" } : Jvm.MethodName)) ∈ lw_all := lw_g (lw_at lw_m5 49 rfl) rfl
theorem q1107 : (Jvm.Cond.privateMethod ({ cls := "FireSale", name := "gives", desc := "(LFireSale$Town;[IIII)V" } : Jvm.MethodName)) ∈ lw_tbl := lw_at lw_m5 50 rfl
theorem q1108 : (Jvm.Cond.instanceMethod ({ cls := "FireSale", name := "gives", desc := "(LFireSale$Town;[IIII)V" } : Jvm.MethodName)) ∈ lw_all := lw_g (lw_at lw_m5 51 rfl) rfl
theorem q1109 : (Jvm.Cond.code ({ cls := "FireSale", name := "gives", desc := "(LFireSale$Town;[IIII)V" } : Jvm.MethodName) prog_1_method_51_code (7 : Nat) (Option.none : Option Jvm.ClassFile.FieldType)) ∈ lw_all := lw_g (lw_at lw_m5 52 rfl) rfl
theorem q1110 : (Jvm.Cond.methodLink "FireSale" (320 : Nat) ({ cls := "[I", name := "clone", desc := "()Ljava/lang/Object;" } : Jvm.MethodName)) ∈ lw_all := lw_g (lw_at lw_m5 53 rfl) rfl
theorem q1111 : (Jvm.Cond.classLink "FireSale" (321 : Nat) "[I") ∈ lw_all := lw_g (lw_at lw_m5 54 rfl) rfl
theorem q1113 : (Jvm.Cond.instanceMethod ({ cls := "FireSale", name := "buyer", desc := "(III)I" } : Jvm.MethodName)) ∈ lw_all := lw_g (lw_at lw_m5 56 rfl) rfl
theorem q1114 : (Jvm.Cond.selects "FireSale" ({ cls := "FireSale", name := "buyer", desc := "(III)I" } : Jvm.MethodName) ({ cls := "FireSale", name := "buyer", desc := "(III)I" } : Jvm.MethodName)) ∈ lw_all := lw_g (lw_at lw_m5 57 rfl) rfl
theorem q1115 : (Jvm.Cond.code ({ cls := "FireSale", name := "buyer", desc := "(III)I" } : Jvm.MethodName) prog_1_method_53_code (5 : Nat) (Option.some Jvm.ClassFile.FieldType.int)) ∈ lw_all := lw_g (lw_at lw_m5 58 rfl) rfl
theorem q1117 : (Jvm.Cond.instanceMethod ({ cls := "FireSale", name := "capFor", desc := "(I)I" } : Jvm.MethodName)) ∈ lw_all := lw_g (lw_at lw_m5 60 rfl) rfl
theorem q1118 : (Jvm.Cond.selects "FireSale" ({ cls := "FireSale", name := "capFor", desc := "(I)I" } : Jvm.MethodName) ({ cls := "FireSale", name := "capFor", desc := "(I)I" } : Jvm.MethodName)) ∈ lw_all := lw_g (lw_at lw_m5 61 rfl) rfl
theorem q1119 : (Jvm.Cond.code ({ cls := "FireSale", name := "capFor", desc := "(I)I" } : Jvm.MethodName) prog_1_method_54_code (4 : Nat) (Option.some Jvm.ClassFile.FieldType.int)) ∈ lw_all := lw_g (lw_at lw_m5 62 rfl) rfl
theorem q1121 : (Jvm.Cond.instanceMethod ({ cls := "FireSale", name := "shockFor", desc := "(I)I" } : Jvm.MethodName)) ∈ lw_all := lw_g (lw_at lw_m5 64 rfl) rfl
theorem q1122 : (Jvm.Cond.selects "FireSale" ({ cls := "FireSale", name := "shockFor", desc := "(I)I" } : Jvm.MethodName) ({ cls := "FireSale", name := "shockFor", desc := "(I)I" } : Jvm.MethodName)) ∈ lw_all := lw_g (lw_at lw_m5 65 rfl) rfl
theorem q1123 : (Jvm.Cond.code ({ cls := "FireSale", name := "shockFor", desc := "(I)I" } : Jvm.MethodName) prog_1_method_55_code (4 : Nat) (Option.some Jvm.ClassFile.FieldType.int)) ∈ lw_all := lw_g (lw_at lw_m5 66 rfl) rfl
theorem q1125 : (Jvm.Cond.instanceMethod ({ cls := "FireSale", name := "domino", desc := "(II)I" } : Jvm.MethodName)) ∈ lw_all := lw_g (lw_at lw_m5 68 rfl) rfl
theorem q1126 : (Jvm.Cond.selects "FireSale" ({ cls := "FireSale", name := "domino", desc := "(II)I" } : Jvm.MethodName) ({ cls := "FireSale", name := "domino", desc := "(II)I" } : Jvm.MethodName)) ∈ lw_all := lw_g (lw_at lw_m5 69 rfl) rfl
theorem q1127 : (Jvm.Cond.code ({ cls := "FireSale", name := "domino", desc := "(II)I" } : Jvm.MethodName) prog_1_method_57_code (3 : Nat) (Option.some Jvm.ClassFile.FieldType.int)) ∈ lw_all := lw_g (lw_at lw_m5 70 rfl) rfl
theorem q1128 : (Jvm.Cond.methodLink "FireSale" (340 : Nat) ({ cls := "FireSale", name := "with", desc := "(I)LFireSale$State;" } : Jvm.MethodName)) ∈ lw_all := lw_g (lw_at lw_m5 71 rfl) rfl
theorem q1129 : (Jvm.Cond.privateMethod ({ cls := "FireSale", name := "with", desc := "(I)LFireSale$State;" } : Jvm.MethodName)) ∈ lw_tbl := lw_at lw_m5 72 rfl
theorem q1130 : (Jvm.Cond.instanceMethod ({ cls := "FireSale", name := "with", desc := "(I)LFireSale$State;" } : Jvm.MethodName)) ∈ lw_all := lw_g (lw_at lw_m5 73 rfl) rfl
theorem q1131 : (Jvm.Cond.code ({ cls := "FireSale", name := "with", desc := "(I)LFireSale$State;" } : Jvm.MethodName) prog_1_method_56_code (3 : Nat) (Option.some (Jvm.ClassFile.FieldType.object "FireSale$State"))) ∈ lw_all := lw_g (lw_at lw_m5 74 rfl) rfl
theorem q1133 : (Jvm.Cond.instanceMethod ({ cls := "FireSale", name := "keystone", desc := "()I" } : Jvm.MethodName)) ∈ lw_all := lw_g (lw_at lw_m5 76 rfl) rfl
theorem q1134 : (Jvm.Cond.selects "FireSale" ({ cls := "FireSale", name := "keystone", desc := "()I" } : Jvm.MethodName) ({ cls := "FireSale", name := "keystone", desc := "()I" } : Jvm.MethodName)) ∈ lw_all := lw_g (lw_at lw_m5 77 rfl) rfl
theorem q1135 : (Jvm.Cond.code ({ cls := "FireSale", name := "keystone", desc := "()I" } : Jvm.MethodName) prog_1_method_58_code (5 : Nat) (Option.some Jvm.ClassFile.FieldType.int)) ∈ lw_all := lw_g (lw_at lw_m5 78 rfl) rfl
theorem q1136 : (Jvm.Cond.methodLink "FireSale" (343 : Nat) ({ cls := "java/lang/Integer", name := "bitCount", desc := "(I)I" } : Jvm.MethodName)) ∈ lw_all := lw_g (lw_at lw_m5 79 rfl) rfl
theorem q1138 : (Jvm.Cond.instanceMethod ({ cls := "FireSale", name := "pulls", desc := "(I)I" } : Jvm.MethodName)) ∈ lw_all := lw_g (lw_at lw_m5 81 rfl) rfl
theorem q1139 : (Jvm.Cond.selects "FireSale" ({ cls := "FireSale", name := "pulls", desc := "(I)I" } : Jvm.MethodName) ({ cls := "FireSale", name := "pulls", desc := "(I)I" } : Jvm.MethodName)) ∈ lw_all := lw_g (lw_at lw_m5 82 rfl) rfl
theorem q1140 : (Jvm.Cond.code ({ cls := "FireSale", name := "pulls", desc := "(I)I" } : Jvm.MethodName) prog_1_method_59_code (2 : Nat) (Option.some Jvm.ClassFile.FieldType.int)) ∈ lw_all := lw_g (lw_at lw_m5 83 rfl) rfl
theorem q1142 : (Jvm.Cond.instanceMethod ({ cls := "FireSale", name := "room", desc := "(I)I" } : Jvm.MethodName)) ∈ lw_all := lw_g (lw_at lw_m5 85 rfl) rfl
theorem q1143 : (Jvm.Cond.selects "FireSale" ({ cls := "FireSale", name := "room", desc := "(I)I" } : Jvm.MethodName) ({ cls := "FireSale", name := "room", desc := "(I)I" } : Jvm.MethodName)) ∈ lw_all := lw_g (lw_at lw_m5 86 rfl) rfl
theorem q1144 : (Jvm.Cond.code ({ cls := "FireSale", name := "room", desc := "(I)I" } : Jvm.MethodName) prog_1_method_60_code (5 : Nat) (Option.some Jvm.ClassFile.FieldType.int)) ∈ lw_all := lw_g (lw_at lw_m5 87 rfl) rfl
theorem q1146 : (Jvm.Cond.instanceMethod ({ cls := "FireSale", name := "stress", desc := "(II)I" } : Jvm.MethodName)) ∈ lw_all := lw_g (lw_at lw_m5 89 rfl) rfl
theorem q1147 : (Jvm.Cond.selects "FireSale" ({ cls := "FireSale", name := "stress", desc := "(II)I" } : Jvm.MethodName) ({ cls := "FireSale", name := "stress", desc := "(II)I" } : Jvm.MethodName)) ∈ lw_all := lw_g (lw_at lw_m5 90 rfl) rfl
theorem q1148 : (Jvm.Cond.code ({ cls := "FireSale", name := "stress", desc := "(II)I" } : Jvm.MethodName) prog_1_method_62_code (4 : Nat) (Option.some Jvm.ClassFile.FieldType.int)) ∈ lw_all := lw_g (lw_at lw_m5 91 rfl) rfl
theorem q1149 : (Jvm.Cond.constantLong "FireSale" (348 : Nat) (100 : Int64)) ∈ lw_all := lw_g (lw_at lw_m5 92 rfl) rfl
theorem q1150 : (Jvm.Cond.methodLink "FireSale" (350 : Nat) ({ cls := "FireSale", name := "stressed", desc := "(LFireSale$Town;I)LFireSale$State;" } : Jvm.MethodName)) ∈ lw_all := lw_g (lw_at lw_m5 93 rfl) rfl
theorem q1151 : (Jvm.Cond.privateMethod ({ cls := "FireSale", name := "stressed", desc := "(LFireSale$Town;I)LFireSale$State;" } : Jvm.MethodName)) ∈ lw_tbl := lw_at lw_m5 94 rfl
theorem q1152 : (Jvm.Cond.instanceMethod ({ cls := "FireSale", name := "stressed", desc := "(LFireSale$Town;I)LFireSale$State;" } : Jvm.MethodName)) ∈ lw_all := lw_g (lw_at lw_m5 95 rfl) rfl
theorem q1153 : (Jvm.Cond.code ({ cls := "FireSale", name := "stressed", desc := "(LFireSale$Town;I)LFireSale$State;" } : Jvm.MethodName) prog_1_method_61_code (4 : Nat) (Option.some (Jvm.ClassFile.FieldType.object "FireSale$State"))) ∈ lw_all := lw_g (lw_at lw_m5 96 rfl) rfl
theorem q1155 : (Jvm.Cond.instanceMethod ({ cls := "FireSale", name := "fewest", desc := "()I" } : Jvm.MethodName)) ∈ lw_all := lw_g (lw_at lw_m5 98 rfl) rfl
theorem q1156 : (Jvm.Cond.selects "FireSale" ({ cls := "FireSale", name := "fewest", desc := "()I" } : Jvm.MethodName) ({ cls := "FireSale", name := "fewest", desc := "()I" } : Jvm.MethodName)) ∈ lw_all := lw_g (lw_at lw_m5 99 rfl) rfl
theorem q1157 : (Jvm.Cond.code ({ cls := "FireSale", name := "fewest", desc := "()I" } : Jvm.MethodName) prog_1_method_63_code (3 : Nat) (Option.some Jvm.ClassFile.FieldType.int)) ∈ lw_all := lw_g (lw_at lw_m5 100 rfl) rfl
theorem q1159 : (Jvm.Cond.instanceMethod ({ cls := "FireSale", name := "doubtful", desc := "()I" } : Jvm.MethodName)) ∈ lw_all := lw_g (lw_at lw_m5 102 rfl) rfl
theorem q1160 : (Jvm.Cond.selects "FireSale" ({ cls := "FireSale", name := "doubtful", desc := "()I" } : Jvm.MethodName) ({ cls := "FireSale", name := "doubtful", desc := "()I" } : Jvm.MethodName)) ∈ lw_all := lw_g (lw_at lw_m5 103 rfl) rfl
theorem q1161 : (Jvm.Cond.code ({ cls := "FireSale", name := "doubtful", desc := "()I" } : Jvm.MethodName) prog_1_method_64_code (1 : Nat) (Option.some Jvm.ClassFile.FieldType.int)) ∈ lw_all := lw_g (lw_at lw_m5 104 rfl) rfl
theorem q1163 : (Jvm.Cond.instanceMethod ({ cls := "FireSale", name := "spell", desc := "(I)I" } : Jvm.MethodName)) ∈ lw_all := lw_g (lw_at lw_m5 106 rfl) rfl
theorem q1164 : (Jvm.Cond.selects "FireSale" ({ cls := "FireSale", name := "spell", desc := "(I)I" } : Jvm.MethodName) ({ cls := "FireSale", name := "spell", desc := "(I)I" } : Jvm.MethodName)) ∈ lw_all := lw_g (lw_at lw_m5 107 rfl) rfl
theorem q1165 : (Jvm.Cond.code ({ cls := "FireSale", name := "spell", desc := "(I)I" } : Jvm.MethodName) prog_1_method_65_code (3 : Nat) (Option.some Jvm.ClassFile.FieldType.int)) ∈ lw_all := lw_g (lw_at lw_m5 108 rfl) rfl
theorem q1166 : (Jvm.Cond.methodLink "FireSale" (354 : Nat) ({ cls := "FireSale$Town", name := "text", desc := "()Ljava/lang/String;" } : Jvm.MethodName)) ∈ lw_all := lw_g (lw_at lw_m5 109 rfl) rfl
theorem q1429 : (Jvm.Cond.methodLink "FireSale" (358 : Nat) ({ cls := "java/lang/String", name := "length", desc := "()I" } : Jvm.MethodName)) ∈ lw_all := lw_g (lw_at lw_m6 132 rfl) rfl
theorem q1430 : (Jvm.Cond.methodLink "FireSale" (363 : Nat) ({ cls := "java/lang/String", name := "charAt", desc := "(I)C" } : Jvm.MethodName)) ∈ lw_all := lw_g (lw_at lw_m6 133 rfl) rfl
theorem q1446 : (Jvm.Cond.instanceMethod ({ cls := "FireSale", name := "count", desc := "(I)I" } : Jvm.MethodName)) ∈ lw_all := lw_g (lw_at lw_m6 149 rfl) rfl
theorem q1447 : (Jvm.Cond.selects "FireSale" ({ cls := "FireSale", name := "count", desc := "(I)I" } : Jvm.MethodName) ({ cls := "FireSale", name := "count", desc := "(I)I" } : Jvm.MethodName)) ∈ lw_all := lw_g (lw_at lw_m6 150 rfl) rfl
theorem q1448 : (Jvm.Cond.code ({ cls := "FireSale", name := "count", desc := "(I)I" } : Jvm.MethodName) prog_1_method_67_code (2 : Nat) (Option.some Jvm.ClassFile.FieldType.int)) ∈ lw_all := lw_g (lw_at lw_m6 151 rfl) rfl
theorem q1449 : (Jvm.Cond.methodLink "FireSale" (370 : Nat) ({ cls := "FireSale", name := "loanMany", desc := "()I" } : Jvm.MethodName)) ∈ lw_all := lw_g (lw_at lw_m6 152 rfl) rfl
theorem q1450 : (Jvm.Cond.privateMethod ({ cls := "FireSale", name := "loanMany", desc := "()I" } : Jvm.MethodName)) ∈ lw_tbl := lw_at lw_m6 153 rfl
theorem q1451 : (Jvm.Cond.instanceMethod ({ cls := "FireSale", name := "loanMany", desc := "()I" } : Jvm.MethodName)) ∈ lw_all := lw_g (lw_at lw_m6 154 rfl) rfl
theorem q1452 : (Jvm.Cond.code ({ cls := "FireSale", name := "loanMany", desc := "()I" } : Jvm.MethodName) prog_1_method_66_code (10 : Nat) (Option.some Jvm.ClassFile.FieldType.int)) ∈ lw_all := lw_g (lw_at lw_m6 155 rfl) rfl
theorem q1453 : (Jvm.Cond.methodLink "FireSale" (373 : Nat) ({ cls := "FireSale$Town", name := "heldAll", desc := "()I" } : Jvm.MethodName)) ∈ lw_all := lw_g (lw_at lw_m6 156 rfl) rfl
theorem q1455 : (Jvm.Cond.instanceMethod ({ cls := "FireSale", name := "feed", desc := "(IIIII)I" } : Jvm.MethodName)) ∈ lw_all := lw_g (lw_at lw_m6 158 rfl) rfl
theorem q1456 : (Jvm.Cond.selects "FireSale" ({ cls := "FireSale", name := "feed", desc := "(IIIII)I" } : Jvm.MethodName) ({ cls := "FireSale", name := "feed", desc := "(IIIII)I" } : Jvm.MethodName)) ∈ lw_all := lw_g (lw_at lw_m6 159 rfl) rfl
theorem q1457 : (Jvm.Cond.code ({ cls := "FireSale", name := "feed", desc := "(IIIII)I" } : Jvm.MethodName) prog_1_method_68_code (6 : Nat) (Option.some Jvm.ClassFile.FieldType.int)) ∈ lw_all := lw_g (lw_at lw_m6 160 rfl) rfl
theorem q1458 : (Jvm.Cond.methodLink "FireSale" (376 : Nat) ({ cls := "FireSale", name := "lays", desc := "([I)V" } : Jvm.MethodName)) ∈ lw_all := lw_g (lw_at lw_m6 161 rfl) rfl
theorem q1459 : (Jvm.Cond.privateMethod ({ cls := "FireSale", name := "lays", desc := "([I)V" } : Jvm.MethodName)) ∈ lw_tbl := lw_at lw_m6 162 rfl
theorem q1460 : (Jvm.Cond.instanceMethod ({ cls := "FireSale", name := "lays", desc := "([I)V" } : Jvm.MethodName)) ∈ lw_all := lw_g (lw_at lw_m6 163 rfl) rfl
theorem q1461 : (Jvm.Cond.code ({ cls := "FireSale", name := "lays", desc := "([I)V" } : Jvm.MethodName) prog_1_method_69_code (7 : Nat) (Option.none : Option Jvm.ClassFile.FieldType)) ∈ lw_all := lw_g (lw_at lw_m6 164 rfl) rfl
theorem q1463 : (Jvm.Cond.instanceMethod ({ cls := "FireSale", name := "back", desc := "(I)I" } : Jvm.MethodName)) ∈ lw_all := lw_g (lw_at lw_m6 166 rfl) rfl
theorem q1464 : (Jvm.Cond.selects "FireSale" ({ cls := "FireSale", name := "back", desc := "(I)I" } : Jvm.MethodName) ({ cls := "FireSale", name := "back", desc := "(I)I" } : Jvm.MethodName)) ∈ lw_all := lw_g (lw_at lw_m6 167 rfl) rfl
theorem q1465 : (Jvm.Cond.code ({ cls := "FireSale", name := "back", desc := "(I)I" } : Jvm.MethodName) prog_1_method_70_code (2 : Nat) (Option.some Jvm.ClassFile.FieldType.int)) ∈ lw_all := lw_g (lw_at lw_m6 168 rfl) rfl
theorem q1467 : (Jvm.Cond.instanceMethod ({ cls := "FireSale", name := "text", desc := "()I" } : Jvm.MethodName)) ∈ lw_all := lw_g (lw_at lw_m6 170 rfl) rfl
theorem q1468 : (Jvm.Cond.selects "FireSale" ({ cls := "FireSale", name := "text", desc := "()I" } : Jvm.MethodName) ({ cls := "FireSale", name := "text", desc := "()I" } : Jvm.MethodName)) ∈ lw_all := lw_g (lw_at lw_m6 171 rfl) rfl
theorem q1469 : (Jvm.Cond.codeWith ({ cls := "FireSale", name := "text", desc := "()I" } : Jvm.MethodName) prog_1_method_71_code (4 : Nat) (Option.some Jvm.ClassFile.FieldType.int) [((0 : Nat), (30 : Nat), (37 : Nat), (390 : Nat)), ((0 : Nat), (30 : Nat), (53 : Nat), (0 : Nat)), ((37 : Nat), (46 : Nat), (53 : Nat), (0 : Nat))]) ∈ lw_all := lw_g (lw_at lw_m6 172 rfl) rfl
theorem q1470 : (Jvm.Cond.classLink "FireSale" (390 : Nat) "FireSale$Wrong") ∈ lw_all := lw_g (lw_at lw_m6 173 rfl) rfl
theorem q1471 : (Jvm.Cond.classLink "FireSale" (379 : Nat) "FireSale$Reader") ∈ lw_all := lw_g (lw_at lw_m6 174 rfl) rfl
theorem q1473 : (Jvm.Cond.methodLinkNest "FireSale" (381 : Nat) ({ cls := "FireSale$Reader", name := "<init>", desc := "(LFireSale;)V" } : Jvm.MethodName) "FireSale") ∈ lw_tbl := lw_at lw_m6 176 rfl
theorem q1495 : (Jvm.Cond.methodLink "FireSale" (384 : Nat) ({ cls := "FireSale$Reader", name := "whole", desc := "()LFireSale$Town;" } : Jvm.MethodName)) ∈ lw_all := lw_g (lw_at lw_m6 198 rfl) rfl
theorem q1544 : (Jvm.Cond.fieldLinkNest "FireSale" (392 : Nat) "FireSale$Wrong" "place" "I" "FireSale") ∈ lw_tbl := lw_at lw_m7 7 rfl
theorem q1587 : (Jvm.Cond.methodLink "FireSale" (387 : Nat) ({ cls := "java/util/ArrayDeque", name := "clear", desc := "()V" } : Jvm.MethodName)) ∈ lw_all := lw_g (lw_at lw_m7 50 rfl) rfl
theorem q2219 : (Jvm.Cond.castable "FireSale" "java/lang/Object") ∈ lw_tbl := lw_at lw_m9 202 rfl
abbrev cX1_init : ByteArray := prog_8_method_1_code
def yX1_init : MethodName := ⟨RX1, "<init>", "()V"⟩
abbrev cX1_copy : ByteArray := prog_8_method_3_code
def yX1_copy : MethodName := ⟨RX1, "copy", "()LFireSale$Town;"⟩
abbrev cX1_again : ByteArray := prog_8_method_2_code
def yX1_again : MethodName := ⟨RX1, "again", "([[I)[[I"⟩
abbrev cX1_isHouse : ByteArray := prog_8_method_5_code
def yX1_isHouse : MethodName := ⟨RX1, "isHouse", "(I)Z"⟩
abbrev cX1_isAsset : ByteArray := prog_8_method_4_code
def yX1_isAsset : MethodName := ⟨RX1, "isAsset", "(I)Z"⟩
abbrev cX1_merges : ByteArray := prog_8_method_39_code
def yX1_merges : MethodName := ⟨RX1, "merges", "(II)V"⟩
abbrev cX1_leaves : ByteArray := prog_8_method_38_code
def yX1_leaves : MethodName := ⟨RX1, "leaves", "(I)V"⟩
abbrev cX1_least : ByteArray := prog_8_method_23_code
def yX1_least : MethodName := ⟨RX1, "least", "()LFireSale$State;"⟩
abbrev cX1_calm : ByteArray := prog_8_method_10_code
def yX1_calm : MethodName := ⟨RX1, "calm", "()LFireSale$State;"⟩
abbrev cX1_walk : ByteArray := prog_8_method_22_code
def yX1_walk : MethodName := ⟨RX1, "walk", "(LFireSale$State;I)LFireSale$State;"⟩
abbrev cX1_next : ByteArray := prog_8_method_21_code
def yX1_next : MethodName := ⟨RX1, "next", "(LFireSale$State;LFireSale$State;)V"⟩
abbrev cX1_prices : ByteArray := prog_8_method_13_code
def yX1_prices : MethodName := ⟨RX1, "prices", "(LFireSale$State;)V"⟩
abbrev cX1_price : ByteArray := prog_8_method_12_code
def yX1_price : MethodName := ⟨RX1, "price", "(LFireSale$State;I)I"⟩
abbrev cX1_shocks : ByteArray := prog_8_method_9_code
def yX1_shocks : MethodName := ⟨RX1, "shocks", "(I)I"⟩
abbrev cX1_worth : ByteArray := prog_8_method_14_code
def yX1_worth : MethodName := ⟨RX1, "worth", "(II)I"⟩
abbrev cX1_mustSell : ByteArray := prog_8_method_17_code
def yX1_mustSell : MethodName := ⟨RX1, "mustSell", "(II)I"⟩
abbrev cX1_pieces : ByteArray := prog_8_method_16_code
def yX1_pieces : MethodName := ⟨RX1, "pieces", "(I)I"⟩
abbrev cX1_sells : ByteArray := prog_8_method_19_code
def yX1_sells : MethodName := ⟨RX1, "sells", "(II[I)V"⟩
abbrev cX1_cap : ByteArray := prog_8_method_8_code
def yX1_cap : MethodName := ⟨RX1, "cap", "(I)I"⟩
abbrev cX1_soldAll : ByteArray := prog_8_method_31_code
def yX1_soldAll : MethodName := ⟨RX1, "soldAll", "(LFireSale$State;)I"⟩
abbrev cX1_lives : ByteArray := prog_8_method_36_code
def yX1_lives : MethodName := ⟨RX1, "lives", "()I"⟩
abbrev cX1_sells_2 : ByteArray := prog_8_method_20_code
def yX1_sells_2 : MethodName := ⟨RX1, "sells", "(LFireSale$State;I)[I"⟩
abbrev cX1_mustSell_2 : ByteArray := prog_8_method_18_code
def yX1_mustSell_2 : MethodName := ⟨RX1, "mustSell", "(LFireSale$State;I)I"⟩
abbrev cX1_worth_2 : ByteArray := prog_8_method_15_code
def yX1_worth_2 : MethodName := ⟨RX1, "worth", "(LFireSale$State;I)I"⟩
abbrev cX1_pays : ByteArray := prog_8_method_37_code
def yX1_pays : MethodName := ⟨RX1, "pays", "(IIII[I)V"⟩
abbrev cX1_closes : ByteArray := prog_8_method_41_code
def yX1_closes : MethodName := ⟨RX1, "closes", "(I)V"⟩
abbrev cX1_held : ByteArray := prog_8_method_6_code
def yX1_held : MethodName := ⟨RX1, "held", "(I)I"⟩
abbrev cX1_state : ByteArray := prog_8_method_27_code
def yX1_state : MethodName := ⟨RX1, "state", "(I)LFireSale$State;"⟩
abbrev cX1_panic : ByteArray := prog_8_method_11_code
def yX1_panic : MethodName := ⟨RX1, "panic", "()LFireSale$State;"⟩
abbrev cX1_tells : ByteArray := prog_8_method_30_code
def yX1_tells : MethodName := ⟨RX1, "tells", "(LFireSale$State;I)I"⟩
abbrev cX1_lost : ByteArray := prog_8_method_29_code
def yX1_lost : MethodName := ⟨RX1, "lost", "(LFireSale$State;)I"⟩
abbrev cX1_calmPrice : ByteArray := prog_8_method_28_code
def yX1_calmPrice : MethodName := ⟨RX1, "calmPrice", "(I)I"⟩
abbrev cX1_rounds : ByteArray := prog_8_method_26_code
def yX1_rounds : MethodName := ⟨RX1, "rounds", "(LFireSale$State;)I"⟩
abbrev cX1_behind : ByteArray := prog_8_method_24_code
def yX1_behind : MethodName := ⟨RX1, "behind", "(I)LFireSale$State;"⟩
abbrev cX1_falls : ByteArray := prog_8_method_40_code
def yX1_falls : MethodName := ⟨RX1, "falls", "()[I"⟩
abbrev cX1_behind_2 : ByteArray := prog_8_method_25_code
def yX1_behind_2 : MethodName := ⟨RX1, "behind", "(LFireSale$State;I)LFireSale$State;"⟩
abbrev cX1_index : ByteArray := prog_8_method_33_code
def yX1_index : MethodName := ⟨RX1, "index", "(LFireSale$State;)F"⟩
abbrev cX1_heldAll : ByteArray := prog_8_method_7_code
def yX1_heldAll : MethodName := ⟨RX1, "heldAll", "()I"⟩
abbrev cX1_ratio : ByteArray := prog_8_method_32_code
def yX1_ratio : MethodName := ⟨RX1, "ratio", "(LFireSale$State;I)F"⟩
abbrev cX1_drop : ByteArray := prog_8_method_34_code
def yX1_drop : MethodName := ⟨RX1, "drop", "(LFireSale$State;)I"⟩
abbrev cX1_mood : ByteArray := prog_8_method_35_code
def yX1_mood : MethodName := ⟨RX1, "mood", "()D"⟩
abbrev cX1_text : ByteArray := prog_8_method_43_code
def yX1_text : MethodName := ⟨RX1, "text", "()Ljava/lang/String;"⟩
abbrev cX1_row : ByteArray := prog_8_method_42_code
def yX1_row : MethodName := ⟨RX1, "row", "(Ljava/lang/StringBuilder;Ljava/lang/String;[I)V"⟩
abbrev cX1_loans : ByteArray := prog_8_method_44_code
def yX1_loans : MethodName := ⟨RX1, "loans", "(Ljava/lang/StringBuilder;II)V"⟩
abbrev cX1_rules : ByteArray := prog_8_method_45_code
def yX1_rules : MethodName := ⟨RX1, "rules", "(Ljava/lang/StringBuilder;LFireSale$Rule;)V"⟩
theorem q99 : (Jvm.Cond.initialized "FireSale$Town") ∈ lw_all := lw_g (lw_at lw_m1 2 rfl) rfl
theorem q140 : (Jvm.Cond.instantiable "FireSale$Town" (15 : Nat)) ∈ lw_all := lw_g (lw_at lw_m1 43 rfl) rfl
theorem q142 : (Jvm.Cond.instanceMethod ({ cls := "FireSale$Town", name := "<init>", desc := "()V" } : Jvm.MethodName)) ∈ lw_all := lw_g (lw_at lw_m1 45 rfl) rfl
theorem q143 : (Jvm.Cond.code ({ cls := "FireSale$Town", name := "<init>", desc := "()V" } : Jvm.MethodName) prog_8_method_1_code (1 : Nat) (Option.none : Option Jvm.ClassFile.FieldType)) ∈ lw_all := lw_g (lw_at lw_m1 46 rfl) rfl
theorem q144 : (Jvm.Cond.methodLink "FireSale$Town" (3 : Nat) ({ cls := "java/lang/Object", name := "<init>", desc := "()V" } : Jvm.MethodName)) ∈ lw_all := lw_g (lw_at lw_m1 47 rfl) rfl
theorem q145 : (Jvm.Cond.classLink "FireSale$Town" (9 : Nat) "[[I") ∈ lw_all := lw_g (lw_at lw_m1 48 rfl) rfl
theorem q147 : (Jvm.Cond.classLink "FireSale$Town" (25 : Nat) "FireSale$Shelf") ∈ lw_all := lw_g (lw_at lw_m1 50 rfl) rfl
theorem q150 : (Jvm.Cond.classLink "FireSale$Town" (27 : Nat) "FireSale$Cap") ∈ lw_all := lw_g (lw_at lw_m1 53 rfl) rfl
theorem q152 : (Jvm.Cond.methodLink "FireSale$Town" (29 : Nat) ({ cls := "FireSale$Shelf", name := "<init>", desc := "([LFireSale$Rule;)V" } : Jvm.MethodName)) ∈ lw_all := lw_g (lw_at lw_m1 55 rfl) rfl
theorem q157 : (Jvm.Cond.fieldLinkNest "FireSale$Town" (98 : Nat) "FireSale$Shelf" "row" "[LFireSale$Rule;" "FireSale") ∈ lw_tbl := lw_at lw_m1 60 rfl
theorem q160 : (Jvm.Cond.fieldLinkNest "FireSale$Town" (95 : Nat) "FireSale$Shelf" "many" "I" "FireSale") ∈ lw_tbl := lw_at lw_m1 63 rfl
theorem q169 : (Jvm.Cond.classLink "FireSale$Town" (32 : Nat) "FireSale$Shock") ∈ lw_all := lw_g (lw_at lw_m1 72 rfl) rfl
theorem q171 : (Jvm.Cond.classLink "FireSale$Town" (34 : Nat) "FireSale$Rule") ∈ lw_all := lw_g (lw_at lw_m1 74 rfl) rfl
theorem q173 : (Jvm.Cond.classLink "FireSale$Town" (50 : Nat) "FireSale$State") ∈ lw_all := lw_g (lw_at lw_m1 76 rfl) rfl
theorem q175 : (Jvm.Cond.methodLinkNest "FireSale$Town" (52 : Nat) ({ cls := "FireSale$State", name := "<init>", desc := "()V" } : Jvm.MethodName) "FireSale") ∈ lw_tbl := lw_at lw_m1 78 rfl
theorem q180 : (Jvm.Cond.fieldLinkNest "FireSale$Town" (124 : Nat) "FireSale$State" "sold" "[I" "FireSale") ∈ lw_tbl := lw_at lw_m1 83 rfl
theorem q183 : (Jvm.Cond.fieldLinkNest "FireSale$Town" (121 : Nat) "FireSale$State" "fallen" "I" "FireSale") ∈ lw_tbl := lw_at lw_m1 86 rfl
theorem q190 : (Jvm.Cond.fieldLink "FireSale$Town" (70 : Nat) "FireSale$Town" "assets" "I") ∈ lw_all := lw_g (lw_at lw_m1 93 rfl) rfl
theorem q193 : (Jvm.Cond.fieldLink "FireSale$Town" (74 : Nat) "FireSale$Town" "houses" "I") ∈ lw_all := lw_g (lw_at lw_m1 96 rfl) rfl
theorem q196 : (Jvm.Cond.fieldLink "FireSale$Town" (11 : Nat) "FireSale$Town" "curve" "[[I") ∈ lw_all := lw_g (lw_at lw_m1 99 rfl) rfl
theorem q199 : (Jvm.Cond.fieldLink "FireSale$Town" (16 : Nat) "FireSale$Town" "of" "[[I") ∈ lw_all := lw_g (lw_at lw_m1 102 rfl) rfl
theorem q202 : (Jvm.Cond.fieldLink "FireSale$Town" (19 : Nat) "FireSale$Town" "hold" "[[I") ∈ lw_all := lw_g (lw_at lw_m1 105 rfl) rfl
theorem q205 : (Jvm.Cond.fieldLink "FireSale$Town" (22 : Nat) "FireSale$Town" "loan" "[[I") ∈ lw_all := lw_g (lw_at lw_m1 108 rfl) rfl
theorem q208 : (Jvm.Cond.fieldLink "FireSale$Town" (36 : Nat) "FireSale$Town" "shelves" "[LFireSale$Shelf;") ∈ lw_all := lw_g (lw_at lw_m1 111 rfl) rfl
theorem q211 : (Jvm.Cond.fieldLink "FireSale$Town" (118 : Nat) "FireSale$Town" "forced" "I") ∈ lw_all := lw_g (lw_at lw_m1 114 rfl) rfl
theorem q213 : (Jvm.Cond.fieldLink "FireSale$Town" (40 : Nat) "FireSale$Town" "taken" "[I") ∈ lw_all := lw_g (lw_at lw_m1 116 rfl) rfl
theorem q215 : (Jvm.Cond.fieldLink "FireSale$Town" (44 : Nat) "FireSale$Town" "capped" "[I") ∈ lw_all := lw_g (lw_at lw_m1 118 rfl) rfl
theorem q217 : (Jvm.Cond.fieldLink "FireSale$Town" (47 : Nat) "FireSale$Town" "shocked" "[I") ∈ lw_all := lw_g (lw_at lw_m1 120 rfl) rfl
theorem q219 : (Jvm.Cond.fieldLink "FireSale$Town" (53 : Nat) "FireSale$Town" "one" "LFireSale$State;") ∈ lw_all := lw_g (lw_at lw_m1 122 rfl) rfl
theorem q220 : (Jvm.Cond.fieldLink "FireSale$Town" (57 : Nat) "FireSale$Town" "two" "LFireSale$State;") ∈ lw_all := lw_g (lw_at lw_m1 123 rfl) rfl
theorem q221 : (Jvm.Cond.fieldLink "FireSale$Town" (60 : Nat) "FireSale$Town" "priced" "[I") ∈ lw_all := lw_g (lw_at lw_m1 124 rfl) rfl
theorem q222 : (Jvm.Cond.fieldLink "FireSale$Town" (173 : Nat) "FireSale$Town" "gone" "I") ∈ lw_all := lw_g (lw_at lw_m1 125 rfl) rfl
theorem q223 : (Jvm.Cond.lays "FireSale$Town" "FireSale$Town" "assets" "I") ∈ lw_all := lw_g (lw_at lw_m1 126 rfl) rfl
theorem q224 : (Jvm.Cond.soleField "FireSale$Town" "assets") ∈ lw_all := lw_g (lw_at lw_m1 127 rfl) rfl
theorem q225 : (Jvm.Cond.lays "FireSale$Town" "FireSale$Town" "houses" "I") ∈ lw_all := lw_g (lw_at lw_m1 128 rfl) rfl
theorem q226 : (Jvm.Cond.soleField "FireSale$Town" "houses") ∈ lw_all := lw_g (lw_at lw_m1 129 rfl) rfl
theorem q227 : (Jvm.Cond.lays "FireSale$Town" "FireSale$Town" "curve" "[[I") ∈ lw_all := lw_g (lw_at lw_m1 130 rfl) rfl
theorem q228 : (Jvm.Cond.soleField "FireSale$Town" "curve") ∈ lw_all := lw_g (lw_at lw_m1 131 rfl) rfl
theorem q229 : (Jvm.Cond.lays "FireSale$Town" "FireSale$Town" "of" "[[I") ∈ lw_all := lw_g (lw_at lw_m1 132 rfl) rfl
theorem q230 : (Jvm.Cond.soleField "FireSale$Town" "of") ∈ lw_all := lw_g (lw_at lw_m1 133 rfl) rfl
theorem q231 : (Jvm.Cond.lays "FireSale$Town" "FireSale$Town" "hold" "[[I") ∈ lw_all := lw_g (lw_at lw_m1 134 rfl) rfl
theorem q232 : (Jvm.Cond.soleField "FireSale$Town" "hold") ∈ lw_all := lw_g (lw_at lw_m1 135 rfl) rfl
theorem q233 : (Jvm.Cond.lays "FireSale$Town" "FireSale$Town" "loan" "[[I") ∈ lw_all := lw_g (lw_at lw_m1 136 rfl) rfl
theorem q234 : (Jvm.Cond.soleField "FireSale$Town" "loan") ∈ lw_all := lw_g (lw_at lw_m1 137 rfl) rfl
theorem q235 : (Jvm.Cond.lays "FireSale$Town" "FireSale$Town" "shelves" "[LFireSale$Shelf;") ∈ lw_all := lw_g (lw_at lw_m1 138 rfl) rfl
theorem q236 : (Jvm.Cond.soleField "FireSale$Town" "shelves") ∈ lw_all := lw_g (lw_at lw_m1 139 rfl) rfl
theorem q237 : (Jvm.Cond.lays "FireSale$Town" "FireSale$Town" "forced" "I") ∈ lw_all := lw_g (lw_at lw_m1 140 rfl) rfl
theorem q238 : (Jvm.Cond.soleField "FireSale$Town" "forced") ∈ lw_all := lw_g (lw_at lw_m1 141 rfl) rfl
theorem q239 : (Jvm.Cond.lays "FireSale$Town" "FireSale$Town" "taken" "[I") ∈ lw_all := lw_g (lw_at lw_m1 142 rfl) rfl
theorem q240 : (Jvm.Cond.soleField "FireSale$Town" "taken") ∈ lw_all := lw_g (lw_at lw_m1 143 rfl) rfl
theorem q241 : (Jvm.Cond.lays "FireSale$Town" "FireSale$Town" "capped" "[I") ∈ lw_all := lw_g (lw_at lw_m1 144 rfl) rfl
theorem q242 : (Jvm.Cond.soleField "FireSale$Town" "capped") ∈ lw_all := lw_g (lw_at lw_m1 145 rfl) rfl
theorem q243 : (Jvm.Cond.lays "FireSale$Town" "FireSale$Town" "shocked" "[I") ∈ lw_all := lw_g (lw_at lw_m1 146 rfl) rfl
theorem q244 : (Jvm.Cond.soleField "FireSale$Town" "shocked") ∈ lw_all := lw_g (lw_at lw_m1 147 rfl) rfl
theorem q245 : (Jvm.Cond.laysFinal "FireSale$Town" "FireSale$Town" "one" "LFireSale$State;") ∈ lw_all := lw_g (lw_at lw_m1 148 rfl) rfl
theorem q246 : (Jvm.Cond.soleField "FireSale$Town" "one") ∈ lw_all := lw_g (lw_at lw_m1 149 rfl) rfl
theorem q247 : (Jvm.Cond.laysFinal "FireSale$Town" "FireSale$Town" "two" "LFireSale$State;") ∈ lw_all := lw_g (lw_at lw_m1 150 rfl) rfl
theorem q248 : (Jvm.Cond.soleField "FireSale$Town" "two") ∈ lw_all := lw_g (lw_at lw_m1 151 rfl) rfl
theorem q249 : (Jvm.Cond.laysFinal "FireSale$Town" "FireSale$Town" "priced" "[I") ∈ lw_all := lw_g (lw_at lw_m1 152 rfl) rfl
theorem q250 : (Jvm.Cond.soleField "FireSale$Town" "priced") ∈ lw_all := lw_g (lw_at lw_m1 153 rfl) rfl
theorem q251 : (Jvm.Cond.lays "FireSale$Town" "FireSale$Town" "gone" "I") ∈ lw_all := lw_g (lw_at lw_m1 154 rfl) rfl
theorem q252 : (Jvm.Cond.soleField "FireSale$Town" "gone") ∈ lw_all := lw_g (lw_at lw_m1 155 rfl) rfl
theorem q253 : (Jvm.Cond.superclass "FireSale$Town" "java/lang/Object") ∈ lw_all := lw_g (lw_at lw_m1 156 rfl) rfl
theorem q332 : (Jvm.Cond.instanceMethod ({ cls := "FireSale$Town", name := "copy", desc := "()LFireSale$Town;" } : Jvm.MethodName)) ∈ lw_all := lw_g (lw_at lw_m1 235 rfl) rfl
theorem q333 : (Jvm.Cond.selects "FireSale$Town" ({ cls := "FireSale$Town", name := "copy", desc := "()LFireSale$Town;" } : Jvm.MethodName) ({ cls := "FireSale$Town", name := "copy", desc := "()LFireSale$Town;" } : Jvm.MethodName)) ∈ lw_all := lw_g (lw_at lw_m1 236 rfl) rfl
theorem q334 : (Jvm.Cond.code ({ cls := "FireSale$Town", name := "copy", desc := "()LFireSale$Town;" } : Jvm.MethodName) prog_8_method_3_code (3 : Nat) (Option.some (Jvm.ClassFile.FieldType.object "FireSale$Town"))) ∈ lw_all := lw_g (lw_at lw_m1 237 rfl) rfl
theorem q335 : (Jvm.Cond.classLink "FireSale$Town" (12 : Nat) "FireSale$Town") ∈ lw_all := lw_g (lw_at lw_m1 238 rfl) rfl
theorem q336 : (Jvm.Cond.methodLink "FireSale$Town" (69 : Nat) ({ cls := "FireSale$Town", name := "<init>", desc := "()V" } : Jvm.MethodName)) ∈ lw_all := lw_g (lw_at lw_m1 239 rfl) rfl
theorem q337 : (Jvm.Cond.methodLink "FireSale$Town" (77 : Nat) ({ cls := "FireSale$Town", name := "again", desc := "([[I)[[I" } : Jvm.MethodName)) ∈ lw_all := lw_g (lw_at lw_m2 0 rfl) rfl
theorem q338 : (Jvm.Cond.static ({ cls := "FireSale$Town", name := "again", desc := "([[I)[[I" } : Jvm.MethodName)) ∈ lw_all := lw_g (lw_at lw_m2 1 rfl) rfl
theorem q339 : (Jvm.Cond.code ({ cls := "FireSale$Town", name := "again", desc := "([[I)[[I" } : Jvm.MethodName) prog_8_method_2_code (3 : Nat) (Option.some (Jvm.ClassFile.FieldType.array (Jvm.ClassFile.FieldType.array Jvm.ClassFile.FieldType.int)))) ∈ lw_all := lw_g (lw_at lw_m2 2 rfl) rfl
theorem q340 : (Jvm.Cond.methodLink "FireSale$Town" (63 : Nat) ({ cls := "[[I", name := "clone", desc := "()Ljava/lang/Object;" } : Jvm.MethodName)) ∈ lw_all := lw_g (lw_at lw_m2 3 rfl) rfl
theorem q346 : (Jvm.Cond.methodLink "FireSale$Town" (67 : Nat) ({ cls := "[I", name := "clone", desc := "()Ljava/lang/Object;" } : Jvm.MethodName)) ∈ lw_all := lw_g (lw_at lw_m2 9 rfl) rfl
theorem q350 : (Jvm.Cond.classLink "FireSale$Town" (68 : Nat) "[I") ∈ lw_all := lw_g (lw_at lw_m2 13 rfl) rfl
theorem q351 : (Jvm.Cond.methodLink "FireSale$Town" (81 : Nat) ({ cls := "[LFireSale$Shelf;", name := "clone", desc := "()Ljava/lang/Object;" } : Jvm.MethodName)) ∈ lw_all := lw_g (lw_at lw_m2 14 rfl) rfl
theorem q355 : (Jvm.Cond.classLink "FireSale$Town" (82 : Nat) "[LFireSale$Shelf;") ∈ lw_all := lw_g (lw_at lw_m2 18 rfl) rfl
theorem q356 : (Jvm.Cond.methodLink "FireSale$Town" (83 : Nat) ({ cls := "FireSale$Shelf", name := "copy", desc := "()LFireSale$Shelf;" } : Jvm.MethodName)) ∈ lw_all := lw_g (lw_at lw_m2 19 rfl) rfl
theorem q393 : (Jvm.Cond.selects "FireSale$Town" ({ cls := "java/lang/Object", name := "getClass", desc := "()Ljava/lang/Class;" } : Jvm.MethodName) ({ cls := "java/lang/Object", name := "getClass", desc := "()Ljava/lang/Class;" } : Jvm.MethodName)) ∈ lw_all := lw_g (lw_at lw_m2 56 rfl) rfl
theorem q424 : (Jvm.Cond.instanceMethod ({ cls := "FireSale$Town", name := "isHouse", desc := "(I)Z" } : Jvm.MethodName)) ∈ lw_all := lw_g (lw_at lw_m2 87 rfl) rfl
theorem q425 : (Jvm.Cond.selects "FireSale$Town" ({ cls := "FireSale$Town", name := "isHouse", desc := "(I)Z" } : Jvm.MethodName) ({ cls := "FireSale$Town", name := "isHouse", desc := "(I)Z" } : Jvm.MethodName)) ∈ lw_all := lw_g (lw_at lw_m2 88 rfl) rfl
theorem q426 : (Jvm.Cond.code ({ cls := "FireSale$Town", name := "isHouse", desc := "(I)Z" } : Jvm.MethodName) prog_8_method_5_code (2 : Nat) (Option.some Jvm.ClassFile.FieldType.boolean)) ∈ lw_all := lw_g (lw_at lw_m2 89 rfl) rfl
theorem q427 : (Jvm.Cond.methodLinkNest "FireSale$Town" (87 : Nat) ({ cls := "FireSale", name := "in", desc := "(JJJ)Z" } : Jvm.MethodName) "FireSale") ∈ lw_tbl := lw_at lw_m2 90 rfl
theorem q438 : (Jvm.Cond.instanceMethod ({ cls := "FireSale$Town", name := "isAsset", desc := "(I)Z" } : Jvm.MethodName)) ∈ lw_all := lw_g (lw_at lw_m2 101 rfl) rfl
theorem q439 : (Jvm.Cond.selects "FireSale$Town" ({ cls := "FireSale$Town", name := "isAsset", desc := "(I)Z" } : Jvm.MethodName) ({ cls := "FireSale$Town", name := "isAsset", desc := "(I)Z" } : Jvm.MethodName)) ∈ lw_all := lw_g (lw_at lw_m2 102 rfl) rfl
theorem q440 : (Jvm.Cond.code ({ cls := "FireSale$Town", name := "isAsset", desc := "(I)Z" } : Jvm.MethodName) prog_8_method_4_code (2 : Nat) (Option.some Jvm.ClassFile.FieldType.boolean)) ∈ lw_all := lw_g (lw_at lw_m2 103 rfl) rfl
theorem q467 : (Jvm.Cond.fieldLink "FireSale$Town" (102 : Nat) "FireSale$Rule" "asset" "I") ∈ lw_all := lw_g (lw_at lw_m2 130 rfl) rfl
theorem q475 : (Jvm.Cond.fieldLink "FireSale$Town" (288 : Nat) "FireSale$Rule" "much" "I") ∈ lw_all := lw_g (lw_at lw_m2 138 rfl) rfl
theorem q586 : (Jvm.Cond.instanceMethod ({ cls := "FireSale$Town", name := "merges", desc := "(II)V" } : Jvm.MethodName)) ∈ lw_all := lw_g (lw_at lw_m3 9 rfl) rfl
theorem q587 : (Jvm.Cond.selects "FireSale$Town" ({ cls := "FireSale$Town", name := "merges", desc := "(II)V" } : Jvm.MethodName) ({ cls := "FireSale$Town", name := "merges", desc := "(II)V" } : Jvm.MethodName)) ∈ lw_all := lw_g (lw_at lw_m3 10 rfl) rfl
theorem q588 : (Jvm.Cond.code ({ cls := "FireSale$Town", name := "merges", desc := "(II)V" } : Jvm.MethodName) prog_8_method_39_code (4 : Nat) (Option.none : Option Jvm.ClassFile.FieldType)) ∈ lw_all := lw_g (lw_at lw_m3 11 rfl) rfl
theorem q589 : (Jvm.Cond.methodLink "FireSale$Town" (109 : Nat) ({ cls := "java/lang/Math", name := "min", desc := "(II)I" } : Jvm.MethodName)) ∈ lw_all := lw_g (lw_at lw_m3 12 rfl) rfl
theorem q590 : (Jvm.Cond.methodLink "FireSale$Town" (248 : Nat) ({ cls := "FireSale$Town", name := "leaves", desc := "(I)V" } : Jvm.MethodName)) ∈ lw_all := lw_g (lw_at lw_m3 13 rfl) rfl
theorem q591 : (Jvm.Cond.instanceMethod ({ cls := "FireSale$Town", name := "leaves", desc := "(I)V" } : Jvm.MethodName)) ∈ lw_all := lw_g (lw_at lw_m3 14 rfl) rfl
theorem q592 : (Jvm.Cond.selects "FireSale$Town" ({ cls := "FireSale$Town", name := "leaves", desc := "(I)V" } : Jvm.MethodName) ({ cls := "FireSale$Town", name := "leaves", desc := "(I)V" } : Jvm.MethodName)) ∈ lw_all := lw_g (lw_at lw_m3 15 rfl) rfl
theorem q593 : (Jvm.Cond.code ({ cls := "FireSale$Town", name := "leaves", desc := "(I)V" } : Jvm.MethodName) prog_8_method_38_code (4 : Nat) (Option.none : Option Jvm.ClassFile.FieldType)) ∈ lw_all := lw_g (lw_at lw_m3 16 rfl) rfl
theorem q604 : (Jvm.Cond.instanceMethod ({ cls := "FireSale$Town", name := "least", desc := "()LFireSale$State;" } : Jvm.MethodName)) ∈ lw_all := lw_g (lw_at lw_m3 27 rfl) rfl
theorem q605 : (Jvm.Cond.selects "FireSale$Town" ({ cls := "FireSale$Town", name := "least", desc := "()LFireSale$State;" } : Jvm.MethodName) ({ cls := "FireSale$Town", name := "least", desc := "()LFireSale$State;" } : Jvm.MethodName)) ∈ lw_all := lw_g (lw_at lw_m3 28 rfl) rfl
theorem q606 : (Jvm.Cond.code ({ cls := "FireSale$Town", name := "least", desc := "()LFireSale$State;" } : Jvm.MethodName) prog_8_method_23_code (1 : Nat) (Option.some (Jvm.ClassFile.FieldType.object "FireSale$State"))) ∈ lw_all := lw_g (lw_at lw_m3 29 rfl) rfl
theorem q607 : (Jvm.Cond.methodLink "FireSale$Town" (187 : Nat) ({ cls := "FireSale$Town", name := "calm", desc := "()LFireSale$State;" } : Jvm.MethodName)) ∈ lw_all := lw_g (lw_at lw_m3 30 rfl) rfl
theorem q608 : (Jvm.Cond.instanceMethod ({ cls := "FireSale$Town", name := "calm", desc := "()LFireSale$State;" } : Jvm.MethodName)) ∈ lw_all := lw_g (lw_at lw_m3 31 rfl) rfl
theorem q609 : (Jvm.Cond.selects "FireSale$Town" ({ cls := "FireSale$Town", name := "calm", desc := "()LFireSale$State;" } : Jvm.MethodName) ({ cls := "FireSale$Town", name := "calm", desc := "()LFireSale$State;" } : Jvm.MethodName)) ∈ lw_all := lw_g (lw_at lw_m3 32 rfl) rfl
theorem q610 : (Jvm.Cond.code ({ cls := "FireSale$Town", name := "calm", desc := "()LFireSale$State;" } : Jvm.MethodName) prog_8_method_10_code (2 : Nat) (Option.some (Jvm.ClassFile.FieldType.object "FireSale$State"))) ∈ lw_all := lw_g (lw_at lw_m3 33 rfl) rfl
theorem q611 : (Jvm.Cond.constant "FireSale$Town" (190 : Nat) (1000000 : Int32)) ∈ lw_all := lw_g (lw_at lw_m3 34 rfl) rfl
theorem q612 : (Jvm.Cond.methodLink "FireSale$Town" (191 : Nat) ({ cls := "FireSale$Town", name := "walk", desc := "(LFireSale$State;I)LFireSale$State;" } : Jvm.MethodName)) ∈ lw_all := lw_g (lw_at lw_m3 35 rfl) rfl
theorem q613 : (Jvm.Cond.privateMethod ({ cls := "FireSale$Town", name := "walk", desc := "(LFireSale$State;I)LFireSale$State;" } : Jvm.MethodName)) ∈ lw_tbl := lw_at lw_m3 36 rfl
theorem q614 : (Jvm.Cond.instanceMethod ({ cls := "FireSale$Town", name := "walk", desc := "(LFireSale$State;I)LFireSale$State;" } : Jvm.MethodName)) ∈ lw_all := lw_g (lw_at lw_m3 37 rfl) rfl
theorem q615 : (Jvm.Cond.code ({ cls := "FireSale$Town", name := "walk", desc := "(LFireSale$State;I)LFireSale$State;" } : Jvm.MethodName) prog_8_method_22_code (6 : Nat) (Option.some (Jvm.ClassFile.FieldType.object "FireSale$State"))) ∈ lw_all := lw_g (lw_at lw_m3 38 rfl) rfl
theorem q616 : (Jvm.Cond.methodLink "FireSale$Town" (170 : Nat) ({ cls := "FireSale$State", name := "like", desc := "(LFireSale$State;)V" } : Jvm.MethodName)) ∈ lw_all := lw_g (lw_at lw_m3 39 rfl) rfl
theorem q621 : (Jvm.Cond.methodLink "FireSale$Town" (176 : Nat) ({ cls := "FireSale$Town", name := "next", desc := "(LFireSale$State;LFireSale$State;)V" } : Jvm.MethodName)) ∈ lw_all := lw_g (lw_at lw_m3 44 rfl) rfl
theorem q622 : (Jvm.Cond.instanceMethod ({ cls := "FireSale$Town", name := "next", desc := "(LFireSale$State;LFireSale$State;)V" } : Jvm.MethodName)) ∈ lw_all := lw_g (lw_at lw_m3 45 rfl) rfl
theorem q623 : (Jvm.Cond.selects "FireSale$Town" ({ cls := "FireSale$Town", name := "next", desc := "(LFireSale$State;LFireSale$State;)V" } : Jvm.MethodName) ({ cls := "FireSale$Town", name := "next", desc := "(LFireSale$State;LFireSale$State;)V" } : Jvm.MethodName)) ∈ lw_all := lw_g (lw_at lw_m3 46 rfl) rfl
theorem q624 : (Jvm.Cond.code ({ cls := "FireSale$Town", name := "next", desc := "(LFireSale$State;LFireSale$State;)V" } : Jvm.MethodName) prog_8_method_21_code (5 : Nat) (Option.none : Option Jvm.ClassFile.FieldType)) ∈ lw_all := lw_g (lw_at lw_m3 47 rfl) rfl
theorem q625 : (Jvm.Cond.methodLink "FireSale$Town" (164 : Nat) ({ cls := "java/util/Arrays", name := "fill", desc := "([II)V" } : Jvm.MethodName)) ∈ lw_all := lw_g (lw_at lw_m3 48 rfl) rfl
theorem q628 : (Jvm.Cond.methodLink "FireSale$Town" (143 : Nat) ({ cls := "FireSale$Town", name := "prices", desc := "(LFireSale$State;)V" } : Jvm.MethodName)) ∈ lw_all := lw_g (lw_at lw_m3 51 rfl) rfl
theorem q629 : (Jvm.Cond.privateMethod ({ cls := "FireSale$Town", name := "prices", desc := "(LFireSale$State;)V" } : Jvm.MethodName)) ∈ lw_tbl := lw_at lw_m3 52 rfl
theorem q630 : (Jvm.Cond.instanceMethod ({ cls := "FireSale$Town", name := "prices", desc := "(LFireSale$State;)V" } : Jvm.MethodName)) ∈ lw_all := lw_g (lw_at lw_m3 53 rfl) rfl
theorem q631 : (Jvm.Cond.code ({ cls := "FireSale$Town", name := "prices", desc := "(LFireSale$State;)V" } : Jvm.MethodName) prog_8_method_13_code (3 : Nat) (Option.none : Option Jvm.ClassFile.FieldType)) ∈ lw_all := lw_g (lw_at lw_m3 54 rfl) rfl
theorem q632 : (Jvm.Cond.methodLink "FireSale$Town" (135 : Nat) ({ cls := "FireSale$Town", name := "price", desc := "(LFireSale$State;I)I" } : Jvm.MethodName)) ∈ lw_all := lw_g (lw_at lw_m3 55 rfl) rfl
theorem q633 : (Jvm.Cond.instanceMethod ({ cls := "FireSale$Town", name := "price", desc := "(LFireSale$State;I)I" } : Jvm.MethodName)) ∈ lw_all := lw_g (lw_at lw_m3 56 rfl) rfl
theorem q634 : (Jvm.Cond.selects "FireSale$Town" ({ cls := "FireSale$Town", name := "price", desc := "(LFireSale$State;I)I" } : Jvm.MethodName) ({ cls := "FireSale$Town", name := "price", desc := "(LFireSale$State;I)I" } : Jvm.MethodName)) ∈ lw_all := lw_g (lw_at lw_m3 57 rfl) rfl
theorem q635 : (Jvm.Cond.code ({ cls := "FireSale$Town", name := "price", desc := "(LFireSale$State;I)I" } : Jvm.MethodName) prog_8_method_12_code (4 : Nat) (Option.some Jvm.ClassFile.FieldType.int)) ∈ lw_all := lw_g (lw_at lw_m3 58 rfl) rfl
theorem q636 : (Jvm.Cond.methodLink "FireSale$Town" (129 : Nat) ({ cls := "java/lang/Math", name := "max", desc := "(II)I" } : Jvm.MethodName)) ∈ lw_all := lw_g (lw_at lw_m3 59 rfl) rfl
theorem q639 : (Jvm.Cond.methodLink "FireSale$Town" (132 : Nat) ({ cls := "FireSale$Town", name := "shocks", desc := "(I)I" } : Jvm.MethodName)) ∈ lw_all := lw_g (lw_at lw_m3 62 rfl) rfl
theorem q640 : (Jvm.Cond.instanceMethod ({ cls := "FireSale$Town", name := "shocks", desc := "(I)I" } : Jvm.MethodName)) ∈ lw_all := lw_g (lw_at lw_m3 63 rfl) rfl
theorem q641 : (Jvm.Cond.selects "FireSale$Town" ({ cls := "FireSale$Town", name := "shocks", desc := "(I)I" } : Jvm.MethodName) ({ cls := "FireSale$Town", name := "shocks", desc := "(I)I" } : Jvm.MethodName)) ∈ lw_all := lw_g (lw_at lw_m3 64 rfl) rfl
theorem q642 : (Jvm.Cond.code ({ cls := "FireSale$Town", name := "shocks", desc := "(I)I" } : Jvm.MethodName) prog_8_method_9_code (8 : Nat) (Option.some Jvm.ClassFile.FieldType.int)) ∈ lw_all := lw_g (lw_at lw_m3 65 rfl) rfl
theorem q643 : (Jvm.Cond.methodLink "FireSale$Town" (115 : Nat) ({ cls := "FireSale$Rule", name := "shock", desc := "()I" } : Jvm.MethodName)) ∈ lw_all := lw_g (lw_at lw_m3 66 rfl) rfl
theorem q652 : (Jvm.Cond.methodLink "FireSale$Town" (147 : Nat) ({ cls := "FireSale$Town", name := "worth", desc := "(II)I" } : Jvm.MethodName)) ∈ lw_all := lw_g (lw_at lw_m3 75 rfl) rfl
theorem q653 : (Jvm.Cond.privateMethod ({ cls := "FireSale$Town", name := "worth", desc := "(II)I" } : Jvm.MethodName)) ∈ lw_tbl := lw_at lw_m3 76 rfl
theorem q654 : (Jvm.Cond.instanceMethod ({ cls := "FireSale$Town", name := "worth", desc := "(II)I" } : Jvm.MethodName)) ∈ lw_all := lw_g (lw_at lw_m3 77 rfl) rfl
theorem q655 : (Jvm.Cond.code ({ cls := "FireSale$Town", name := "worth", desc := "(II)I" } : Jvm.MethodName) prog_8_method_14_code (5 : Nat) (Option.some Jvm.ClassFile.FieldType.int)) ∈ lw_all := lw_g (lw_at lw_m3 78 rfl) rfl
theorem q656 : (Jvm.Cond.methodLinkNest "FireSale$Town" (139 : Nat) ({ cls := "FireSale", name := "has", desc := "(II)Z" } : Jvm.MethodName) "FireSale") ∈ lw_tbl := lw_at lw_m3 79 rfl
theorem q659 : (Jvm.Cond.methodLink "FireSale$Town" (155 : Nat) ({ cls := "FireSale$Town", name := "mustSell", desc := "(II)I" } : Jvm.MethodName)) ∈ lw_all := lw_g (lw_at lw_m3 82 rfl) rfl
theorem q660 : (Jvm.Cond.privateMethod ({ cls := "FireSale$Town", name := "mustSell", desc := "(II)I" } : Jvm.MethodName)) ∈ lw_tbl := lw_at lw_m3 83 rfl
theorem q661 : (Jvm.Cond.instanceMethod ({ cls := "FireSale$Town", name := "mustSell", desc := "(II)I" } : Jvm.MethodName)) ∈ lw_all := lw_g (lw_at lw_m3 84 rfl) rfl
theorem q662 : (Jvm.Cond.code ({ cls := "FireSale$Town", name := "mustSell", desc := "(II)I" } : Jvm.MethodName) prog_8_method_17_code (6 : Nat) (Option.some Jvm.ClassFile.FieldType.int)) ∈ lw_all := lw_g (lw_at lw_m3 85 rfl) rfl
theorem q663 : (Jvm.Cond.methodLink "FireSale$Town" (150 : Nat) ({ cls := "FireSale$Town", name := "pieces", desc := "(I)I" } : Jvm.MethodName)) ∈ lw_all := lw_g (lw_at lw_m3 86 rfl) rfl
theorem q664 : (Jvm.Cond.privateMethod ({ cls := "FireSale$Town", name := "pieces", desc := "(I)I" } : Jvm.MethodName)) ∈ lw_tbl := lw_at lw_m3 87 rfl
theorem q665 : (Jvm.Cond.instanceMethod ({ cls := "FireSale$Town", name := "pieces", desc := "(I)I" } : Jvm.MethodName)) ∈ lw_all := lw_g (lw_at lw_m3 88 rfl) rfl
theorem q666 : (Jvm.Cond.code ({ cls := "FireSale$Town", name := "pieces", desc := "(I)I" } : Jvm.MethodName) prog_8_method_16_code (7 : Nat) (Option.some Jvm.ClassFile.FieldType.int)) ∈ lw_all := lw_g (lw_at lw_m3 89 rfl) rfl
theorem q667 : (Jvm.Cond.methodLink "FireSale$Town" (160 : Nat) ({ cls := "FireSale$Town", name := "sells", desc := "(II[I)V" } : Jvm.MethodName)) ∈ lw_all := lw_g (lw_at lw_m3 90 rfl) rfl
theorem q668 : (Jvm.Cond.privateMethod ({ cls := "FireSale$Town", name := "sells", desc := "(II[I)V" } : Jvm.MethodName)) ∈ lw_tbl := lw_at lw_m3 91 rfl
theorem q669 : (Jvm.Cond.instanceMethod ({ cls := "FireSale$Town", name := "sells", desc := "(II[I)V" } : Jvm.MethodName)) ∈ lw_all := lw_g (lw_at lw_m3 92 rfl) rfl
theorem q670 : (Jvm.Cond.code ({ cls := "FireSale$Town", name := "sells", desc := "(II[I)V" } : Jvm.MethodName) prog_8_method_19_code (8 : Nat) (Option.none : Option Jvm.ClassFile.FieldType)) ∈ lw_all := lw_g (lw_at lw_m3 93 rfl) rfl
theorem q671 : (Jvm.Cond.methodLink "FireSale$Town" (127 : Nat) ({ cls := "FireSale$Town", name := "cap", desc := "(I)I" } : Jvm.MethodName)) ∈ lw_all := lw_g (lw_at lw_m3 94 rfl) rfl
theorem q672 : (Jvm.Cond.instanceMethod ({ cls := "FireSale$Town", name := "cap", desc := "(I)I" } : Jvm.MethodName)) ∈ lw_all := lw_g (lw_at lw_m3 95 rfl) rfl
theorem q673 : (Jvm.Cond.selects "FireSale$Town" ({ cls := "FireSale$Town", name := "cap", desc := "(I)I" } : Jvm.MethodName) ({ cls := "FireSale$Town", name := "cap", desc := "(I)I" } : Jvm.MethodName)) ∈ lw_all := lw_g (lw_at lw_m3 96 rfl) rfl
theorem q674 : (Jvm.Cond.code ({ cls := "FireSale$Town", name := "cap", desc := "(I)I" } : Jvm.MethodName) prog_8_method_8_code (8 : Nat) (Option.some Jvm.ClassFile.FieldType.int)) ∈ lw_all := lw_g (lw_at lw_m3 97 rfl) rfl
theorem q675 : (Jvm.Cond.methodLink "FireSale$Town" (105 : Nat) ({ cls := "FireSale$Rule", name := "cap", desc := "()I" } : Jvm.MethodName)) ∈ lw_all := lw_g (lw_at lw_m3 98 rfl) rfl
theorem q685 : (Jvm.Cond.methodLink "FireSale$Town" (180 : Nat) ({ cls := "FireSale$State", name := "isLike", desc := "(LFireSale$State;)Z" } : Jvm.MethodName)) ∈ lw_all := lw_g (lw_at lw_m3 108 rfl) rfl
theorem q794 : (Jvm.Cond.methodLink "FireSale$Town" (184 : Nat) ({ cls := "FireSale$State", name := "copy", desc := "()LFireSale$State;" } : Jvm.MethodName)) ∈ lw_all := lw_g (lw_at lw_m3 217 rfl) rfl
theorem q803 : (Jvm.Cond.instanceMethod ({ cls := "FireSale$Town", name := "soldAll", desc := "(LFireSale$State;)I" } : Jvm.MethodName)) ∈ lw_all := lw_g (lw_at lw_m3 226 rfl) rfl
theorem q804 : (Jvm.Cond.selects "FireSale$Town" ({ cls := "FireSale$Town", name := "soldAll", desc := "(LFireSale$State;)I" } : Jvm.MethodName) ({ cls := "FireSale$Town", name := "soldAll", desc := "(LFireSale$State;)I" } : Jvm.MethodName)) ∈ lw_all := lw_g (lw_at lw_m3 227 rfl) rfl
theorem q805 : (Jvm.Cond.code ({ cls := "FireSale$Town", name := "soldAll", desc := "(LFireSale$State;)I" } : Jvm.MethodName) prog_8_method_31_code (7 : Nat) (Option.some Jvm.ClassFile.FieldType.int)) ∈ lw_all := lw_g (lw_at lw_m3 228 rfl) rfl
theorem q807 : (Jvm.Cond.instanceMethod ({ cls := "FireSale$Town", name := "lives", desc := "()I" } : Jvm.MethodName)) ∈ lw_all := lw_g (lw_at lw_m3 230 rfl) rfl
theorem q808 : (Jvm.Cond.selects "FireSale$Town" ({ cls := "FireSale$Town", name := "lives", desc := "()I" } : Jvm.MethodName) ({ cls := "FireSale$Town", name := "lives", desc := "()I" } : Jvm.MethodName)) ∈ lw_all := lw_g (lw_at lw_m3 231 rfl) rfl
theorem q809 : (Jvm.Cond.code ({ cls := "FireSale$Town", name := "lives", desc := "()I" } : Jvm.MethodName) prog_8_method_36_code (7 : Nat) (Option.some Jvm.ClassFile.FieldType.int)) ∈ lw_all := lw_g (lw_at lw_m3 232 rfl) rfl
theorem q810 : (Jvm.Cond.methodLink "FireSale$Town" (195 : Nat) ({ cls := "FireSale$Town", name := "least", desc := "()LFireSale$State;" } : Jvm.MethodName)) ∈ lw_all := lw_g (lw_at lw_m3 233 rfl) rfl
theorem q811 : (Jvm.Cond.methodLink "FireSale$Town" (237 : Nat) ({ cls := "FireSale$Town", name := "sells", desc := "(LFireSale$State;I)[I" } : Jvm.MethodName)) ∈ lw_all := lw_g (lw_at lw_m3 234 rfl) rfl
theorem q812 : (Jvm.Cond.instanceMethod ({ cls := "FireSale$Town", name := "sells", desc := "(LFireSale$State;I)[I" } : Jvm.MethodName)) ∈ lw_all := lw_g (lw_at lw_m3 235 rfl) rfl
theorem q813 : (Jvm.Cond.selects "FireSale$Town" ({ cls := "FireSale$Town", name := "sells", desc := "(LFireSale$State;I)[I" } : Jvm.MethodName) ({ cls := "FireSale$Town", name := "sells", desc := "(LFireSale$State;I)[I" } : Jvm.MethodName)) ∈ lw_all := lw_g (lw_at lw_m3 236 rfl) rfl
theorem q814 : (Jvm.Cond.code ({ cls := "FireSale$Town", name := "sells", desc := "(LFireSale$State;I)[I" } : Jvm.MethodName) prog_8_method_20_code (4 : Nat) (Option.some (Jvm.ClassFile.FieldType.array Jvm.ClassFile.FieldType.int))) ∈ lw_all := lw_g (lw_at lw_m3 237 rfl) rfl
theorem q815 : (Jvm.Cond.methodLink "FireSale$Town" (158 : Nat) ({ cls := "FireSale$Town", name := "mustSell", desc := "(LFireSale$State;I)I" } : Jvm.MethodName)) ∈ lw_all := lw_g (lw_at lw_m3 238 rfl) rfl
theorem q816 : (Jvm.Cond.instanceMethod ({ cls := "FireSale$Town", name := "mustSell", desc := "(LFireSale$State;I)I" } : Jvm.MethodName)) ∈ lw_all := lw_g (lw_at lw_m3 239 rfl) rfl
theorem q817 : (Jvm.Cond.selects "FireSale$Town" ({ cls := "FireSale$Town", name := "mustSell", desc := "(LFireSale$State;I)I" } : Jvm.MethodName) ({ cls := "FireSale$Town", name := "mustSell", desc := "(LFireSale$State;I)I" } : Jvm.MethodName)) ∈ lw_all := lw_g (lw_at lw_m4 0 rfl) rfl
theorem q818 : (Jvm.Cond.code ({ cls := "FireSale$Town", name := "mustSell", desc := "(LFireSale$State;I)I" } : Jvm.MethodName) prog_8_method_18_code (3 : Nat) (Option.some Jvm.ClassFile.FieldType.int)) ∈ lw_all := lw_g (lw_at lw_m4 1 rfl) rfl
theorem q819 : (Jvm.Cond.methodLink "FireSale$Town" (153 : Nat) ({ cls := "FireSale$Town", name := "worth", desc := "(LFireSale$State;I)I" } : Jvm.MethodName)) ∈ lw_all := lw_g (lw_at lw_m4 2 rfl) rfl
theorem q820 : (Jvm.Cond.instanceMethod ({ cls := "FireSale$Town", name := "worth", desc := "(LFireSale$State;I)I" } : Jvm.MethodName)) ∈ lw_all := lw_g (lw_at lw_m4 3 rfl) rfl
theorem q821 : (Jvm.Cond.selects "FireSale$Town" ({ cls := "FireSale$Town", name := "worth", desc := "(LFireSale$State;I)I" } : Jvm.MethodName) ({ cls := "FireSale$Town", name := "worth", desc := "(LFireSale$State;I)I" } : Jvm.MethodName)) ∈ lw_all := lw_g (lw_at lw_m4 4 rfl) rfl
theorem q822 : (Jvm.Cond.code ({ cls := "FireSale$Town", name := "worth", desc := "(LFireSale$State;I)I" } : Jvm.MethodName) prog_8_method_15_code (3 : Nat) (Option.some Jvm.ClassFile.FieldType.int)) ∈ lw_all := lw_g (lw_at lw_m4 5 rfl) rfl
theorem q823 : (Jvm.Cond.methodLink "FireSale$Town" (240 : Nat) ({ cls := "FireSale$Town", name := "pays", desc := "(IIII[I)V" } : Jvm.MethodName)) ∈ lw_all := lw_g (lw_at lw_m4 6 rfl) rfl
theorem q824 : (Jvm.Cond.privateMethod ({ cls := "FireSale$Town", name := "pays", desc := "(IIII[I)V" } : Jvm.MethodName)) ∈ lw_tbl := lw_at lw_m4 7 rfl
theorem q825 : (Jvm.Cond.instanceMethod ({ cls := "FireSale$Town", name := "pays", desc := "(IIII[I)V" } : Jvm.MethodName)) ∈ lw_all := lw_g (lw_at lw_m4 8 rfl) rfl
theorem q826 : (Jvm.Cond.code ({ cls := "FireSale$Town", name := "pays", desc := "(IIII[I)V" } : Jvm.MethodName) prog_8_method_37_code (6 : Nat) (Option.none : Option Jvm.ClassFile.FieldType)) ∈ lw_all := lw_g (lw_at lw_m4 9 rfl) rfl
theorem q827 : (Jvm.Cond.methodLink "FireSale$Town" (244 : Nat) ({ cls := "FireSale$Town", name := "closes", desc := "(I)V" } : Jvm.MethodName)) ∈ lw_all := lw_g (lw_at lw_m4 10 rfl) rfl
theorem q828 : (Jvm.Cond.privateMethod ({ cls := "FireSale$Town", name := "closes", desc := "(I)V" } : Jvm.MethodName)) ∈ lw_tbl := lw_at lw_m4 11 rfl
theorem q829 : (Jvm.Cond.instanceMethod ({ cls := "FireSale$Town", name := "closes", desc := "(I)V" } : Jvm.MethodName)) ∈ lw_all := lw_g (lw_at lw_m4 12 rfl) rfl
theorem q830 : (Jvm.Cond.code ({ cls := "FireSale$Town", name := "closes", desc := "(I)V" } : Jvm.MethodName) prog_8_method_41_code (3 : Nat) (Option.none : Option Jvm.ClassFile.FieldType)) ∈ lw_all := lw_g (lw_at lw_m4 13 rfl) rfl
theorem q831 : (Jvm.Cond.methodLink "FireSale$Town" (217 : Nat) ({ cls := "FireSale$Town", name := "soldAll", desc := "(LFireSale$State;)I" } : Jvm.MethodName)) ∈ lw_all := lw_g (lw_at lw_m4 14 rfl) rfl
theorem q873 : (Jvm.Cond.instanceMethod ({ cls := "FireSale$Town", name := "held", desc := "(I)I" } : Jvm.MethodName)) ∈ lw_all := lw_g (lw_at lw_m4 56 rfl) rfl
theorem q874 : (Jvm.Cond.selects "FireSale$Town" ({ cls := "FireSale$Town", name := "held", desc := "(I)I" } : Jvm.MethodName) ({ cls := "FireSale$Town", name := "held", desc := "(I)I" } : Jvm.MethodName)) ∈ lw_all := lw_g (lw_at lw_m4 57 rfl) rfl
theorem q875 : (Jvm.Cond.code ({ cls := "FireSale$Town", name := "held", desc := "(I)I" } : Jvm.MethodName) prog_8_method_6_code (7 : Nat) (Option.some Jvm.ClassFile.FieldType.int)) ∈ lw_all := lw_g (lw_at lw_m4 58 rfl) rfl
theorem q901 : (Jvm.Cond.instanceMethod ({ cls := "FireSale$Town", name := "state", desc := "(I)LFireSale$State;" } : Jvm.MethodName)) ∈ lw_all := lw_g (lw_at lw_m4 84 rfl) rfl
theorem q902 : (Jvm.Cond.selects "FireSale$Town" ({ cls := "FireSale$Town", name := "state", desc := "(I)LFireSale$State;" } : Jvm.MethodName) ({ cls := "FireSale$Town", name := "state", desc := "(I)LFireSale$State;" } : Jvm.MethodName)) ∈ lw_all := lw_g (lw_at lw_m4 85 rfl) rfl
theorem q903 : (Jvm.Cond.code ({ cls := "FireSale$Town", name := "state", desc := "(I)LFireSale$State;" } : Jvm.MethodName) prog_8_method_27_code (2 : Nat) (Option.some (Jvm.ClassFile.FieldType.object "FireSale$State"))) ∈ lw_all := lw_g (lw_at lw_m4 86 rfl) rfl
theorem q904 : (Jvm.Cond.methodLink "FireSale$Town" (198 : Nat) ({ cls := "FireSale$Town", name := "panic", desc := "()LFireSale$State;" } : Jvm.MethodName)) ∈ lw_all := lw_g (lw_at lw_m4 87 rfl) rfl
theorem q905 : (Jvm.Cond.instanceMethod ({ cls := "FireSale$Town", name := "panic", desc := "()LFireSale$State;" } : Jvm.MethodName)) ∈ lw_all := lw_g (lw_at lw_m4 88 rfl) rfl
theorem q906 : (Jvm.Cond.selects "FireSale$Town" ({ cls := "FireSale$Town", name := "panic", desc := "()LFireSale$State;" } : Jvm.MethodName) ({ cls := "FireSale$Town", name := "panic", desc := "()LFireSale$State;" } : Jvm.MethodName)) ∈ lw_all := lw_g (lw_at lw_m4 89 rfl) rfl
theorem q907 : (Jvm.Cond.code ({ cls := "FireSale$Town", name := "panic", desc := "()LFireSale$State;" } : Jvm.MethodName) prog_8_method_11_code (3 : Nat) (Option.some (Jvm.ClassFile.FieldType.object "FireSale$State"))) ∈ lw_all := lw_g (lw_at lw_m4 90 rfl) rfl
theorem q908 : (Jvm.Cond.methodLink "FireSale$Town" (91 : Nat) ({ cls := "FireSale$Town", name := "held", desc := "(I)I" } : Jvm.MethodName)) ∈ lw_all := lw_g (lw_at lw_m4 91 rfl) rfl
theorem q910 : (Jvm.Cond.instanceMethod ({ cls := "FireSale$Town", name := "tells", desc := "(LFireSale$State;I)I" } : Jvm.MethodName)) ∈ lw_all := lw_g (lw_at lw_m4 93 rfl) rfl
theorem q911 : (Jvm.Cond.selects "FireSale$Town" ({ cls := "FireSale$Town", name := "tells", desc := "(LFireSale$State;I)I" } : Jvm.MethodName) ({ cls := "FireSale$Town", name := "tells", desc := "(LFireSale$State;I)I" } : Jvm.MethodName)) ∈ lw_all := lw_g (lw_at lw_m4 94 rfl) rfl
theorem q912 : (Jvm.Cond.code ({ cls := "FireSale$Town", name := "tells", desc := "(LFireSale$State;I)I" } : Jvm.MethodName) prog_8_method_30_code (3 : Nat) (Option.some Jvm.ClassFile.FieldType.int)) ∈ lw_all := lw_g (lw_at lw_m4 95 rfl) rfl
theorem q913 : (Jvm.Cond.methodLink "FireSale$Town" (204 : Nat) ({ cls := "FireSale$Town", name := "isAsset", desc := "(I)Z" } : Jvm.MethodName)) ∈ lw_all := lw_g (lw_at lw_m4 96 rfl) rfl
theorem q914 : (Jvm.Cond.methodLink "FireSale$Town" (208 : Nat) ({ cls := "FireSale$Town", name := "lost", desc := "(LFireSale$State;)I" } : Jvm.MethodName)) ∈ lw_all := lw_g (lw_at lw_m4 97 rfl) rfl
theorem q915 : (Jvm.Cond.instanceMethod ({ cls := "FireSale$Town", name := "lost", desc := "(LFireSale$State;)I" } : Jvm.MethodName)) ∈ lw_all := lw_g (lw_at lw_m4 98 rfl) rfl
theorem q916 : (Jvm.Cond.selects "FireSale$Town" ({ cls := "FireSale$Town", name := "lost", desc := "(LFireSale$State;)I" } : Jvm.MethodName) ({ cls := "FireSale$Town", name := "lost", desc := "(LFireSale$State;)I" } : Jvm.MethodName)) ∈ lw_all := lw_g (lw_at lw_m4 99 rfl) rfl
theorem q917 : (Jvm.Cond.code ({ cls := "FireSale$Town", name := "lost", desc := "(LFireSale$State;)I" } : Jvm.MethodName) prog_8_method_29_code (4 : Nat) (Option.some Jvm.ClassFile.FieldType.int)) ∈ lw_all := lw_g (lw_at lw_m4 100 rfl) rfl
theorem q918 : (Jvm.Cond.methodLink "FireSale$Town" (201 : Nat) ({ cls := "FireSale$Town", name := "calmPrice", desc := "(I)I" } : Jvm.MethodName)) ∈ lw_all := lw_g (lw_at lw_m4 101 rfl) rfl
theorem q919 : (Jvm.Cond.privateMethod ({ cls := "FireSale$Town", name := "calmPrice", desc := "(I)I" } : Jvm.MethodName)) ∈ lw_tbl := lw_at lw_m4 102 rfl
theorem q920 : (Jvm.Cond.instanceMethod ({ cls := "FireSale$Town", name := "calmPrice", desc := "(I)I" } : Jvm.MethodName)) ∈ lw_all := lw_g (lw_at lw_m4 103 rfl) rfl
theorem q921 : (Jvm.Cond.code ({ cls := "FireSale$Town", name := "calmPrice", desc := "(I)I" } : Jvm.MethodName) prog_8_method_28_code (2 : Nat) (Option.some Jvm.ClassFile.FieldType.int)) ∈ lw_all := lw_g (lw_at lw_m4 104 rfl) rfl
theorem q922 : (Jvm.Cond.methodLink "FireSale$Town" (212 : Nat) ({ cls := "java/lang/Integer", name := "bitCount", desc := "(I)I" } : Jvm.MethodName)) ∈ lw_all := lw_g (lw_at lw_m4 105 rfl) rfl
theorem q935 : (Jvm.Cond.instanceMethod ({ cls := "FireSale$Town", name := "rounds", desc := "(LFireSale$State;)I" } : Jvm.MethodName)) ∈ lw_all := lw_g (lw_at lw_m4 118 rfl) rfl
theorem q936 : (Jvm.Cond.selects "FireSale$Town" ({ cls := "FireSale$Town", name := "rounds", desc := "(LFireSale$State;)I" } : Jvm.MethodName) ({ cls := "FireSale$Town", name := "rounds", desc := "(LFireSale$State;)I" } : Jvm.MethodName)) ∈ lw_all := lw_g (lw_at lw_m4 119 rfl) rfl
theorem q937 : (Jvm.Cond.code ({ cls := "FireSale$Town", name := "rounds", desc := "(LFireSale$State;)I" } : Jvm.MethodName) prog_8_method_26_code (3 : Nat) (Option.some Jvm.ClassFile.FieldType.int)) ∈ lw_all := lw_g (lw_at lw_m4 120 rfl) rfl
theorem q961 : (Jvm.Cond.instanceMethod ({ cls := "FireSale$Town", name := "behind", desc := "(I)LFireSale$State;" } : Jvm.MethodName)) ∈ lw_all := lw_g (lw_at lw_m4 144 rfl) rfl
theorem q962 : (Jvm.Cond.selects "FireSale$Town" ({ cls := "FireSale$Town", name := "behind", desc := "(I)LFireSale$State;" } : Jvm.MethodName) ({ cls := "FireSale$Town", name := "behind", desc := "(I)LFireSale$State;" } : Jvm.MethodName)) ∈ lw_all := lw_g (lw_at lw_m4 145 rfl) rfl
theorem q963 : (Jvm.Cond.code ({ cls := "FireSale$Town", name := "behind", desc := "(I)LFireSale$State;" } : Jvm.MethodName) prog_8_method_24_code (2 : Nat) (Option.some (Jvm.ClassFile.FieldType.object "FireSale$State"))) ∈ lw_all := lw_g (lw_at lw_m4 146 rfl) rfl
theorem q980 : (Jvm.Cond.instanceMethod ({ cls := "FireSale$Town", name := "falls", desc := "()[I" } : Jvm.MethodName)) ∈ lw_all := lw_g (lw_at lw_m4 163 rfl) rfl
theorem q981 : (Jvm.Cond.selects "FireSale$Town" ({ cls := "FireSale$Town", name := "falls", desc := "()[I" } : Jvm.MethodName) ({ cls := "FireSale$Town", name := "falls", desc := "()[I" } : Jvm.MethodName)) ∈ lw_all := lw_g (lw_at lw_m4 164 rfl) rfl
theorem q982 : (Jvm.Cond.code ({ cls := "FireSale$Town", name := "falls", desc := "()[I" } : Jvm.MethodName) prog_8_method_40_code (6 : Nat) (Option.some (Jvm.ClassFile.FieldType.array Jvm.ClassFile.FieldType.int))) ∈ lw_all := lw_g (lw_at lw_m4 165 rfl) rfl
theorem q983 : (Jvm.Cond.methodLink "FireSale$Town" (232 : Nat) ({ cls := "FireSale$Town", name := "rounds", desc := "(LFireSale$State;)I" } : Jvm.MethodName)) ∈ lw_all := lw_g (lw_at lw_m4 166 rfl) rfl
theorem q999 : (Jvm.Cond.instanceMethod ({ cls := "FireSale$Town", name := "behind", desc := "(LFireSale$State;I)LFireSale$State;" } : Jvm.MethodName)) ∈ lw_all := lw_g (lw_at lw_m4 182 rfl) rfl
theorem q1000 : (Jvm.Cond.selects "FireSale$Town" ({ cls := "FireSale$Town", name := "behind", desc := "(LFireSale$State;I)LFireSale$State;" } : Jvm.MethodName) ({ cls := "FireSale$Town", name := "behind", desc := "(LFireSale$State;I)LFireSale$State;" } : Jvm.MethodName)) ∈ lw_all := lw_g (lw_at lw_m4 183 rfl) rfl
theorem q1001 : (Jvm.Cond.code ({ cls := "FireSale$Town", name := "behind", desc := "(LFireSale$State;I)LFireSale$State;" } : Jvm.MethodName) prog_8_method_25_code (3 : Nat) (Option.some (Jvm.ClassFile.FieldType.object "FireSale$State"))) ∈ lw_all := lw_g (lw_at lw_m4 184 rfl) rfl
theorem q1012 : (Jvm.Cond.instanceMethod ({ cls := "FireSale$Town", name := "index", desc := "(LFireSale$State;)F" } : Jvm.MethodName)) ∈ lw_all := lw_g (lw_at lw_m4 195 rfl) rfl
theorem q1013 : (Jvm.Cond.selects "FireSale$Town" ({ cls := "FireSale$Town", name := "index", desc := "(LFireSale$State;)F" } : Jvm.MethodName) ({ cls := "FireSale$Town", name := "index", desc := "(LFireSale$State;)F" } : Jvm.MethodName)) ∈ lw_all := lw_g (lw_at lw_m4 196 rfl) rfl
theorem q1014 : (Jvm.Cond.code ({ cls := "FireSale$Town", name := "index", desc := "(LFireSale$State;)F" } : Jvm.MethodName) prog_8_method_33_code (5 : Nat) (Option.some Jvm.ClassFile.FieldType.float)) ∈ lw_all := lw_g (lw_at lw_m4 197 rfl) rfl
theorem q1015 : (Jvm.Cond.methodLink "FireSale$Town" (220 : Nat) ({ cls := "FireSale$Town", name := "heldAll", desc := "()I" } : Jvm.MethodName)) ∈ lw_all := lw_g (lw_at lw_m4 198 rfl) rfl
theorem q1016 : (Jvm.Cond.instanceMethod ({ cls := "FireSale$Town", name := "heldAll", desc := "()I" } : Jvm.MethodName)) ∈ lw_all := lw_g (lw_at lw_m4 199 rfl) rfl
theorem q1017 : (Jvm.Cond.selects "FireSale$Town" ({ cls := "FireSale$Town", name := "heldAll", desc := "()I" } : Jvm.MethodName) ({ cls := "FireSale$Town", name := "heldAll", desc := "()I" } : Jvm.MethodName)) ∈ lw_all := lw_g (lw_at lw_m4 200 rfl) rfl
theorem q1018 : (Jvm.Cond.code ({ cls := "FireSale$Town", name := "heldAll", desc := "()I" } : Jvm.MethodName) prog_8_method_7_code (3 : Nat) (Option.some Jvm.ClassFile.FieldType.int)) ∈ lw_all := lw_g (lw_at lw_m4 201 rfl) rfl
theorem q1019 : (Jvm.Cond.methodLink "FireSale$Town" (223 : Nat) ({ cls := "FireSale$Town", name := "ratio", desc := "(LFireSale$State;I)F" } : Jvm.MethodName)) ∈ lw_all := lw_g (lw_at lw_m4 202 rfl) rfl
theorem q1020 : (Jvm.Cond.instanceMethod ({ cls := "FireSale$Town", name := "ratio", desc := "(LFireSale$State;I)F" } : Jvm.MethodName)) ∈ lw_all := lw_g (lw_at lw_m4 203 rfl) rfl
theorem q1021 : (Jvm.Cond.selects "FireSale$Town" ({ cls := "FireSale$Town", name := "ratio", desc := "(LFireSale$State;I)F" } : Jvm.MethodName) ({ cls := "FireSale$Town", name := "ratio", desc := "(LFireSale$State;I)F" } : Jvm.MethodName)) ∈ lw_all := lw_g (lw_at lw_m4 204 rfl) rfl
theorem q1022 : (Jvm.Cond.code ({ cls := "FireSale$Town", name := "ratio", desc := "(LFireSale$State;I)F" } : Jvm.MethodName) prog_8_method_32_code (4 : Nat) (Option.some Jvm.ClassFile.FieldType.float)) ∈ lw_all := lw_g (lw_at lw_m4 205 rfl) rfl
theorem q1038 : (Jvm.Cond.instanceMethod ({ cls := "FireSale$Town", name := "drop", desc := "(LFireSale$State;)I" } : Jvm.MethodName)) ∈ lw_all := lw_g (lw_at lw_m4 221 rfl) rfl
theorem q1039 : (Jvm.Cond.selects "FireSale$Town" ({ cls := "FireSale$Town", name := "drop", desc := "(LFireSale$State;)I" } : Jvm.MethodName) ({ cls := "FireSale$Town", name := "drop", desc := "(LFireSale$State;)I" } : Jvm.MethodName)) ∈ lw_all := lw_g (lw_at lw_m4 222 rfl) rfl
theorem q1040 : (Jvm.Cond.code ({ cls := "FireSale$Town", name := "drop", desc := "(LFireSale$State;)I" } : Jvm.MethodName) prog_8_method_34_code (2 : Nat) (Option.some Jvm.ClassFile.FieldType.int)) ∈ lw_all := lw_g (lw_at lw_m4 223 rfl) rfl
theorem q1041 : (Jvm.Cond.methodLink "FireSale$Town" (227 : Nat) ({ cls := "FireSale$Town", name := "index", desc := "(LFireSale$State;)F" } : Jvm.MethodName)) ∈ lw_all := lw_g (lw_at lw_m4 224 rfl) rfl
theorem q1042 : (Jvm.Cond.constantFloat "FireSale$Town" (231 : Nat) (1148846080 : UInt32)) ∈ lw_all := lw_g (lw_at lw_m4 225 rfl) rfl
theorem q1053 : (Jvm.Cond.instanceMethod ({ cls := "FireSale$Town", name := "mood", desc := "()D" } : Jvm.MethodName)) ∈ lw_all := lw_g (lw_at lw_m4 236 rfl) rfl
theorem q1054 : (Jvm.Cond.selects "FireSale$Town" ({ cls := "FireSale$Town", name := "mood", desc := "()D" } : Jvm.MethodName) ({ cls := "FireSale$Town", name := "mood", desc := "()D" } : Jvm.MethodName)) ∈ lw_all := lw_g (lw_at lw_m4 237 rfl) rfl
theorem q1055 : (Jvm.Cond.code ({ cls := "FireSale$Town", name := "mood", desc := "()D" } : Jvm.MethodName) prog_8_method_35_code (6 : Nat) (Option.some Jvm.ClassFile.FieldType.double)) ∈ lw_all := lw_g (lw_at lw_m4 238 rfl) rfl
theorem q1056 : (Jvm.Cond.constantDouble "FireSale$Town" (235 : Nat) (4602678819172646912 : UInt64)) ∈ lw_all := lw_g (lw_at lw_m4 239 rfl) rfl
theorem q1167 : (Jvm.Cond.instanceMethod ({ cls := "FireSale$Town", name := "text", desc := "()Ljava/lang/String;" } : Jvm.MethodName)) ∈ lw_all := lw_g (lw_at lw_m5 110 rfl) rfl
theorem q1168 : (Jvm.Cond.selects "FireSale$Town" ({ cls := "FireSale$Town", name := "text", desc := "()Ljava/lang/String;" } : Jvm.MethodName) ({ cls := "FireSale$Town", name := "text", desc := "()Ljava/lang/String;" } : Jvm.MethodName)) ∈ lw_all := lw_g (lw_at lw_m5 111 rfl) rfl
theorem q1169 : (Jvm.Cond.code ({ cls := "FireSale$Town", name := "text", desc := "()Ljava/lang/String;" } : Jvm.MethodName) prog_8_method_43_code (4 : Nat) (Option.some (Jvm.ClassFile.FieldType.object "java/lang/String"))) ∈ lw_all := lw_g (lw_at lw_m5 112 rfl) rfl
theorem q1170 : (Jvm.Cond.classLink "FireSale$Town" (252 : Nat) "java/lang/StringBuilder") ∈ lw_all := lw_g (lw_at lw_m5 113 rfl) rfl
theorem q1172 : (Jvm.Cond.methodLink "FireSale$Town" (263 : Nat) ({ cls := "java/lang/StringBuilder", name := "<init>", desc := "()V" } : Jvm.MethodName)) ∈ lw_all := lw_g (lw_at lw_m5 115 rfl) rfl
theorem q1201 : (Jvm.Cond.stringRef "FireSale$Town" (264 : Nat) "asset") ∈ lw_tbl := lw_at lw_m5 144 rfl
theorem q1202 : (Jvm.Cond.methodLink "FireSale$Town" (265 : Nat) ({ cls := "FireSale$Town", name := "row", desc := "(Ljava/lang/StringBuilder;Ljava/lang/String;[I)V" } : Jvm.MethodName)) ∈ lw_all := lw_g (lw_at lw_m5 145 rfl) rfl
theorem q1203 : (Jvm.Cond.static ({ cls := "FireSale$Town", name := "row", desc := "(Ljava/lang/StringBuilder;Ljava/lang/String;[I)V" } : Jvm.MethodName)) ∈ lw_all := lw_g (lw_at lw_m5 146 rfl) rfl
theorem q1204 : (Jvm.Cond.code ({ cls := "FireSale$Town", name := "row", desc := "(Ljava/lang/StringBuilder;Ljava/lang/String;[I)V" } : Jvm.MethodName) prog_8_method_42_code (7 : Nat) (Option.none : Option Jvm.ClassFile.FieldType)) ∈ lw_all := lw_g (lw_at lw_m5 147 rfl) rfl
theorem q1205 : (Jvm.Cond.methodLink "FireSale$Town" (251 : Nat) ({ cls := "java/lang/StringBuilder", name := "append", desc := "(Ljava/lang/String;)Ljava/lang/StringBuilder;" } : Jvm.MethodName)) ∈ lw_all := lw_g (lw_at lw_m5 148 rfl) rfl
theorem q1315 : (Jvm.Cond.methodLink "FireSale$Town" (257 : Nat) ({ cls := "java/lang/StringBuilder", name := "append", desc := "(C)Ljava/lang/StringBuilder;" } : Jvm.MethodName)) ∈ lw_all := lw_g (lw_at lw_m6 18 rfl) rfl
theorem q1337 : (Jvm.Cond.methodLink "FireSale$Town" (260 : Nat) ({ cls := "java/lang/StringBuilder", name := "append", desc := "(I)Ljava/lang/StringBuilder;" } : Jvm.MethodName)) ∈ lw_all := lw_g (lw_at lw_m6 40 rfl) rfl
theorem q1362 : (Jvm.Cond.stringRef "FireSale$Town" (268 : Nat) "house") ∈ lw_tbl := lw_at lw_m6 65 rfl
theorem q1363 : (Jvm.Cond.methodLink "FireSale$Town" (270 : Nat) ({ cls := "FireSale$Town", name := "loans", desc := "(Ljava/lang/StringBuilder;II)V" } : Jvm.MethodName)) ∈ lw_all := lw_g (lw_at lw_m6 66 rfl) rfl
theorem q1364 : (Jvm.Cond.privateMethod ({ cls := "FireSale$Town", name := "loans", desc := "(Ljava/lang/StringBuilder;II)V" } : Jvm.MethodName)) ∈ lw_tbl := lw_at lw_m6 67 rfl
theorem q1365 : (Jvm.Cond.instanceMethod ({ cls := "FireSale$Town", name := "loans", desc := "(Ljava/lang/StringBuilder;II)V" } : Jvm.MethodName)) ∈ lw_all := lw_g (lw_at lw_m6 68 rfl) rfl
theorem q1366 : (Jvm.Cond.code ({ cls := "FireSale$Town", name := "loans", desc := "(Ljava/lang/StringBuilder;II)V" } : Jvm.MethodName) prog_8_method_44_code (4 : Nat) (Option.none : Option Jvm.ClassFile.FieldType)) ∈ lw_all := lw_g (lw_at lw_m6 69 rfl) rfl
theorem q1367 : (Jvm.Cond.stringRef "FireSale$Town" (282 : Nat) "loan") ∈ lw_tbl := lw_at lw_m6 70 rfl
theorem q1368 : (Jvm.Cond.methodLink "FireSale$Town" (274 : Nat) ({ cls := "FireSale$Town", name := "rules", desc := "(Ljava/lang/StringBuilder;LFireSale$Rule;)V" } : Jvm.MethodName)) ∈ lw_all := lw_g (lw_at lw_m6 71 rfl) rfl
theorem q1369 : (Jvm.Cond.static ({ cls := "FireSale$Town", name := "rules", desc := "(Ljava/lang/StringBuilder;LFireSale$Rule;)V" } : Jvm.MethodName)) ∈ lw_all := lw_g (lw_at lw_m6 72 rfl) rfl
theorem q1370 : (Jvm.Cond.code ({ cls := "FireSale$Town", name := "rules", desc := "(Ljava/lang/StringBuilder;LFireSale$Rule;)V" } : Jvm.MethodName) prog_8_method_45_code (2 : Nat) (Option.none : Option Jvm.ClassFile.FieldType)) ∈ lw_all := lw_g (lw_at lw_m6 73 rfl) rfl
theorem q1371 : (Jvm.Cond.methodLink "FireSale$Town" (283 : Nat) ({ cls := "FireSale$Rule", name := "kind", desc := "()I" } : Jvm.MethodName)) ∈ lw_all := lw_g (lw_at lw_m6 74 rfl) rfl
theorem q1372 : (Jvm.Cond.stringRef "FireSale$Town" (286 : Nat) "cap") ∈ lw_tbl := lw_at lw_m6 75 rfl
theorem q1373 : (Jvm.Cond.stringRef "FireSale$Town" (287 : Nat) "shock") ∈ lw_tbl := lw_at lw_m6 76 rfl
theorem q1374 : (Jvm.Cond.methodLink "FireSale$Town" (278 : Nat) ({ cls := "java/lang/StringBuilder", name := "toString", desc := "()Ljava/lang/String;" } : Jvm.MethodName)) ∈ lw_all := lw_g (lw_at lw_m6 77 rfl) rfl
theorem q2220 : (Jvm.Cond.castable "FireSale$Town" "java/lang/Object") ∈ lw_tbl := lw_at lw_m9 203 rfl
abbrev cX2_init : ByteArray := prog_5_method_1_code
def yX2_init : MethodName := ⟨RX2, "<init>", "([LFireSale$Rule;)V"⟩
abbrev cX2_copy : ByteArray := prog_5_method_2_code
def yX2_copy : MethodName := ⟨RX2, "copy", "()LFireSale$Shelf;"⟩
abbrev cX2_takes : ByteArray := prog_5_method_3_code
def yX2_takes : MethodName := ⟨RX2, "takes", "(LFireSale$Rule;)Z"⟩
abbrev cX2_lays : ByteArray := prog_5_method_4_code
def yX2_lays : MethodName := ⟨RX2, "lays", "(LFireSale$Rule;)I"⟩
abbrev cX2_lifts : ByteArray := prog_5_method_5_code
def yX2_lifts : MethodName := ⟨RX2, "lifts", "(I)I"⟩
theorem q100 : (Jvm.Cond.initialized "FireSale$Shelf") ∈ lw_all := lw_g (lw_at lw_m1 3 rfl) rfl
theorem q149 : (Jvm.Cond.instantiable "FireSale$Shelf" (2 : Nat)) ∈ lw_all := lw_g (lw_at lw_m1 52 rfl) rfl
theorem q153 : (Jvm.Cond.instanceMethod ({ cls := "FireSale$Shelf", name := "<init>", desc := "([LFireSale$Rule;)V" } : Jvm.MethodName)) ∈ lw_all := lw_g (lw_at lw_m1 56 rfl) rfl
theorem q154 : (Jvm.Cond.code ({ cls := "FireSale$Shelf", name := "<init>", desc := "([LFireSale$Rule;)V" } : Jvm.MethodName) prog_5_method_1_code (2 : Nat) (Option.none : Option Jvm.ClassFile.FieldType)) ∈ lw_all := lw_g (lw_at lw_m1 57 rfl) rfl
theorem q155 : (Jvm.Cond.methodLink "FireSale$Shelf" (3 : Nat) ({ cls := "java/lang/Object", name := "<init>", desc := "()V" } : Jvm.MethodName)) ∈ lw_all := lw_g (lw_at lw_m1 58 rfl) rfl
theorem q156 : (Jvm.Cond.fieldLink "FireSale$Shelf" (9 : Nat) "FireSale$Shelf" "row" "[LFireSale$Rule;") ∈ lw_all := lw_g (lw_at lw_m1 59 rfl) rfl
theorem q159 : (Jvm.Cond.fieldLink "FireSale$Shelf" (23 : Nat) "FireSale$Shelf" "many" "I") ∈ lw_all := lw_g (lw_at lw_m1 62 rfl) rfl
theorem q163 : (Jvm.Cond.lays "FireSale$Shelf" "FireSale$Shelf" "row" "[LFireSale$Rule;") ∈ lw_all := lw_g (lw_at lw_m1 66 rfl) rfl
theorem q164 : (Jvm.Cond.soleField "FireSale$Shelf" "row") ∈ lw_all := lw_g (lw_at lw_m1 67 rfl) rfl
theorem q165 : (Jvm.Cond.lays "FireSale$Shelf" "FireSale$Shelf" "many" "I") ∈ lw_all := lw_g (lw_at lw_m1 68 rfl) rfl
theorem q166 : (Jvm.Cond.soleField "FireSale$Shelf" "many") ∈ lw_all := lw_g (lw_at lw_m1 69 rfl) rfl
theorem q167 : (Jvm.Cond.superclass "FireSale$Shelf" "java/lang/Object") ∈ lw_all := lw_g (lw_at lw_m1 70 rfl) rfl
theorem q357 : (Jvm.Cond.instanceMethod ({ cls := "FireSale$Shelf", name := "copy", desc := "()LFireSale$Shelf;" } : Jvm.MethodName)) ∈ lw_all := lw_g (lw_at lw_m2 20 rfl) rfl
theorem q358 : (Jvm.Cond.selects "FireSale$Shelf" ({ cls := "FireSale$Shelf", name := "copy", desc := "()LFireSale$Shelf;" } : Jvm.MethodName) ({ cls := "FireSale$Shelf", name := "copy", desc := "()LFireSale$Shelf;" } : Jvm.MethodName)) ∈ lw_all := lw_g (lw_at lw_m2 21 rfl) rfl
theorem q359 : (Jvm.Cond.code ({ cls := "FireSale$Shelf", name := "copy", desc := "()LFireSale$Shelf;" } : Jvm.MethodName) prog_5_method_2_code (2 : Nat) (Option.some (Jvm.ClassFile.FieldType.object "FireSale$Shelf"))) ∈ lw_all := lw_g (lw_at lw_m2 22 rfl) rfl
theorem q360 : (Jvm.Cond.classLink "FireSale$Shelf" (10 : Nat) "FireSale$Shelf") ∈ lw_all := lw_g (lw_at lw_m2 23 rfl) rfl
theorem q361 : (Jvm.Cond.methodLink "FireSale$Shelf" (15 : Nat) ({ cls := "[LFireSale$Rule;", name := "clone", desc := "()Ljava/lang/Object;" } : Jvm.MethodName)) ∈ lw_all := lw_g (lw_at lw_m2 24 rfl) rfl
theorem q365 : (Jvm.Cond.classLink "FireSale$Shelf" (16 : Nat) "[LFireSale$Rule;") ∈ lw_all := lw_g (lw_at lw_m2 28 rfl) rfl
theorem q366 : (Jvm.Cond.methodLink "FireSale$Shelf" (20 : Nat) ({ cls := "FireSale$Shelf", name := "<init>", desc := "([LFireSale$Rule;)V" } : Jvm.MethodName)) ∈ lw_all := lw_g (lw_at lw_m2 29 rfl) rfl
theorem q390 : (Jvm.Cond.selects "FireSale$Shelf" ({ cls := "java/lang/Object", name := "getClass", desc := "()Ljava/lang/Class;" } : Jvm.MethodName) ({ cls := "java/lang/Object", name := "getClass", desc := "()Ljava/lang/Class;" } : Jvm.MethodName)) ∈ lw_all := lw_g (lw_at lw_m2 53 rfl) rfl
theorem q491 : (Jvm.Cond.instanceMethod ({ cls := "FireSale$Shelf", name := "takes", desc := "(LFireSale$Rule;)Z" } : Jvm.MethodName)) ∈ lw_all := lw_g (lw_at lw_m2 154 rfl) rfl
theorem q492 : (Jvm.Cond.selects "FireSale$Shelf" ({ cls := "FireSale$Shelf", name := "takes", desc := "(LFireSale$Rule;)Z" } : Jvm.MethodName) ({ cls := "FireSale$Shelf", name := "takes", desc := "(LFireSale$Rule;)Z" } : Jvm.MethodName)) ∈ lw_all := lw_g (lw_at lw_m2 155 rfl) rfl
theorem q493 : (Jvm.Cond.codeWith ({ cls := "FireSale$Shelf", name := "takes", desc := "(LFireSale$Rule;)Z" } : Jvm.MethodName) prog_5_method_3_code (3 : Nat) (Option.some Jvm.ClassFile.FieldType.boolean) [((0 : Nat), (14 : Nat), (15 : Nat), (27 : Nat))]) ∈ lw_all := lw_g (lw_at lw_m2 156 rfl) rfl
theorem q494 : (Jvm.Cond.classLink "FireSale$Shelf" (27 : Nat) "java/lang/ArrayStoreException") ∈ lw_all := lw_g (lw_at lw_m2 157 rfl) rfl
theorem q564 : (Jvm.Cond.instanceMethod ({ cls := "FireSale$Shelf", name := "lays", desc := "(LFireSale$Rule;)I" } : Jvm.MethodName)) ∈ lw_all := lw_g (lw_at lw_m2 227 rfl) rfl
theorem q565 : (Jvm.Cond.selects "FireSale$Shelf" ({ cls := "FireSale$Shelf", name := "lays", desc := "(LFireSale$Rule;)I" } : Jvm.MethodName) ({ cls := "FireSale$Shelf", name := "lays", desc := "(LFireSale$Rule;)I" } : Jvm.MethodName)) ∈ lw_all := lw_g (lw_at lw_m2 228 rfl) rfl
theorem q566 : (Jvm.Cond.code ({ cls := "FireSale$Shelf", name := "lays", desc := "(LFireSale$Rule;)I" } : Jvm.MethodName) prog_5_method_4_code (2 : Nat) (Option.some Jvm.ClassFile.FieldType.int)) ∈ lw_all := lw_g (lw_at lw_m2 229 rfl) rfl
theorem q572 : (Jvm.Cond.instanceMethod ({ cls := "FireSale$Shelf", name := "lifts", desc := "(I)I" } : Jvm.MethodName)) ∈ lw_all := lw_g (lw_at lw_m2 235 rfl) rfl
theorem q573 : (Jvm.Cond.selects "FireSale$Shelf" ({ cls := "FireSale$Shelf", name := "lifts", desc := "(I)I" } : Jvm.MethodName) ({ cls := "FireSale$Shelf", name := "lifts", desc := "(I)I" } : Jvm.MethodName)) ∈ lw_all := lw_g (lw_at lw_m2 236 rfl) rfl
theorem q574 : (Jvm.Cond.code ({ cls := "FireSale$Shelf", name := "lifts", desc := "(I)I" } : Jvm.MethodName) prog_5_method_5_code (2 : Nat) (Option.some Jvm.ClassFile.FieldType.int)) ∈ lw_all := lw_g (lw_at lw_m2 237 rfl) rfl
theorem q575 : (Jvm.Cond.methodLink "FireSale$Shelf" (29 : Nat) ({ cls := "java/lang/System", name := "arraycopy", desc := "(Ljava/lang/Object;ILjava/lang/Object;II)V" } : Jvm.MethodName)) ∈ lw_all := lw_g (lw_at lw_m2 238 rfl) rfl
theorem q2215 : (Jvm.Cond.castable "FireSale$Shelf" "java/lang/Object") ∈ lw_tbl := lw_at lw_m9 198 rfl
abbrev cX3_init : ByteArray := prog_7_method_1_code
def yX3_init : MethodName := ⟨RX3, "<init>", "()V"⟩
abbrev cX3_like : ByteArray := prog_7_method_2_code
def yX3_like : MethodName := ⟨RX3, "like", "(LFireSale$State;)V"⟩
abbrev cX3_isLike : ByteArray := prog_7_method_3_code
def yX3_isLike : MethodName := ⟨RX3, "isLike", "(LFireSale$State;)Z"⟩
abbrev cX3_copy : ByteArray := prog_7_method_4_code
def yX3_copy : MethodName := ⟨RX3, "copy", "()LFireSale$State;"⟩
theorem q101 : (Jvm.Cond.initialized "FireSale$State") ∈ lw_all := lw_g (lw_at lw_m1 4 rfl) rfl
theorem q174 : (Jvm.Cond.instantiable "FireSale$State" (2 : Nat)) ∈ lw_all := lw_g (lw_at lw_m1 77 rfl) rfl
theorem q176 : (Jvm.Cond.instanceMethod ({ cls := "FireSale$State", name := "<init>", desc := "()V" } : Jvm.MethodName)) ∈ lw_all := lw_g (lw_at lw_m1 79 rfl) rfl
theorem q177 : (Jvm.Cond.code ({ cls := "FireSale$State", name := "<init>", desc := "()V" } : Jvm.MethodName) prog_7_method_1_code (1 : Nat) (Option.none : Option Jvm.ClassFile.FieldType)) ∈ lw_all := lw_g (lw_at lw_m1 80 rfl) rfl
theorem q178 : (Jvm.Cond.methodLink "FireSale$State" (3 : Nat) ({ cls := "java/lang/Object", name := "<init>", desc := "()V" } : Jvm.MethodName)) ∈ lw_all := lw_g (lw_at lw_m1 81 rfl) rfl
theorem q179 : (Jvm.Cond.fieldLink "FireSale$State" (9 : Nat) "FireSale$State" "sold" "[I") ∈ lw_all := lw_g (lw_at lw_m1 82 rfl) rfl
theorem q182 : (Jvm.Cond.fieldLink "FireSale$State" (21 : Nat) "FireSale$State" "fallen" "I") ∈ lw_all := lw_g (lw_at lw_m1 85 rfl) rfl
theorem q185 : (Jvm.Cond.lays "FireSale$State" "FireSale$State" "sold" "[I") ∈ lw_all := lw_g (lw_at lw_m1 88 rfl) rfl
theorem q186 : (Jvm.Cond.soleField "FireSale$State" "sold") ∈ lw_all := lw_g (lw_at lw_m1 89 rfl) rfl
theorem q187 : (Jvm.Cond.lays "FireSale$State" "FireSale$State" "fallen" "I") ∈ lw_all := lw_g (lw_at lw_m1 90 rfl) rfl
theorem q188 : (Jvm.Cond.soleField "FireSale$State" "fallen") ∈ lw_all := lw_g (lw_at lw_m1 91 rfl) rfl
theorem q189 : (Jvm.Cond.superclass "FireSale$State" "java/lang/Object") ∈ lw_all := lw_g (lw_at lw_m1 92 rfl) rfl
theorem q392 : (Jvm.Cond.selects "FireSale$State" ({ cls := "java/lang/Object", name := "getClass", desc := "()Ljava/lang/Class;" } : Jvm.MethodName) ({ cls := "java/lang/Object", name := "getClass", desc := "()Ljava/lang/Class;" } : Jvm.MethodName)) ∈ lw_all := lw_g (lw_at lw_m2 55 rfl) rfl
theorem q617 : (Jvm.Cond.instanceMethod ({ cls := "FireSale$State", name := "like", desc := "(LFireSale$State;)V" } : Jvm.MethodName)) ∈ lw_all := lw_g (lw_at lw_m3 40 rfl) rfl
theorem q618 : (Jvm.Cond.selects "FireSale$State" ({ cls := "FireSale$State", name := "like", desc := "(LFireSale$State;)V" } : Jvm.MethodName) ({ cls := "FireSale$State", name := "like", desc := "(LFireSale$State;)V" } : Jvm.MethodName)) ∈ lw_all := lw_g (lw_at lw_m3 41 rfl) rfl
theorem q619 : (Jvm.Cond.code ({ cls := "FireSale$State", name := "like", desc := "(LFireSale$State;)V" } : Jvm.MethodName) prog_7_method_2_code (2 : Nat) (Option.none : Option Jvm.ClassFile.FieldType)) ∈ lw_all := lw_g (lw_at lw_m3 42 rfl) rfl
theorem q620 : (Jvm.Cond.methodLink "FireSale$State" (15 : Nat) ({ cls := "java/lang/System", name := "arraycopy", desc := "(Ljava/lang/Object;ILjava/lang/Object;II)V" } : Jvm.MethodName)) ∈ lw_all := lw_g (lw_at lw_m3 43 rfl) rfl
theorem q686 : (Jvm.Cond.instanceMethod ({ cls := "FireSale$State", name := "isLike", desc := "(LFireSale$State;)Z" } : Jvm.MethodName)) ∈ lw_all := lw_g (lw_at lw_m3 109 rfl) rfl
theorem q687 : (Jvm.Cond.selects "FireSale$State" ({ cls := "FireSale$State", name := "isLike", desc := "(LFireSale$State;)Z" } : Jvm.MethodName) ({ cls := "FireSale$State", name := "isLike", desc := "(LFireSale$State;)Z" } : Jvm.MethodName)) ∈ lw_all := lw_g (lw_at lw_m3 110 rfl) rfl
theorem q688 : (Jvm.Cond.code ({ cls := "FireSale$State", name := "isLike", desc := "(LFireSale$State;)Z" } : Jvm.MethodName) prog_7_method_3_code (2 : Nat) (Option.some Jvm.ClassFile.FieldType.boolean)) ∈ lw_all := lw_g (lw_at lw_m3 111 rfl) rfl
theorem q689 : (Jvm.Cond.methodLink "FireSale$State" (25 : Nat) ({ cls := "java/util/Arrays", name := "equals", desc := "([I[I)Z" } : Jvm.MethodName)) ∈ lw_all := lw_g (lw_at lw_m3 112 rfl) rfl
theorem q795 : (Jvm.Cond.instanceMethod ({ cls := "FireSale$State", name := "copy", desc := "()LFireSale$State;" } : Jvm.MethodName)) ∈ lw_all := lw_g (lw_at lw_m3 218 rfl) rfl
theorem q796 : (Jvm.Cond.selects "FireSale$State" ({ cls := "FireSale$State", name := "copy", desc := "()LFireSale$State;" } : Jvm.MethodName) ({ cls := "FireSale$State", name := "copy", desc := "()LFireSale$State;" } : Jvm.MethodName)) ∈ lw_all := lw_g (lw_at lw_m3 219 rfl) rfl
theorem q797 : (Jvm.Cond.code ({ cls := "FireSale$State", name := "copy", desc := "()LFireSale$State;" } : Jvm.MethodName) prog_7_method_4_code (2 : Nat) (Option.some (Jvm.ClassFile.FieldType.object "FireSale$State"))) ∈ lw_all := lw_g (lw_at lw_m3 220 rfl) rfl
theorem q798 : (Jvm.Cond.classLink "FireSale$State" (10 : Nat) "FireSale$State") ∈ lw_all := lw_g (lw_at lw_m3 221 rfl) rfl
theorem q799 : (Jvm.Cond.methodLink "FireSale$State" (31 : Nat) ({ cls := "FireSale$State", name := "<init>", desc := "()V" } : Jvm.MethodName)) ∈ lw_all := lw_g (lw_at lw_m3 222 rfl) rfl
theorem q800 : (Jvm.Cond.methodLink "FireSale$State" (32 : Nat) ({ cls := "[I", name := "clone", desc := "()Ljava/lang/Object;" } : Jvm.MethodName)) ∈ lw_all := lw_g (lw_at lw_m3 223 rfl) rfl
theorem q801 : (Jvm.Cond.classLink "FireSale$State" (33 : Nat) "[I") ∈ lw_all := lw_g (lw_at lw_m3 224 rfl) rfl
theorem q2221 : (Jvm.Cond.castable "FireSale$State" "java/lang/Object") ∈ lw_tbl := lw_at lw_m9 204 rfl
abbrev cX4_init : ByteArray := prog_11_method_1_code
def yX4_init : MethodName := ⟨RX4, "<init>", "()V"⟩
abbrev cX4_feed : ByteArray := prog_11_method_11_code
def yX4_feed : MethodName := ⟨RX4, "feed", "(IIIII)I"⟩
abbrev cX4_back : ByteArray := prog_11_method_12_code
def yX4_back : MethodName := ⟨RX4, "back", "(I)I"⟩
abbrev cX4_isIn : ByteArray := prog_11_method_3_code
def yX4_isIn : MethodName := ⟨RX4, "isIn", "(III)Z"⟩
abbrev cX4_text : ByteArray := prog_11_method_24_code
def yX4_text : MethodName := ⟨RX4, "text", "()I"⟩
abbrev cX4_nextToken : ByteArray := prog_11_method_16_code
def yX4_nextToken : MethodName := ⟨RX4, "nextToken", "()V"⟩
abbrev cX4_isLetter : ByteArray := prog_11_method_13_code
def yX4_isLetter : MethodName := ⟨RX4, "isLetter", "(I)Z"⟩
abbrev cX4_isDigit : ByteArray := prog_11_method_14_code
def yX4_isDigit : MethodName := ⟨RX4, "isDigit", "(I)Z"⟩
abbrev cX4_wrong : ByteArray := prog_11_method_15_code
def yX4_wrong : MethodName := ⟨RX4, "wrong", "(I)V"⟩
abbrev cX4_readLine : ByteArray := prog_11_method_23_code
def yX4_readLine : MethodName := ⟨RX4, "readLine", "()V"⟩
abbrev cX4_isWord : ByteArray := prog_11_method_17_code
def yX4_isWord : MethodName := ⟨RX4, "isWord", "(J)Z"⟩
abbrev cX4_readAsset : ByteArray := prog_11_method_19_code
def yX4_readAsset : MethodName := ⟨RX4, "readAsset", "()V"⟩
abbrev cX4_number : ByteArray := prog_11_method_18_code
def yX4_number : MethodName := ⟨RX4, "number", "(II)I"⟩
abbrev cX4_readHouse : ByteArray := prog_11_method_20_code
def yX4_readHouse : MethodName := ⟨RX4, "readHouse", "()V"⟩
abbrev cX4_readLoan : ByteArray := prog_11_method_21_code
def yX4_readLoan : MethodName := ⟨RX4, "readLoan", "()V"⟩
abbrev cX4_readLaid : ByteArray := prog_11_method_22_code
def yX4_readLaid : MethodName := ⟨RX4, "readLaid", "(I)V"⟩
abbrev cX4_lays : ByteArray := prog_11_method_25_code
def yX4_lays : MethodName := ⟨RX4, "lays", "(IIII)V"⟩
abbrev cX4_asset : ByteArray := prog_11_method_47_code
def yX4_asset : MethodName := ⟨RX4, "asset", "(II)I"⟩
abbrev cX4_remembers : ByteArray := prog_11_method_45_code
def yX4_remembers : MethodName := ⟨RX4, "remembers", "()V"⟩
abbrev cX4_house : ByteArray := prog_11_method_48_code
def yX4_house : MethodName := ⟨RX4, "house", "(II)I"⟩
abbrev cX4_set : ByteArray := prog_11_method_49_code
def yX4_set : MethodName := ⟨RX4, "set", "(III)I"⟩
abbrev cX4_isHouse : ByteArray := prog_11_method_5_code
def yX4_isHouse : MethodName := ⟨RX4, "isHouse", "(I)Z"⟩
abbrev cX4_houseOf : ByteArray := prog_11_method_6_code
def yX4_houseOf : MethodName := ⟨RX4, "houseOf", "(II)I"⟩
abbrev cX4_puts : ByteArray := prog_11_method_46_code
def yX4_puts : MethodName := ⟨RX4, "puts", "(II)I"⟩
abbrev cX4_hold : ByteArray := prog_11_method_50_code
def yX4_hold : MethodName := ⟨RX4, "hold", "(III)I"⟩
abbrev cX4_isAsset : ByteArray := prog_11_method_4_code
def yX4_isAsset : MethodName := ⟨RX4, "isAsset", "(I)Z"⟩
abbrev cX4_holds : ByteArray := prog_11_method_7_code
def yX4_holds : MethodName := ⟨RX4, "holds", "(II)I"⟩
abbrev cX4_loan : ByteArray := prog_11_method_51_code
def yX4_loan : MethodName := ⟨RX4, "loan", "(III)I"⟩
abbrev cX4_loanOf : ByteArray := prog_11_method_8_code
def yX4_loanOf : MethodName := ⟨RX4, "loanOf", "(II)I"⟩
abbrev cX4_curve : ByteArray := prog_11_method_52_code
def yX4_curve : MethodName := ⟨RX4, "curve", "(III)I"⟩
abbrev cX4_lay : ByteArray := prog_11_method_53_code
def yX4_lay : MethodName := ⟨RX4, "lay", "(IIII)I"⟩
abbrev cX4_lift : ByteArray := prog_11_method_54_code
def yX4_lift : MethodName := ⟨RX4, "lift", "(II)I"⟩
abbrev cX4_net : ByteArray := prog_11_method_55_code
def yX4_net : MethodName := ⟨RX4, "net", "(II)I"⟩
abbrev cX4_merge : ByteArray := prog_11_method_59_code
def yX4_merge : MethodName := ⟨RX4, "merge", "(II)I"⟩
abbrev cX4_held : ByteArray := prog_11_method_56_code
def yX4_held : MethodName := ⟨RX4, "held", "(II)I"⟩
abbrev cX4_goes : ByteArray := prog_11_method_57_code
def yX4_goes : MethodName := ⟨RX4, "goes", "(I)V"⟩
abbrev cX4_clears : ByteArray := prog_11_method_58_code
def yX4_clears : MethodName := ⟨RX4, "clears", "(I)V"⟩
abbrev cX4_close : ByteArray := prog_11_method_60_code
def yX4_close : MethodName := ⟨RX4, "close", "(I)I"⟩
abbrev cX4_live : ByteArray := prog_11_method_61_code
def yX4_live : MethodName := ⟨RX4, "live", "()I"⟩
abbrev cX4_plain : ByteArray := prog_11_method_29_code
def yX4_plain : MethodName := ⟨RX4, "plain", "()V"⟩
abbrev cX4_least : ByteArray := prog_11_method_40_code
def yX4_least : MethodName := ⟨RX4, "least", "()V"⟩
abbrev cX4_calm : ByteArray := prog_11_method_37_code
def yX4_calm : MethodName := ⟨RX4, "calm", "()V"⟩
abbrev cX4_settles : ByteArray := prog_11_method_39_code
def yX4_settles : MethodName := ⟨RX4, "settles", "()V"⟩
abbrev cX4_goesOn : ByteArray := prog_11_method_36_code
def yX4_goesOn : MethodName := ⟨RX4, "goesOn", "()Z"⟩
abbrev cX4_worthNow : ByteArray := prog_11_method_32_code
def yX4_worthNow : MethodName := ⟨RX4, "worthNow", "(I)I"⟩
abbrev cX4_priceBy : ByteArray := prog_11_method_31_code
def yX4_priceBy : MethodName := ⟨RX4, "priceBy", "(II)I"⟩
abbrev cX4_shockNow : ByteArray := prog_11_method_28_code
def yX4_shockNow : MethodName := ⟨RX4, "shockNow", "(I)I"⟩
abbrev cX4_laidOf : ByteArray := prog_11_method_26_code
def yX4_laidOf : MethodName := ⟨RX4, "laidOf", "(III)I"⟩
abbrev cX4_must : ByteArray := prog_11_method_34_code
def yX4_must : MethodName := ⟨RX4, "must", "(I)I"⟩
abbrev cX4_piecesOf : ByteArray := prog_11_method_33_code
def yX4_piecesOf : MethodName := ⟨RX4, "piecesOf", "(I)I"⟩
abbrev cX4_mustOf : ByteArray := prog_11_method_35_code
def yX4_mustOf : MethodName := ⟨RX4, "mustOf", "(III)I"⟩
abbrev cX4_capOf : ByteArray := prog_11_method_30_code
def yX4_capOf : MethodName := ⟨RX4, "capOf", "(I)I"⟩
abbrev cX4_capNow : ByteArray := prog_11_method_27_code
def yX4_capNow : MethodName := ⟨RX4, "capNow", "(I)I"⟩
abbrev cX4_told : ByteArray := prog_11_method_44_code
def yX4_told : MethodName := ⟨RX4, "told", "(I)I"⟩
abbrev cX4_lost : ByteArray := prog_11_method_42_code
def yX4_lost : MethodName := ⟨RX4, "lost", "()I"⟩
abbrev cX4_heldOf : ByteArray := prog_11_method_9_code
def yX4_heldOf : MethodName := ⟨RX4, "heldOf", "(I)I"⟩
abbrev cX4_bits : ByteArray := prog_11_method_10_code
def yX4_bits : MethodName := ⟨RX4, "bits", "(I)I"⟩
abbrev cX4_sellsBy : ByteArray := prog_11_method_62_code
def yX4_sellsBy : MethodName := ⟨RX4, "sellsBy", "(I)V"⟩
abbrev cX4_shuts : ByteArray := prog_11_method_63_code
def yX4_shuts : MethodName := ⟨RX4, "shuts", "(I)V"⟩
abbrev cX4_undo : ByteArray := prog_11_method_64_code
def yX4_undo : MethodName := ⟨RX4, "undo", "()I"⟩
abbrev cX4_of : ByteArray := prog_11_method_65_code
def yX4_of : MethodName := ⟨RX4, "of", "(II)I"⟩
abbrev cX4_holding : ByteArray := prog_11_method_66_code
def yX4_holding : MethodName := ⟨RX4, "holding", "(II)I"⟩
abbrev cX4_owes : ByteArray := prog_11_method_67_code
def yX4_owes : MethodName := ⟨RX4, "owes", "(II)I"⟩
abbrev cX4_ofAsset : ByteArray := prog_11_method_68_code
def yX4_ofAsset : MethodName := ⟨RX4, "ofAsset", "(II)I"⟩
abbrev cX4_shelf : ByteArray := prog_11_method_69_code
def yX4_shelf : MethodName := ⟨RX4, "shelf", "(III)I"⟩
abbrev cX4_state : ByteArray := prog_11_method_70_code
def yX4_state : MethodName := ⟨RX4, "state", "(II)I"⟩
abbrev cX4_isAsked : ByteArray := prog_11_method_43_code
def yX4_isAsked : MethodName := ⟨RX4, "isAsked", "(I)Z"⟩
abbrev cX4_stands : ByteArray := prog_11_method_41_code
def yX4_stands : MethodName := ⟨RX4, "stands", "(I)V"⟩
abbrev cX4_panic : ByteArray := prog_11_method_38_code
def yX4_panic : MethodName := ⟨RX4, "panic", "()V"⟩
abbrev cX4_rounds : ByteArray := prog_11_method_71_code
def yX4_rounds : MethodName := ⟨RX4, "rounds", "(Z)I"⟩
abbrev cX4_price : ByteArray := prog_11_method_72_code
def yX4_price : MethodName := ⟨RX4, "price", "(II)I"⟩
abbrev cX4_worth : ByteArray := prog_11_method_73_code
def yX4_worth : MethodName := ⟨RX4, "worth", "(II)I"⟩
abbrev cX4_mustSell : ByteArray := prog_11_method_74_code
def yX4_mustSell : MethodName := ⟨RX4, "mustSell", "(III)I"⟩
abbrev cX4_round : ByteArray := prog_11_method_76_code
def yX4_round : MethodName := ⟨RX4, "round", "(II)I"⟩
abbrev cX4_goesTo : ByteArray := prog_11_method_75_code
def yX4_goesTo : MethodName := ⟨RX4, "goesTo", "(I)V"⟩
abbrev cX4_worthIn : ByteArray := prog_11_method_77_code
def yX4_worthIn : MethodName := ⟨RX4, "worthIn", "(II)I"⟩
abbrev cX4_sharpest : ByteArray := prog_11_method_78_code
def yX4_sharpest : MethodName := ⟨RX4, "sharpest", "()I"⟩
abbrev cX4_ranked : ByteArray := prog_11_method_80_code
def yX4_ranked : MethodName := ⟨RX4, "ranked", "(I)I"⟩
abbrev cX4_layFell : ByteArray := prog_11_method_79_code
def yX4_layFell : MethodName := ⟨RX4, "layFell", "()V"⟩
abbrev cX4_fellIn : ByteArray := prog_11_method_81_code
def yX4_fellIn : MethodName := ⟨RX4, "fellIn", "(I)I"⟩
abbrev cX4_next : ByteArray := prog_11_method_83_code
def yX4_next : MethodName := ⟨RX4, "next", "(IIII)I"⟩
abbrev cX4_isLaid : ByteArray := prog_11_method_82_code
def yX4_isLaid : MethodName := ⟨RX4, "isLaid", "(III)Z"⟩
abbrev cX4_isSteady : ByteArray := prog_11_method_84_code
def yX4_isSteady : MethodName := ⟨RX4, "isSteady", "(III)I"⟩
abbrev cX4_index : ByteArray := prog_11_method_87_code
def yX4_index : MethodName := ⟨RX4, "index", "(I)I"⟩
abbrev cX4_indexNow : ByteArray := prog_11_method_86_code
def yX4_indexNow : MethodName := ⟨RX4, "indexNow", "()F"⟩
abbrev cX4_ratioOf : ByteArray := prog_11_method_85_code
def yX4_ratioOf : MethodName := ⟨RX4, "ratioOf", "(I)F"⟩
abbrev cX4_drop : ByteArray := prog_11_method_88_code
def yX4_drop : MethodName := ⟨RX4, "drop", "(I)I"⟩
abbrev cX4_ratio : ByteArray := prog_11_method_89_code
def yX4_ratio : MethodName := ⟨RX4, "ratio", "(II)I"⟩
abbrev cX4_mood : ByteArray := prog_11_method_91_code
def yX4_mood : MethodName := ⟨RX4, "mood", "()J"⟩
abbrev cX4_moodNow : ByteArray := prog_11_method_90_code
def yX4_moodNow : MethodName := ⟨RX4, "moodNow", "()D"⟩
abbrev cX4_hundredths : ByteArray := prog_11_method_92_code
def yX4_hundredths : MethodName := ⟨RX4, "hundredths", "()I"⟩
abbrev cX4_rescue : ByteArray := prog_11_method_93_code
def yX4_rescue : MethodName := ⟨RX4, "rescue", "(III)I"⟩
abbrev cX4_helper : ByteArray := prog_11_method_96_code
def yX4_helper : MethodName := ⟨RX4, "helper", "(II)I"⟩
abbrev cX4_helped : ByteArray := prog_11_method_95_code
def yX4_helped : MethodName := ⟨RX4, "helped", "(I)I"⟩
abbrev cX4_lostNow : ByteArray := prog_11_method_94_code
def yX4_lostNow : MethodName := ⟨RX4, "lostNow", "()I"⟩
abbrev cX4_coinsFor : ByteArray := prog_11_method_98_code
def yX4_coinsFor : MethodName := ⟨RX4, "coinsFor", "(I)I"⟩
abbrev cX4_noneFalls : ByteArray := prog_11_method_97_code
def yX4_noneFalls : MethodName := ⟨RX4, "noneFalls", "()Z"⟩
abbrev cX4_aid : ByteArray := prog_11_method_99_code
def yX4_aid : MethodName := ⟨RX4, "aid", "(III)I"⟩
abbrev cX4_bestAid : ByteArray := prog_11_method_102_code
def yX4_bestAid : MethodName := ⟨RX4, "bestAid", "(III)I"⟩
abbrev cX4_ways : ByteArray := prog_11_method_101_code
def yX4_ways : MethodName := ⟨RX4, "ways", "(II)V"⟩
abbrev cX4_isRow : ByteArray := prog_11_method_100_code
def yX4_isRow : MethodName := ⟨RX4, "isRow", "(III)Z"⟩
abbrev cX4_buyer : ByteArray := prog_11_method_103_code
def yX4_buyer : MethodName := ⟨RX4, "buyer", "(III)I"⟩
abbrev cX4_capFor : ByteArray := prog_11_method_106_code
def yX4_capFor : MethodName := ⟨RX4, "capFor", "(I)I"⟩
abbrev cX4_greatestFor : ByteArray := prog_11_method_105_code
def yX4_greatestFor : MethodName := ⟨RX4, "greatestFor", "(IZI)I"⟩
abbrev cX4_isSafe : ByteArray := prog_11_method_104_code
def yX4_isSafe : MethodName := ⟨RX4, "isSafe", "(IZI)Z"⟩
abbrev cX4_shockFor : ByteArray := prog_11_method_107_code
def yX4_shockFor : MethodName := ⟨RX4, "shockFor", "(I)I"⟩
abbrev cX4_domino : ByteArray := prog_11_method_109_code
def yX4_domino : MethodName := ⟨RX4, "domino", "(II)I"⟩
abbrev cX4_leastWith : ByteArray := prog_11_method_108_code
def yX4_leastWith : MethodName := ⟨RX4, "leastWith", "(I)V"⟩
abbrev cX4_keystone : ByteArray := prog_11_method_110_code
def yX4_keystone : MethodName := ⟨RX4, "keystone", "()I"⟩
abbrev cX4_pulls : ByteArray := prog_11_method_111_code
def yX4_pulls : MethodName := ⟨RX4, "pulls", "(I)I"⟩
abbrev cX4_room : ByteArray := prog_11_method_112_code
def yX4_room : MethodName := ⟨RX4, "room", "(I)I"⟩
abbrev cX4_stress : ByteArray := prog_11_method_113_code
def yX4_stress : MethodName := ⟨RX4, "stress", "(II)I"⟩
abbrev cX4_fewest : ByteArray := prog_11_method_114_code
def yX4_fewest : MethodName := ⟨RX4, "fewest", "()I"⟩
abbrev cX4_doubtful : ByteArray := prog_11_method_115_code
def yX4_doubtful : MethodName := ⟨RX4, "doubtful", "()I"⟩
abbrev cX4_spell : ByteArray := prog_11_method_120_code
def yX4_spell : MethodName := ⟨RX4, "spell", "(I)I"⟩
abbrev cX4_spells : ByteArray := prog_11_method_117_code
def yX4_spells : MethodName := ⟨RX4, "spells", "(J)V"⟩
abbrev cX4_spellsByte : ByteArray := prog_11_method_116_code
def yX4_spellsByte : MethodName := ⟨RX4, "spellsByte", "(I)V"⟩
abbrev cX4_spellsNumber : ByteArray := prog_11_method_118_code
def yX4_spellsNumber : MethodName := ⟨RX4, "spellsNumber", "(I)V"⟩
abbrev cX4_spellsHouses : ByteArray := prog_11_method_119_code
def yX4_spellsHouses : MethodName := ⟨RX4, "spellsHouses", "()V"⟩
abbrev cX4_count : ByteArray := prog_11_method_121_code
def yX4_count : MethodName := ⟨RX4, "count", "(I)I"⟩
abbrev cX4_loans : ByteArray := prog_11_method_122_code
def yX4_loans : MethodName := ⟨RX4, "loans", "()I"⟩
theorem q104 : (Jvm.Cond.initialized "FireSaleModel") ∈ lw_all := lw_g (lw_at lw_m1 7 rfl) rfl
theorem q395 : (Jvm.Cond.selects "FireSaleModel" ({ cls := "java/lang/Object", name := "getClass", desc := "()Ljava/lang/Class;" } : Jvm.MethodName) ({ cls := "java/lang/Object", name := "getClass", desc := "()Ljava/lang/Class;" } : Jvm.MethodName)) ∈ lw_all := lw_g (lw_at lw_m2 58 rfl) rfl
theorem q1595 : (Jvm.Cond.instantiable "FireSaleModel" (35 : Nat)) ∈ lw_all := lw_g (lw_at lw_m7 58 rfl) rfl
theorem q1597 : (Jvm.Cond.instanceMethod ({ cls := "FireSaleModel", name := "<init>", desc := "()V" } : Jvm.MethodName)) ∈ lw_all := lw_g (lw_at lw_m7 60 rfl) rfl
theorem q1598 : (Jvm.Cond.code ({ cls := "FireSaleModel", name := "<init>", desc := "()V" } : Jvm.MethodName) prog_11_method_1_code (1 : Nat) (Option.none : Option Jvm.ClassFile.FieldType)) ∈ lw_all := lw_g (lw_at lw_m7 61 rfl) rfl
theorem q1599 : (Jvm.Cond.methodLink "FireSaleModel" (1 : Nat) ({ cls := "java/lang/Object", name := "<init>", desc := "()V" } : Jvm.MethodName)) ∈ lw_all := lw_g (lw_at lw_m7 62 rfl) rfl
theorem q1600 : (Jvm.Cond.fieldLink "FireSaleModel" (7 : Nat) "FireSaleModel" "now" "[I") ∈ lw_all := lw_g (lw_at lw_m7 63 rfl) rfl
theorem q1601 : (Jvm.Cond.fieldLink "FireSaleModel" (13 : Nat) "FireSaleModel" "aside" "[I") ∈ lw_all := lw_g (lw_at lw_m7 64 rfl) rfl
theorem q1602 : (Jvm.Cond.fieldLink "FireSaleModel" (16 : Nat) "FireSaleModel" "undos" "[I") ∈ lw_all := lw_g (lw_at lw_m7 65 rfl) rfl
theorem q1603 : (Jvm.Cond.fieldLink "FireSaleModel" (152 : Nat) "FireSaleModel" "undoMany" "I") ∈ lw_all := lw_g (lw_at lw_m7 66 rfl) rfl
theorem q1604 : (Jvm.Cond.fieldLink "FireSaleModel" (19 : Nat) "FireSaleModel" "tape" "[I") ∈ lw_all := lw_g (lw_at lw_m7 67 rfl) rfl
theorem q1605 : (Jvm.Cond.fieldLink "FireSaleModel" (76 : Nat) "FireSaleModel" "taped" "I") ∈ lw_all := lw_g (lw_at lw_m7 68 rfl) rfl
theorem q1606 : (Jvm.Cond.fieldLink "FireSaleModel" (79 : Nat) "FireSaleModel" "size" "I") ∈ lw_all := lw_g (lw_at lw_m7 69 rfl) rfl
theorem q1607 : (Jvm.Cond.fieldLink "FireSaleModel" (85 : Nat) "FireSaleModel" "at" "I") ∈ lw_all := lw_g (lw_at lw_m7 70 rfl) rfl
theorem q1608 : (Jvm.Cond.fieldLink "FireSaleModel" (105 : Nat) "FireSaleModel" "token" "I") ∈ lw_all := lw_g (lw_at lw_m7 71 rfl) rfl
theorem q1609 : (Jvm.Cond.fieldLink "FireSaleModel" (88 : Nat) "FireSaleModel" "from" "I") ∈ lw_all := lw_g (lw_at lw_m7 72 rfl) rfl
theorem q1610 : (Jvm.Cond.fieldLink "FireSaleModel" (91 : Nat) "FireSaleModel" "value" "I") ∈ lw_all := lw_g (lw_at lw_m7 73 rfl) rfl
theorem q1611 : (Jvm.Cond.fieldLink "FireSaleModel" (82 : Nat) "FireSaleModel" "fault" "I") ∈ lw_all := lw_g (lw_at lw_m7 74 rfl) rfl
theorem q1612 : (Jvm.Cond.fieldLink "FireSaleModel" (22 : Nat) "FireSaleModel" "sold" "[I") ∈ lw_all := lw_g (lw_at lw_m7 75 rfl) rfl
theorem q1613 : (Jvm.Cond.fieldLink "FireSaleModel" (25 : Nat) "FireSaleModel" "sells" "[I") ∈ lw_all := lw_g (lw_at lw_m7 76 rfl) rfl
theorem q1614 : (Jvm.Cond.fieldLink "FireSaleModel" (184 : Nat) "FireSaleModel" "fallen" "I") ∈ lw_all := lw_g (lw_at lw_m7 77 rfl) rfl
theorem q1615 : (Jvm.Cond.fieldLink "FireSaleModel" (193 : Nat) "FireSaleModel" "willFall" "I") ∈ lw_all := lw_g (lw_at lw_m7 78 rfl) rfl
theorem q1616 : (Jvm.Cond.fieldLink "FireSaleModel" (208 : Nat) "FireSaleModel" "rounds" "I") ∈ lw_all := lw_g (lw_at lw_m7 79 rfl) rfl
theorem q1617 : (Jvm.Cond.fieldLink "FireSaleModel" (28 : Nat) "FireSaleModel" "coins" "[I") ∈ lw_all := lw_g (lw_at lw_m7 80 rfl) rfl
theorem q1618 : (Jvm.Cond.fieldLink "FireSaleModel" (31 : Nat) "FireSaleModel" "extraOf" "I") ∈ lw_all := lw_g (lw_at lw_m7 81 rfl) rfl
theorem q1619 : (Jvm.Cond.fieldLink "FireSaleModel" (35 : Nat) "FireSaleModel" "extraCap" "I") ∈ lw_all := lw_g (lw_at lw_m7 82 rfl) rfl
theorem q1620 : (Jvm.Cond.fieldLink "FireSaleModel" (159 : Nat) "FireSaleModel" "extraShock" "I") ∈ lw_all := lw_g (lw_at lw_m7 83 rfl) rfl
theorem q1621 : (Jvm.Cond.fieldLink "FireSaleModel" (38 : Nat) "FireSaleModel" "buyerOf" "I") ∈ lw_all := lw_g (lw_at lw_m7 84 rfl) rfl
theorem q1622 : (Jvm.Cond.fieldLink "FireSaleModel" (162 : Nat) "FireSaleModel" "buys" "I") ∈ lw_all := lw_g (lw_at lw_m7 85 rfl) rfl
theorem q1623 : (Jvm.Cond.fieldLink "FireSaleModel" (41 : Nat) "FireSaleModel" "part" "I") ∈ lw_all := lw_g (lw_at lw_m7 86 rfl) rfl
theorem q1624 : (Jvm.Cond.fieldLink "FireSaleModel" (165 : Nat) "FireSaleModel" "forced" "I") ∈ lw_all := lw_g (lw_at lw_m7 87 rfl) rfl
theorem q1625 : (Jvm.Cond.fieldLink "FireSaleModel" (44 : Nat) "FireSaleModel" "left" "[I") ∈ lw_all := lw_g (lw_at lw_m7 88 rfl) rfl
theorem q1626 : (Jvm.Cond.fieldLink "FireSaleModel" (47 : Nat) "FireSaleModel" "prices" "[I") ∈ lw_all := lw_g (lw_at lw_m7 89 rfl) rfl
theorem q1627 : (Jvm.Cond.fieldLink "FireSaleModel" (50 : Nat) "FireSaleModel" "musts" "[I") ∈ lw_all := lw_g (lw_at lw_m7 90 rfl) rfl
theorem q1628 : (Jvm.Cond.fieldLink "FireSaleModel" (53 : Nat) "FireSaleModel" "fell" "[I") ∈ lw_all := lw_g (lw_at lw_m7 91 rfl) rfl
theorem q1629 : (Jvm.Cond.fieldLink "FireSaleModel" (315 : Nat) "FireSaleModel" "leastLost" "I") ∈ lw_all := lw_g (lw_at lw_m7 92 rfl) rfl
theorem q1630 : (Jvm.Cond.fieldLink "FireSaleModel" (56 : Nat) "FireSaleModel" "gifts" "[I") ∈ lw_all := lw_g (lw_at lw_m7 93 rfl) rfl
theorem q1631 : (Jvm.Cond.fieldLink "FireSaleModel" (59 : Nat) "FireSaleModel" "bestGifts" "[I") ∈ lw_all := lw_g (lw_at lw_m7 94 rfl) rfl
theorem q1632 : (Jvm.Cond.fieldLink "FireSaleModel" (62 : Nat) "FireSaleModel" "spelt" "[I") ∈ lw_all := lw_g (lw_at lw_m7 95 rfl) rfl
theorem q1633 : (Jvm.Cond.fieldLink "FireSaleModel" (342 : Nat) "FireSaleModel" "speltMany" "I") ∈ lw_all := lw_g (lw_at lw_m7 96 rfl) rfl
theorem q1634 : (Jvm.Cond.lays "FireSaleModel" "FireSaleModel" "thrown" "I") ∈ lw_all := lw_g (lw_at lw_m7 97 rfl) rfl
theorem q1635 : (Jvm.Cond.soleField "FireSaleModel" "thrown") ∈ lw_all := lw_g (lw_at lw_m7 98 rfl) rfl
theorem q1636 : (Jvm.Cond.laysFinal "FireSaleModel" "FireSaleModel" "now" "[I") ∈ lw_all := lw_g (lw_at lw_m7 99 rfl) rfl
theorem q1637 : (Jvm.Cond.soleField "FireSaleModel" "now") ∈ lw_all := lw_g (lw_at lw_m7 100 rfl) rfl
theorem q1638 : (Jvm.Cond.laysFinal "FireSaleModel" "FireSaleModel" "aside" "[I") ∈ lw_all := lw_g (lw_at lw_m7 101 rfl) rfl
theorem q1639 : (Jvm.Cond.soleField "FireSaleModel" "aside") ∈ lw_all := lw_g (lw_at lw_m7 102 rfl) rfl
theorem q1640 : (Jvm.Cond.laysFinal "FireSaleModel" "FireSaleModel" "undos" "[I") ∈ lw_all := lw_g (lw_at lw_m7 103 rfl) rfl
theorem q1641 : (Jvm.Cond.soleField "FireSaleModel" "undos") ∈ lw_all := lw_g (lw_at lw_m7 104 rfl) rfl
theorem q1642 : (Jvm.Cond.lays "FireSaleModel" "FireSaleModel" "undoMany" "I") ∈ lw_all := lw_g (lw_at lw_m7 105 rfl) rfl
theorem q1643 : (Jvm.Cond.soleField "FireSaleModel" "undoMany") ∈ lw_all := lw_g (lw_at lw_m7 106 rfl) rfl
theorem q1644 : (Jvm.Cond.laysFinal "FireSaleModel" "FireSaleModel" "tape" "[I") ∈ lw_all := lw_g (lw_at lw_m7 107 rfl) rfl
theorem q1645 : (Jvm.Cond.soleField "FireSaleModel" "tape") ∈ lw_all := lw_g (lw_at lw_m7 108 rfl) rfl
theorem q1646 : (Jvm.Cond.lays "FireSaleModel" "FireSaleModel" "taped" "I") ∈ lw_all := lw_g (lw_at lw_m7 109 rfl) rfl
theorem q1647 : (Jvm.Cond.soleField "FireSaleModel" "taped") ∈ lw_all := lw_g (lw_at lw_m7 110 rfl) rfl
theorem q1648 : (Jvm.Cond.lays "FireSaleModel" "FireSaleModel" "size" "I") ∈ lw_all := lw_g (lw_at lw_m7 111 rfl) rfl
theorem q1649 : (Jvm.Cond.soleField "FireSaleModel" "size") ∈ lw_all := lw_g (lw_at lw_m7 112 rfl) rfl
theorem q1650 : (Jvm.Cond.lays "FireSaleModel" "FireSaleModel" "at" "I") ∈ lw_all := lw_g (lw_at lw_m7 113 rfl) rfl
theorem q1651 : (Jvm.Cond.soleField "FireSaleModel" "at") ∈ lw_all := lw_g (lw_at lw_m7 114 rfl) rfl
theorem q1652 : (Jvm.Cond.lays "FireSaleModel" "FireSaleModel" "token" "I") ∈ lw_all := lw_g (lw_at lw_m7 115 rfl) rfl
theorem q1653 : (Jvm.Cond.soleField "FireSaleModel" "token") ∈ lw_all := lw_g (lw_at lw_m7 116 rfl) rfl
theorem q1654 : (Jvm.Cond.lays "FireSaleModel" "FireSaleModel" "from" "I") ∈ lw_all := lw_g (lw_at lw_m7 117 rfl) rfl
theorem q1655 : (Jvm.Cond.soleField "FireSaleModel" "from") ∈ lw_all := lw_g (lw_at lw_m7 118 rfl) rfl
theorem q1656 : (Jvm.Cond.lays "FireSaleModel" "FireSaleModel" "value" "I") ∈ lw_all := lw_g (lw_at lw_m7 119 rfl) rfl
theorem q1657 : (Jvm.Cond.soleField "FireSaleModel" "value") ∈ lw_all := lw_g (lw_at lw_m7 120 rfl) rfl
theorem q1658 : (Jvm.Cond.lays "FireSaleModel" "FireSaleModel" "fault" "I") ∈ lw_all := lw_g (lw_at lw_m7 121 rfl) rfl
theorem q1659 : (Jvm.Cond.soleField "FireSaleModel" "fault") ∈ lw_all := lw_g (lw_at lw_m7 122 rfl) rfl
theorem q1660 : (Jvm.Cond.laysFinal "FireSaleModel" "FireSaleModel" "sold" "[I") ∈ lw_all := lw_g (lw_at lw_m7 123 rfl) rfl
theorem q1661 : (Jvm.Cond.soleField "FireSaleModel" "sold") ∈ lw_all := lw_g (lw_at lw_m7 124 rfl) rfl
theorem q1662 : (Jvm.Cond.laysFinal "FireSaleModel" "FireSaleModel" "sells" "[I") ∈ lw_all := lw_g (lw_at lw_m7 125 rfl) rfl
theorem q1663 : (Jvm.Cond.soleField "FireSaleModel" "sells") ∈ lw_all := lw_g (lw_at lw_m7 126 rfl) rfl
theorem q1664 : (Jvm.Cond.lays "FireSaleModel" "FireSaleModel" "fallen" "I") ∈ lw_all := lw_g (lw_at lw_m7 127 rfl) rfl
theorem q1665 : (Jvm.Cond.soleField "FireSaleModel" "fallen") ∈ lw_all := lw_g (lw_at lw_m7 128 rfl) rfl
theorem q1666 : (Jvm.Cond.lays "FireSaleModel" "FireSaleModel" "willFall" "I") ∈ lw_all := lw_g (lw_at lw_m7 129 rfl) rfl
theorem q1667 : (Jvm.Cond.soleField "FireSaleModel" "willFall") ∈ lw_all := lw_g (lw_at lw_m7 130 rfl) rfl
theorem q1668 : (Jvm.Cond.lays "FireSaleModel" "FireSaleModel" "rounds" "I") ∈ lw_all := lw_g (lw_at lw_m7 131 rfl) rfl
theorem q1669 : (Jvm.Cond.soleField "FireSaleModel" "rounds") ∈ lw_all := lw_g (lw_at lw_m7 132 rfl) rfl
theorem q1670 : (Jvm.Cond.laysFinal "FireSaleModel" "FireSaleModel" "coins" "[I") ∈ lw_all := lw_g (lw_at lw_m7 133 rfl) rfl
theorem q1671 : (Jvm.Cond.soleField "FireSaleModel" "coins") ∈ lw_all := lw_g (lw_at lw_m7 134 rfl) rfl
theorem q1672 : (Jvm.Cond.lays "FireSaleModel" "FireSaleModel" "extraOf" "I") ∈ lw_all := lw_g (lw_at lw_m7 135 rfl) rfl
theorem q1673 : (Jvm.Cond.soleField "FireSaleModel" "extraOf") ∈ lw_all := lw_g (lw_at lw_m7 136 rfl) rfl
theorem q1674 : (Jvm.Cond.lays "FireSaleModel" "FireSaleModel" "extraCap" "I") ∈ lw_all := lw_g (lw_at lw_m7 137 rfl) rfl
theorem q1675 : (Jvm.Cond.soleField "FireSaleModel" "extraCap") ∈ lw_all := lw_g (lw_at lw_m7 138 rfl) rfl
theorem q1676 : (Jvm.Cond.lays "FireSaleModel" "FireSaleModel" "extraShock" "I") ∈ lw_all := lw_g (lw_at lw_m7 139 rfl) rfl
theorem q1677 : (Jvm.Cond.soleField "FireSaleModel" "extraShock") ∈ lw_all := lw_g (lw_at lw_m7 140 rfl) rfl
theorem q1678 : (Jvm.Cond.lays "FireSaleModel" "FireSaleModel" "buyerOf" "I") ∈ lw_all := lw_g (lw_at lw_m7 141 rfl) rfl
theorem q1679 : (Jvm.Cond.soleField "FireSaleModel" "buyerOf") ∈ lw_all := lw_g (lw_at lw_m7 142 rfl) rfl
theorem q1680 : (Jvm.Cond.lays "FireSaleModel" "FireSaleModel" "buys" "I") ∈ lw_all := lw_g (lw_at lw_m7 143 rfl) rfl
theorem q1681 : (Jvm.Cond.soleField "FireSaleModel" "buys") ∈ lw_all := lw_g (lw_at lw_m7 144 rfl) rfl
theorem q1682 : (Jvm.Cond.lays "FireSaleModel" "FireSaleModel" "part" "I") ∈ lw_all := lw_g (lw_at lw_m7 145 rfl) rfl
theorem q1683 : (Jvm.Cond.soleField "FireSaleModel" "part") ∈ lw_all := lw_g (lw_at lw_m7 146 rfl) rfl
theorem q1684 : (Jvm.Cond.lays "FireSaleModel" "FireSaleModel" "forced" "I") ∈ lw_all := lw_g (lw_at lw_m7 147 rfl) rfl
theorem q1685 : (Jvm.Cond.soleField "FireSaleModel" "forced") ∈ lw_all := lw_g (lw_at lw_m7 148 rfl) rfl
theorem q1686 : (Jvm.Cond.laysFinal "FireSaleModel" "FireSaleModel" "left" "[I") ∈ lw_all := lw_g (lw_at lw_m7 149 rfl) rfl
theorem q1687 : (Jvm.Cond.soleField "FireSaleModel" "left") ∈ lw_all := lw_g (lw_at lw_m7 150 rfl) rfl
theorem q1688 : (Jvm.Cond.laysFinal "FireSaleModel" "FireSaleModel" "prices" "[I") ∈ lw_all := lw_g (lw_at lw_m7 151 rfl) rfl
theorem q1689 : (Jvm.Cond.soleField "FireSaleModel" "prices") ∈ lw_all := lw_g (lw_at lw_m7 152 rfl) rfl
theorem q1690 : (Jvm.Cond.laysFinal "FireSaleModel" "FireSaleModel" "musts" "[I") ∈ lw_all := lw_g (lw_at lw_m7 153 rfl) rfl
theorem q1691 : (Jvm.Cond.soleField "FireSaleModel" "musts") ∈ lw_all := lw_g (lw_at lw_m7 154 rfl) rfl
theorem q1692 : (Jvm.Cond.laysFinal "FireSaleModel" "FireSaleModel" "fell" "[I") ∈ lw_all := lw_g (lw_at lw_m7 155 rfl) rfl
theorem q1693 : (Jvm.Cond.soleField "FireSaleModel" "fell") ∈ lw_all := lw_g (lw_at lw_m7 156 rfl) rfl
theorem q1694 : (Jvm.Cond.lays "FireSaleModel" "FireSaleModel" "leastLost" "I") ∈ lw_all := lw_g (lw_at lw_m7 157 rfl) rfl
theorem q1695 : (Jvm.Cond.soleField "FireSaleModel" "leastLost") ∈ lw_all := lw_g (lw_at lw_m7 158 rfl) rfl
theorem q1696 : (Jvm.Cond.laysFinal "FireSaleModel" "FireSaleModel" "gifts" "[I") ∈ lw_all := lw_g (lw_at lw_m7 159 rfl) rfl
theorem q1697 : (Jvm.Cond.soleField "FireSaleModel" "gifts") ∈ lw_all := lw_g (lw_at lw_m7 160 rfl) rfl
theorem q1698 : (Jvm.Cond.laysFinal "FireSaleModel" "FireSaleModel" "bestGifts" "[I") ∈ lw_all := lw_g (lw_at lw_m7 161 rfl) rfl
theorem q1699 : (Jvm.Cond.soleField "FireSaleModel" "bestGifts") ∈ lw_all := lw_g (lw_at lw_m7 162 rfl) rfl
theorem q1700 : (Jvm.Cond.laysFinal "FireSaleModel" "FireSaleModel" "spelt" "[I") ∈ lw_all := lw_g (lw_at lw_m7 163 rfl) rfl
theorem q1701 : (Jvm.Cond.soleField "FireSaleModel" "spelt") ∈ lw_all := lw_g (lw_at lw_m7 164 rfl) rfl
theorem q1702 : (Jvm.Cond.lays "FireSaleModel" "FireSaleModel" "speltMany" "I") ∈ lw_all := lw_g (lw_at lw_m7 165 rfl) rfl
theorem q1703 : (Jvm.Cond.soleField "FireSaleModel" "speltMany") ∈ lw_all := lw_g (lw_at lw_m7 166 rfl) rfl
theorem q1704 : (Jvm.Cond.superclass "FireSaleModel" "java/lang/Object") ∈ lw_all := lw_g (lw_at lw_m7 167 rfl) rfl
theorem q1706 : (Jvm.Cond.instanceMethod ({ cls := "FireSaleModel", name := "feed", desc := "(IIIII)I" } : Jvm.MethodName)) ∈ lw_all := lw_g (lw_at lw_m7 169 rfl) rfl
theorem q1707 : (Jvm.Cond.selects "FireSaleModel" ({ cls := "FireSaleModel", name := "feed", desc := "(IIIII)I" } : Jvm.MethodName) ({ cls := "FireSaleModel", name := "feed", desc := "(IIIII)I" } : Jvm.MethodName)) ∈ lw_all := lw_g (lw_at lw_m7 170 rfl) rfl
theorem q1708 : (Jvm.Cond.code ({ cls := "FireSaleModel", name := "feed", desc := "(IIIII)I" } : Jvm.MethodName) prog_11_method_11_code (8 : Nat) (Option.some Jvm.ClassFile.FieldType.int)) ∈ lw_all := lw_g (lw_at lw_m7 171 rfl) rfl
theorem q1710 : (Jvm.Cond.instanceMethod ({ cls := "FireSaleModel", name := "back", desc := "(I)I" } : Jvm.MethodName)) ∈ lw_all := lw_g (lw_at lw_m7 173 rfl) rfl
theorem q1711 : (Jvm.Cond.selects "FireSaleModel" ({ cls := "FireSaleModel", name := "back", desc := "(I)I" } : Jvm.MethodName) ({ cls := "FireSaleModel", name := "back", desc := "(I)I" } : Jvm.MethodName)) ∈ lw_all := lw_g (lw_at lw_m7 174 rfl) rfl
theorem q1712 : (Jvm.Cond.code ({ cls := "FireSaleModel", name := "back", desc := "(I)I" } : Jvm.MethodName) prog_11_method_12_code (2 : Nat) (Option.some Jvm.ClassFile.FieldType.int)) ∈ lw_all := lw_g (lw_at lw_m7 175 rfl) rfl
theorem q1713 : (Jvm.Cond.methodLink "FireSaleModel" (68 : Nat) ({ cls := "FireSaleModel", name := "isIn", desc := "(III)Z" } : Jvm.MethodName)) ∈ lw_all := lw_g (lw_at lw_m7 176 rfl) rfl
theorem q1714 : (Jvm.Cond.static ({ cls := "FireSaleModel", name := "isIn", desc := "(III)Z" } : Jvm.MethodName)) ∈ lw_all := lw_g (lw_at lw_m7 177 rfl) rfl
theorem q1715 : (Jvm.Cond.code ({ cls := "FireSaleModel", name := "isIn", desc := "(III)Z" } : Jvm.MethodName) prog_11_method_3_code (3 : Nat) (Option.some Jvm.ClassFile.FieldType.boolean)) ∈ lw_all := lw_g (lw_at lw_m7 178 rfl) rfl
theorem q1717 : (Jvm.Cond.instanceMethod ({ cls := "FireSaleModel", name := "text", desc := "()I" } : Jvm.MethodName)) ∈ lw_all := lw_g (lw_at lw_m7 180 rfl) rfl
theorem q1718 : (Jvm.Cond.selects "FireSaleModel" ({ cls := "FireSaleModel", name := "text", desc := "()I" } : Jvm.MethodName) ({ cls := "FireSaleModel", name := "text", desc := "()I" } : Jvm.MethodName)) ∈ lw_all := lw_g (lw_at lw_m7 181 rfl) rfl
theorem q1719 : (Jvm.Cond.code ({ cls := "FireSaleModel", name := "text", desc := "()I" } : Jvm.MethodName) prog_11_method_24_code (2 : Nat) (Option.some Jvm.ClassFile.FieldType.int)) ∈ lw_all := lw_g (lw_at lw_m7 182 rfl) rfl
theorem q1720 : (Jvm.Cond.methodLink "FireSaleModel" (113 : Nat) ({ cls := "FireSaleModel", name := "nextToken", desc := "()V" } : Jvm.MethodName)) ∈ lw_all := lw_g (lw_at lw_m7 183 rfl) rfl
theorem q1721 : (Jvm.Cond.privateMethod ({ cls := "FireSaleModel", name := "nextToken", desc := "()V" } : Jvm.MethodName)) ∈ lw_tbl := lw_at lw_m7 184 rfl
theorem q1722 : (Jvm.Cond.instanceMethod ({ cls := "FireSaleModel", name := "nextToken", desc := "()V" } : Jvm.MethodName)) ∈ lw_all := lw_g (lw_at lw_m7 185 rfl) rfl
theorem q1723 : (Jvm.Cond.code ({ cls := "FireSaleModel", name := "nextToken", desc := "()V" } : Jvm.MethodName) prog_11_method_16_code (2 : Nat) (Option.none : Option Jvm.ClassFile.FieldType)) ∈ lw_all := lw_g (lw_at lw_m7 186 rfl) rfl
theorem q1724 : (Jvm.Cond.methodLink "FireSaleModel" (94 : Nat) ({ cls := "FireSaleModel", name := "isLetter", desc := "(I)Z" } : Jvm.MethodName)) ∈ lw_all := lw_g (lw_at lw_m7 187 rfl) rfl
theorem q1725 : (Jvm.Cond.privateMethod ({ cls := "FireSaleModel", name := "isLetter", desc := "(I)Z" } : Jvm.MethodName)) ∈ lw_tbl := lw_at lw_m7 188 rfl
theorem q1726 : (Jvm.Cond.instanceMethod ({ cls := "FireSaleModel", name := "isLetter", desc := "(I)Z" } : Jvm.MethodName)) ∈ lw_all := lw_g (lw_at lw_m7 189 rfl) rfl
theorem q1727 : (Jvm.Cond.code ({ cls := "FireSaleModel", name := "isLetter", desc := "(I)Z" } : Jvm.MethodName) prog_11_method_13_code (2 : Nat) (Option.some Jvm.ClassFile.FieldType.boolean)) ∈ lw_all := lw_g (lw_at lw_m7 190 rfl) rfl
theorem q1728 : (Jvm.Cond.methodLink "FireSaleModel" (98 : Nat) ({ cls := "FireSaleModel", name := "isDigit", desc := "(I)Z" } : Jvm.MethodName)) ∈ lw_all := lw_g (lw_at lw_m7 191 rfl) rfl
theorem q1729 : (Jvm.Cond.privateMethod ({ cls := "FireSaleModel", name := "isDigit", desc := "(I)Z" } : Jvm.MethodName)) ∈ lw_tbl := lw_at lw_m7 192 rfl
theorem q1730 : (Jvm.Cond.instanceMethod ({ cls := "FireSaleModel", name := "isDigit", desc := "(I)Z" } : Jvm.MethodName)) ∈ lw_all := lw_g (lw_at lw_m7 193 rfl) rfl
theorem q1731 : (Jvm.Cond.code ({ cls := "FireSaleModel", name := "isDigit", desc := "(I)Z" } : Jvm.MethodName) prog_11_method_14_code (2 : Nat) (Option.some Jvm.ClassFile.FieldType.boolean)) ∈ lw_all := lw_g (lw_at lw_m7 194 rfl) rfl
theorem q1732 : (Jvm.Cond.methodLink "FireSaleModel" (101 : Nat) ({ cls := "FireSaleModel", name := "wrong", desc := "(I)V" } : Jvm.MethodName)) ∈ lw_all := lw_g (lw_at lw_m7 195 rfl) rfl
theorem q1733 : (Jvm.Cond.privateMethod ({ cls := "FireSaleModel", name := "wrong", desc := "(I)V" } : Jvm.MethodName)) ∈ lw_tbl := lw_at lw_m7 196 rfl
theorem q1734 : (Jvm.Cond.instanceMethod ({ cls := "FireSaleModel", name := "wrong", desc := "(I)V" } : Jvm.MethodName)) ∈ lw_all := lw_g (lw_at lw_m7 197 rfl) rfl
theorem q1735 : (Jvm.Cond.code ({ cls := "FireSaleModel", name := "wrong", desc := "(I)V" } : Jvm.MethodName) prog_11_method_15_code (2 : Nat) (Option.none : Option Jvm.ClassFile.FieldType)) ∈ lw_all := lw_g (lw_at lw_m7 198 rfl) rfl
theorem q1736 : (Jvm.Cond.constant "FireSaleModel" (108 : Nat) (100000 : Int32)) ∈ lw_all := lw_g (lw_at lw_m7 199 rfl) rfl
theorem q1737 : (Jvm.Cond.methodLink "FireSaleModel" (149 : Nat) ({ cls := "FireSaleModel", name := "readLine", desc := "()V" } : Jvm.MethodName)) ∈ lw_all := lw_g (lw_at lw_m7 200 rfl) rfl
theorem q1738 : (Jvm.Cond.privateMethod ({ cls := "FireSaleModel", name := "readLine", desc := "()V" } : Jvm.MethodName)) ∈ lw_tbl := lw_at lw_m7 201 rfl
theorem q1739 : (Jvm.Cond.instanceMethod ({ cls := "FireSaleModel", name := "readLine", desc := "()V" } : Jvm.MethodName)) ∈ lw_all := lw_g (lw_at lw_m7 202 rfl) rfl
theorem q1740 : (Jvm.Cond.code ({ cls := "FireSaleModel", name := "readLine", desc := "()V" } : Jvm.MethodName) prog_11_method_23_code (1 : Nat) (Option.none : Option Jvm.ClassFile.FieldType)) ∈ lw_all := lw_g (lw_at lw_m7 203 rfl) rfl
theorem q1741 : (Jvm.Cond.constantLong "FireSaleModel" (123 : Nat) (919424 : Int64)) ∈ lw_all := lw_g (lw_at lw_m7 204 rfl) rfl
theorem q1742 : (Jvm.Cond.methodLink "FireSaleModel" (125 : Nat) ({ cls := "FireSaleModel", name := "isWord", desc := "(J)Z" } : Jvm.MethodName)) ∈ lw_all := lw_g (lw_at lw_m7 205 rfl) rfl
theorem q1743 : (Jvm.Cond.privateMethod ({ cls := "FireSaleModel", name := "isWord", desc := "(J)Z" } : Jvm.MethodName)) ∈ lw_tbl := lw_at lw_m7 206 rfl
theorem q1744 : (Jvm.Cond.instanceMethod ({ cls := "FireSaleModel", name := "isWord", desc := "(J)Z" } : Jvm.MethodName)) ∈ lw_all := lw_g (lw_at lw_m7 207 rfl) rfl
theorem q1745 : (Jvm.Cond.code ({ cls := "FireSaleModel", name := "isWord", desc := "(J)Z" } : Jvm.MethodName) prog_11_method_17_code (6 : Nat) (Option.some Jvm.ClassFile.FieldType.boolean)) ∈ lw_all := lw_g (lw_at lw_m7 208 rfl) rfl
theorem q1746 : (Jvm.Cond.constantLong "FireSaleModel" (109 : Nat) (27 : Int64)) ∈ lw_all := lw_g (lw_at lw_m7 209 rfl) rfl
theorem q1747 : (Jvm.Cond.constantLong "FireSaleModel" (111 : Nat) (96 : Int64)) ∈ lw_all := lw_g (lw_at lw_m7 210 rfl) rfl
theorem q1748 : (Jvm.Cond.methodLink "FireSaleModel" (129 : Nat) ({ cls := "FireSaleModel", name := "readAsset", desc := "()V" } : Jvm.MethodName)) ∈ lw_all := lw_g (lw_at lw_m7 211 rfl) rfl
theorem q1749 : (Jvm.Cond.privateMethod ({ cls := "FireSaleModel", name := "readAsset", desc := "()V" } : Jvm.MethodName)) ∈ lw_tbl := lw_at lw_m7 212 rfl
theorem q1750 : (Jvm.Cond.instanceMethod ({ cls := "FireSaleModel", name := "readAsset", desc := "()V" } : Jvm.MethodName)) ∈ lw_all := lw_g (lw_at lw_m7 213 rfl) rfl
theorem q1751 : (Jvm.Cond.code ({ cls := "FireSaleModel", name := "readAsset", desc := "()V" } : Jvm.MethodName) prog_11_method_19_code (3 : Nat) (Option.none : Option Jvm.ClassFile.FieldType)) ∈ lw_all := lw_g (lw_at lw_m7 214 rfl) rfl
theorem q1752 : (Jvm.Cond.methodLink "FireSaleModel" (116 : Nat) ({ cls := "FireSaleModel", name := "number", desc := "(II)I" } : Jvm.MethodName)) ∈ lw_all := lw_g (lw_at lw_m7 215 rfl) rfl
theorem q1753 : (Jvm.Cond.privateMethod ({ cls := "FireSaleModel", name := "number", desc := "(II)I" } : Jvm.MethodName)) ∈ lw_tbl := lw_at lw_m7 216 rfl
theorem q1754 : (Jvm.Cond.instanceMethod ({ cls := "FireSaleModel", name := "number", desc := "(II)I" } : Jvm.MethodName)) ∈ lw_all := lw_g (lw_at lw_m7 217 rfl) rfl
theorem q1755 : (Jvm.Cond.code ({ cls := "FireSaleModel", name := "number", desc := "(II)I" } : Jvm.MethodName) prog_11_method_18_code (4 : Nat) (Option.some Jvm.ClassFile.FieldType.int)) ∈ lw_all := lw_g (lw_at lw_m7 218 rfl) rfl
theorem q1756 : (Jvm.Cond.constantLong "FireSaleModel" (132 : Nat) (4562600 : Int64)) ∈ lw_all := lw_g (lw_at lw_m7 219 rfl) rfl
theorem q1757 : (Jvm.Cond.methodLink "FireSaleModel" (134 : Nat) ({ cls := "FireSaleModel", name := "readHouse", desc := "()V" } : Jvm.MethodName)) ∈ lw_all := lw_g (lw_at lw_m7 220 rfl) rfl
theorem q1758 : (Jvm.Cond.privateMethod ({ cls := "FireSaleModel", name := "readHouse", desc := "()V" } : Jvm.MethodName)) ∈ lw_tbl := lw_at lw_m7 221 rfl
theorem q1759 : (Jvm.Cond.instanceMethod ({ cls := "FireSaleModel", name := "readHouse", desc := "()V" } : Jvm.MethodName)) ∈ lw_all := lw_g (lw_at lw_m7 222 rfl) rfl
theorem q1760 : (Jvm.Cond.code ({ cls := "FireSaleModel", name := "readHouse", desc := "()V" } : Jvm.MethodName) prog_11_method_20_code (3 : Nat) (Option.none : Option Jvm.ClassFile.FieldType)) ∈ lw_all := lw_g (lw_at lw_m7 223 rfl) rfl
theorem q1761 : (Jvm.Cond.constantLong "FireSaleModel" (137 : Nat) (247172 : Int64)) ∈ lw_all := lw_g (lw_at lw_m7 224 rfl) rfl
theorem q1762 : (Jvm.Cond.methodLink "FireSaleModel" (139 : Nat) ({ cls := "FireSaleModel", name := "readLoan", desc := "()V" } : Jvm.MethodName)) ∈ lw_all := lw_g (lw_at lw_m7 225 rfl) rfl
theorem q1763 : (Jvm.Cond.privateMethod ({ cls := "FireSaleModel", name := "readLoan", desc := "()V" } : Jvm.MethodName)) ∈ lw_tbl := lw_at lw_m7 226 rfl
theorem q1764 : (Jvm.Cond.instanceMethod ({ cls := "FireSaleModel", name := "readLoan", desc := "()V" } : Jvm.MethodName)) ∈ lw_all := lw_g (lw_at lw_m7 227 rfl) rfl
theorem q1765 : (Jvm.Cond.code ({ cls := "FireSaleModel", name := "readLoan", desc := "()V" } : Jvm.MethodName) prog_11_method_21_code (4 : Nat) (Option.none : Option Jvm.ClassFile.FieldType)) ∈ lw_all := lw_g (lw_at lw_m7 228 rfl) rfl
theorem q1766 : (Jvm.Cond.constantLong "FireSaleModel" (142 : Nat) (2230 : Int64)) ∈ lw_all := lw_g (lw_at lw_m7 229 rfl) rfl
theorem q1767 : (Jvm.Cond.methodLink "FireSaleModel" (144 : Nat) ({ cls := "FireSaleModel", name := "readLaid", desc := "(I)V" } : Jvm.MethodName)) ∈ lw_all := lw_g (lw_at lw_m7 230 rfl) rfl
theorem q1768 : (Jvm.Cond.privateMethod ({ cls := "FireSaleModel", name := "readLaid", desc := "(I)V" } : Jvm.MethodName)) ∈ lw_tbl := lw_at lw_m7 231 rfl
theorem q1769 : (Jvm.Cond.instanceMethod ({ cls := "FireSaleModel", name := "readLaid", desc := "(I)V" } : Jvm.MethodName)) ∈ lw_all := lw_g (lw_at lw_m7 232 rfl) rfl
theorem q1770 : (Jvm.Cond.code ({ cls := "FireSaleModel", name := "readLaid", desc := "(I)V" } : Jvm.MethodName) prog_11_method_22_code (4 : Nat) (Option.none : Option Jvm.ClassFile.FieldType)) ∈ lw_all := lw_g (lw_at lw_m7 233 rfl) rfl
theorem q1771 : (Jvm.Cond.methodLink "FireSaleModel" (119 : Nat) ({ cls := "FireSaleModel", name := "lays", desc := "(IIII)V" } : Jvm.MethodName)) ∈ lw_all := lw_g (lw_at lw_m7 234 rfl) rfl
theorem q1772 : (Jvm.Cond.privateMethod ({ cls := "FireSaleModel", name := "lays", desc := "(IIII)V" } : Jvm.MethodName)) ∈ lw_tbl := lw_at lw_m7 235 rfl
theorem q1773 : (Jvm.Cond.instanceMethod ({ cls := "FireSaleModel", name := "lays", desc := "(IIII)V" } : Jvm.MethodName)) ∈ lw_all := lw_g (lw_at lw_m7 236 rfl) rfl
theorem q1774 : (Jvm.Cond.code ({ cls := "FireSaleModel", name := "lays", desc := "(IIII)V" } : Jvm.MethodName) prog_11_method_25_code (7 : Nat) (Option.none : Option Jvm.ClassFile.FieldType)) ∈ lw_all := lw_g (lw_at lw_m7 237 rfl) rfl
theorem q1775 : (Jvm.Cond.constantLong "FireSaleModel" (147 : Nat) (10265870 : Int64)) ∈ lw_all := lw_g (lw_at lw_m7 238 rfl) rfl
theorem q1777 : (Jvm.Cond.instanceMethod ({ cls := "FireSaleModel", name := "asset", desc := "(II)I" } : Jvm.MethodName)) ∈ lw_all := lw_g (lw_at lw_m8 0 rfl) rfl
theorem q1778 : (Jvm.Cond.selects "FireSaleModel" ({ cls := "FireSaleModel", name := "asset", desc := "(II)I" } : Jvm.MethodName) ({ cls := "FireSaleModel", name := "asset", desc := "(II)I" } : Jvm.MethodName)) ∈ lw_all := lw_g (lw_at lw_m8 1 rfl) rfl
theorem q1779 : (Jvm.Cond.code ({ cls := "FireSaleModel", name := "asset", desc := "(II)I" } : Jvm.MethodName) prog_11_method_47_code (3 : Nat) (Option.some Jvm.ClassFile.FieldType.int)) ∈ lw_all := lw_g (lw_at lw_m8 2 rfl) rfl
theorem q1780 : (Jvm.Cond.methodLink "FireSaleModel" (234 : Nat) ({ cls := "FireSaleModel", name := "remembers", desc := "()V" } : Jvm.MethodName)) ∈ lw_all := lw_g (lw_at lw_m8 3 rfl) rfl
theorem q1781 : (Jvm.Cond.privateMethod ({ cls := "FireSaleModel", name := "remembers", desc := "()V" } : Jvm.MethodName)) ∈ lw_tbl := lw_at lw_m8 4 rfl
theorem q1782 : (Jvm.Cond.instanceMethod ({ cls := "FireSaleModel", name := "remembers", desc := "()V" } : Jvm.MethodName)) ∈ lw_all := lw_g (lw_at lw_m8 5 rfl) rfl
theorem q1783 : (Jvm.Cond.code ({ cls := "FireSaleModel", name := "remembers", desc := "()V" } : Jvm.MethodName) prog_11_method_45_code (2 : Nat) (Option.none : Option Jvm.ClassFile.FieldType)) ∈ lw_all := lw_g (lw_at lw_m8 6 rfl) rfl
theorem q1785 : (Jvm.Cond.instanceMethod ({ cls := "FireSaleModel", name := "house", desc := "(II)I" } : Jvm.MethodName)) ∈ lw_all := lw_g (lw_at lw_m8 8 rfl) rfl
theorem q1786 : (Jvm.Cond.selects "FireSaleModel" ({ cls := "FireSaleModel", name := "house", desc := "(II)I" } : Jvm.MethodName) ({ cls := "FireSaleModel", name := "house", desc := "(II)I" } : Jvm.MethodName)) ∈ lw_all := lw_g (lw_at lw_m8 9 rfl) rfl
theorem q1787 : (Jvm.Cond.code ({ cls := "FireSaleModel", name := "house", desc := "(II)I" } : Jvm.MethodName) prog_11_method_48_code (4 : Nat) (Option.some Jvm.ClassFile.FieldType.int)) ∈ lw_all := lw_g (lw_at lw_m8 10 rfl) rfl
theorem q1789 : (Jvm.Cond.instanceMethod ({ cls := "FireSaleModel", name := "set", desc := "(III)I" } : Jvm.MethodName)) ∈ lw_all := lw_g (lw_at lw_m8 12 rfl) rfl
theorem q1790 : (Jvm.Cond.selects "FireSaleModel" ({ cls := "FireSaleModel", name := "set", desc := "(III)I" } : Jvm.MethodName) ({ cls := "FireSaleModel", name := "set", desc := "(III)I" } : Jvm.MethodName)) ∈ lw_all := lw_g (lw_at lw_m8 13 rfl) rfl
theorem q1791 : (Jvm.Cond.code ({ cls := "FireSaleModel", name := "set", desc := "(III)I" } : Jvm.MethodName) prog_11_method_49_code (4 : Nat) (Option.some Jvm.ClassFile.FieldType.int)) ∈ lw_all := lw_g (lw_at lw_m8 14 rfl) rfl
theorem q1792 : (Jvm.Cond.methodLink "FireSaleModel" (237 : Nat) ({ cls := "FireSaleModel", name := "isHouse", desc := "(I)Z" } : Jvm.MethodName)) ∈ lw_all := lw_g (lw_at lw_m8 15 rfl) rfl
theorem q1793 : (Jvm.Cond.privateMethod ({ cls := "FireSaleModel", name := "isHouse", desc := "(I)Z" } : Jvm.MethodName)) ∈ lw_tbl := lw_at lw_m8 16 rfl
theorem q1794 : (Jvm.Cond.instanceMethod ({ cls := "FireSaleModel", name := "isHouse", desc := "(I)Z" } : Jvm.MethodName)) ∈ lw_all := lw_g (lw_at lw_m8 17 rfl) rfl
theorem q1795 : (Jvm.Cond.code ({ cls := "FireSaleModel", name := "isHouse", desc := "(I)Z" } : Jvm.MethodName) prog_11_method_5_code (2 : Nat) (Option.some Jvm.ClassFile.FieldType.boolean)) ∈ lw_all := lw_g (lw_at lw_m8 18 rfl) rfl
theorem q1796 : (Jvm.Cond.methodLink "FireSaleModel" (175 : Nat) ({ cls := "FireSaleModel", name := "houseOf", desc := "(II)I" } : Jvm.MethodName)) ∈ lw_all := lw_g (lw_at lw_m8 19 rfl) rfl
theorem q1797 : (Jvm.Cond.privateMethod ({ cls := "FireSaleModel", name := "houseOf", desc := "(II)I" } : Jvm.MethodName)) ∈ lw_tbl := lw_at lw_m8 20 rfl
theorem q1798 : (Jvm.Cond.instanceMethod ({ cls := "FireSaleModel", name := "houseOf", desc := "(II)I" } : Jvm.MethodName)) ∈ lw_all := lw_g (lw_at lw_m8 21 rfl) rfl
theorem q1799 : (Jvm.Cond.code ({ cls := "FireSaleModel", name := "houseOf", desc := "(II)I" } : Jvm.MethodName) prog_11_method_6_code (3 : Nat) (Option.some Jvm.ClassFile.FieldType.int)) ∈ lw_all := lw_g (lw_at lw_m8 22 rfl) rfl
theorem q1800 : (Jvm.Cond.methodLink "FireSaleModel" (240 : Nat) ({ cls := "FireSaleModel", name := "puts", desc := "(II)I" } : Jvm.MethodName)) ∈ lw_all := lw_g (lw_at lw_m8 23 rfl) rfl
theorem q1801 : (Jvm.Cond.privateMethod ({ cls := "FireSaleModel", name := "puts", desc := "(II)I" } : Jvm.MethodName)) ∈ lw_tbl := lw_at lw_m8 24 rfl
theorem q1802 : (Jvm.Cond.instanceMethod ({ cls := "FireSaleModel", name := "puts", desc := "(II)I" } : Jvm.MethodName)) ∈ lw_all := lw_g (lw_at lw_m8 25 rfl) rfl
theorem q1803 : (Jvm.Cond.code ({ cls := "FireSaleModel", name := "puts", desc := "(II)I" } : Jvm.MethodName) prog_11_method_46_code (4 : Nat) (Option.some Jvm.ClassFile.FieldType.int)) ∈ lw_all := lw_g (lw_at lw_m8 26 rfl) rfl
theorem q1805 : (Jvm.Cond.instanceMethod ({ cls := "FireSaleModel", name := "hold", desc := "(III)I" } : Jvm.MethodName)) ∈ lw_all := lw_g (lw_at lw_m8 28 rfl) rfl
theorem q1806 : (Jvm.Cond.selects "FireSaleModel" ({ cls := "FireSaleModel", name := "hold", desc := "(III)I" } : Jvm.MethodName) ({ cls := "FireSaleModel", name := "hold", desc := "(III)I" } : Jvm.MethodName)) ∈ lw_all := lw_g (lw_at lw_m8 29 rfl) rfl
theorem q1807 : (Jvm.Cond.code ({ cls := "FireSaleModel", name := "hold", desc := "(III)I" } : Jvm.MethodName) prog_11_method_50_code (4 : Nat) (Option.some Jvm.ClassFile.FieldType.int)) ∈ lw_all := lw_g (lw_at lw_m8 30 rfl) rfl
theorem q1808 : (Jvm.Cond.methodLink "FireSaleModel" (224 : Nat) ({ cls := "FireSaleModel", name := "isAsset", desc := "(I)Z" } : Jvm.MethodName)) ∈ lw_all := lw_g (lw_at lw_m8 31 rfl) rfl
theorem q1809 : (Jvm.Cond.privateMethod ({ cls := "FireSaleModel", name := "isAsset", desc := "(I)Z" } : Jvm.MethodName)) ∈ lw_tbl := lw_at lw_m8 32 rfl
theorem q1810 : (Jvm.Cond.instanceMethod ({ cls := "FireSaleModel", name := "isAsset", desc := "(I)Z" } : Jvm.MethodName)) ∈ lw_all := lw_g (lw_at lw_m8 33 rfl) rfl
theorem q1811 : (Jvm.Cond.code ({ cls := "FireSaleModel", name := "isAsset", desc := "(I)Z" } : Jvm.MethodName) prog_11_method_4_code (2 : Nat) (Option.some Jvm.ClassFile.FieldType.boolean)) ∈ lw_all := lw_g (lw_at lw_m8 34 rfl) rfl
theorem q1812 : (Jvm.Cond.methodLink "FireSaleModel" (72 : Nat) ({ cls := "FireSaleModel", name := "holds", desc := "(II)I" } : Jvm.MethodName)) ∈ lw_all := lw_g (lw_at lw_m8 35 rfl) rfl
theorem q1813 : (Jvm.Cond.privateMethod ({ cls := "FireSaleModel", name := "holds", desc := "(II)I" } : Jvm.MethodName)) ∈ lw_tbl := lw_at lw_m8 36 rfl
theorem q1814 : (Jvm.Cond.instanceMethod ({ cls := "FireSaleModel", name := "holds", desc := "(II)I" } : Jvm.MethodName)) ∈ lw_all := lw_g (lw_at lw_m8 37 rfl) rfl
theorem q1815 : (Jvm.Cond.code ({ cls := "FireSaleModel", name := "holds", desc := "(II)I" } : Jvm.MethodName) prog_11_method_7_code (3 : Nat) (Option.some Jvm.ClassFile.FieldType.int)) ∈ lw_all := lw_g (lw_at lw_m8 38 rfl) rfl
theorem q1817 : (Jvm.Cond.instanceMethod ({ cls := "FireSaleModel", name := "loan", desc := "(III)I" } : Jvm.MethodName)) ∈ lw_all := lw_g (lw_at lw_m8 40 rfl) rfl
theorem q1818 : (Jvm.Cond.selects "FireSaleModel" ({ cls := "FireSaleModel", name := "loan", desc := "(III)I" } : Jvm.MethodName) ({ cls := "FireSaleModel", name := "loan", desc := "(III)I" } : Jvm.MethodName)) ∈ lw_all := lw_g (lw_at lw_m8 41 rfl) rfl
theorem q1819 : (Jvm.Cond.code ({ cls := "FireSaleModel", name := "loan", desc := "(III)I" } : Jvm.MethodName) prog_11_method_51_code (4 : Nat) (Option.some Jvm.ClassFile.FieldType.int)) ∈ lw_all := lw_g (lw_at lw_m8 42 rfl) rfl
theorem q1820 : (Jvm.Cond.methodLink "FireSaleModel" (181 : Nat) ({ cls := "FireSaleModel", name := "loanOf", desc := "(II)I" } : Jvm.MethodName)) ∈ lw_all := lw_g (lw_at lw_m8 43 rfl) rfl
theorem q1821 : (Jvm.Cond.privateMethod ({ cls := "FireSaleModel", name := "loanOf", desc := "(II)I" } : Jvm.MethodName)) ∈ lw_tbl := lw_at lw_m8 44 rfl
theorem q1822 : (Jvm.Cond.instanceMethod ({ cls := "FireSaleModel", name := "loanOf", desc := "(II)I" } : Jvm.MethodName)) ∈ lw_all := lw_g (lw_at lw_m8 45 rfl) rfl
theorem q1823 : (Jvm.Cond.code ({ cls := "FireSaleModel", name := "loanOf", desc := "(II)I" } : Jvm.MethodName) prog_11_method_8_code (3 : Nat) (Option.some Jvm.ClassFile.FieldType.int)) ∈ lw_all := lw_g (lw_at lw_m8 46 rfl) rfl
theorem q1825 : (Jvm.Cond.instanceMethod ({ cls := "FireSaleModel", name := "curve", desc := "(III)I" } : Jvm.MethodName)) ∈ lw_all := lw_g (lw_at lw_m8 48 rfl) rfl
theorem q1826 : (Jvm.Cond.selects "FireSaleModel" ({ cls := "FireSaleModel", name := "curve", desc := "(III)I" } : Jvm.MethodName) ({ cls := "FireSaleModel", name := "curve", desc := "(III)I" } : Jvm.MethodName)) ∈ lw_all := lw_g (lw_at lw_m8 49 rfl) rfl
theorem q1827 : (Jvm.Cond.code ({ cls := "FireSaleModel", name := "curve", desc := "(III)I" } : Jvm.MethodName) prog_11_method_52_code (5 : Nat) (Option.some Jvm.ClassFile.FieldType.int)) ∈ lw_all := lw_g (lw_at lw_m8 50 rfl) rfl
theorem q1829 : (Jvm.Cond.instanceMethod ({ cls := "FireSaleModel", name := "lay", desc := "(IIII)I" } : Jvm.MethodName)) ∈ lw_all := lw_g (lw_at lw_m8 52 rfl) rfl
theorem q1830 : (Jvm.Cond.selects "FireSaleModel" ({ cls := "FireSaleModel", name := "lay", desc := "(IIII)I" } : Jvm.MethodName) ({ cls := "FireSaleModel", name := "lay", desc := "(IIII)I" } : Jvm.MethodName)) ∈ lw_all := lw_g (lw_at lw_m8 53 rfl) rfl
theorem q1831 : (Jvm.Cond.code ({ cls := "FireSaleModel", name := "lay", desc := "(IIII)I" } : Jvm.MethodName) prog_11_method_53_code (5 : Nat) (Option.some Jvm.ClassFile.FieldType.int)) ∈ lw_all := lw_g (lw_at lw_m8 54 rfl) rfl
theorem q1833 : (Jvm.Cond.instanceMethod ({ cls := "FireSaleModel", name := "lift", desc := "(II)I" } : Jvm.MethodName)) ∈ lw_all := lw_g (lw_at lw_m8 56 rfl) rfl
theorem q1834 : (Jvm.Cond.selects "FireSaleModel" ({ cls := "FireSaleModel", name := "lift", desc := "(II)I" } : Jvm.MethodName) ({ cls := "FireSaleModel", name := "lift", desc := "(II)I" } : Jvm.MethodName)) ∈ lw_all := lw_g (lw_at lw_m8 57 rfl) rfl
theorem q1835 : (Jvm.Cond.code ({ cls := "FireSaleModel", name := "lift", desc := "(II)I" } : Jvm.MethodName) prog_11_method_54_code (5 : Nat) (Option.some Jvm.ClassFile.FieldType.int)) ∈ lw_all := lw_g (lw_at lw_m8 58 rfl) rfl
theorem q1837 : (Jvm.Cond.instanceMethod ({ cls := "FireSaleModel", name := "net", desc := "(II)I" } : Jvm.MethodName)) ∈ lw_all := lw_g (lw_at lw_m8 60 rfl) rfl
theorem q1838 : (Jvm.Cond.selects "FireSaleModel" ({ cls := "FireSaleModel", name := "net", desc := "(II)I" } : Jvm.MethodName) ({ cls := "FireSaleModel", name := "net", desc := "(II)I" } : Jvm.MethodName)) ∈ lw_all := lw_g (lw_at lw_m8 61 rfl) rfl
theorem q1839 : (Jvm.Cond.code ({ cls := "FireSaleModel", name := "net", desc := "(II)I" } : Jvm.MethodName) prog_11_method_55_code (6 : Nat) (Option.some Jvm.ClassFile.FieldType.int)) ∈ lw_all := lw_g (lw_at lw_m8 62 rfl) rfl
theorem q1841 : (Jvm.Cond.instanceMethod ({ cls := "FireSaleModel", name := "merge", desc := "(II)I" } : Jvm.MethodName)) ∈ lw_all := lw_g (lw_at lw_m8 64 rfl) rfl
theorem q1842 : (Jvm.Cond.selects "FireSaleModel" ({ cls := "FireSaleModel", name := "merge", desc := "(II)I" } : Jvm.MethodName) ({ cls := "FireSaleModel", name := "merge", desc := "(II)I" } : Jvm.MethodName)) ∈ lw_all := lw_g (lw_at lw_m8 65 rfl) rfl
theorem q1843 : (Jvm.Cond.code ({ cls := "FireSaleModel", name := "merge", desc := "(II)I" } : Jvm.MethodName) prog_11_method_59_code (5 : Nat) (Option.some Jvm.ClassFile.FieldType.int)) ∈ lw_all := lw_g (lw_at lw_m8 66 rfl) rfl
theorem q1844 : (Jvm.Cond.methodLink "FireSaleModel" (246 : Nat) ({ cls := "FireSaleModel", name := "held", desc := "(II)I" } : Jvm.MethodName)) ∈ lw_all := lw_g (lw_at lw_m8 67 rfl) rfl
theorem q1845 : (Jvm.Cond.static ({ cls := "FireSaleModel", name := "held", desc := "(II)I" } : Jvm.MethodName)) ∈ lw_all := lw_g (lw_at lw_m8 68 rfl) rfl
theorem q1846 : (Jvm.Cond.code ({ cls := "FireSaleModel", name := "held", desc := "(II)I" } : Jvm.MethodName) prog_11_method_56_code (2 : Nat) (Option.some Jvm.ClassFile.FieldType.int)) ∈ lw_all := lw_g (lw_at lw_m8 69 rfl) rfl
theorem q1847 : (Jvm.Cond.methodLink "FireSaleModel" (249 : Nat) ({ cls := "FireSaleModel", name := "goes", desc := "(I)V" } : Jvm.MethodName)) ∈ lw_all := lw_g (lw_at lw_m8 70 rfl) rfl
theorem q1848 : (Jvm.Cond.privateMethod ({ cls := "FireSaleModel", name := "goes", desc := "(I)V" } : Jvm.MethodName)) ∈ lw_tbl := lw_at lw_m8 71 rfl
theorem q1849 : (Jvm.Cond.instanceMethod ({ cls := "FireSaleModel", name := "goes", desc := "(I)V" } : Jvm.MethodName)) ∈ lw_all := lw_g (lw_at lw_m8 72 rfl) rfl
theorem q1850 : (Jvm.Cond.code ({ cls := "FireSaleModel", name := "goes", desc := "(I)V" } : Jvm.MethodName) prog_11_method_57_code (5 : Nat) (Option.none : Option Jvm.ClassFile.FieldType)) ∈ lw_all := lw_g (lw_at lw_m8 73 rfl) rfl
theorem q1851 : (Jvm.Cond.methodLink "FireSaleModel" (243 : Nat) ({ cls := "FireSaleModel", name := "clears", desc := "(I)V" } : Jvm.MethodName)) ∈ lw_all := lw_g (lw_at lw_m8 74 rfl) rfl
theorem q1852 : (Jvm.Cond.privateMethod ({ cls := "FireSaleModel", name := "clears", desc := "(I)V" } : Jvm.MethodName)) ∈ lw_tbl := lw_at lw_m8 75 rfl
theorem q1853 : (Jvm.Cond.instanceMethod ({ cls := "FireSaleModel", name := "clears", desc := "(I)V" } : Jvm.MethodName)) ∈ lw_all := lw_g (lw_at lw_m8 76 rfl) rfl
theorem q1854 : (Jvm.Cond.code ({ cls := "FireSaleModel", name := "clears", desc := "(I)V" } : Jvm.MethodName) prog_11_method_58_code (3 : Nat) (Option.none : Option Jvm.ClassFile.FieldType)) ∈ lw_all := lw_g (lw_at lw_m8 77 rfl) rfl
theorem q1856 : (Jvm.Cond.instanceMethod ({ cls := "FireSaleModel", name := "close", desc := "(I)I" } : Jvm.MethodName)) ∈ lw_all := lw_g (lw_at lw_m8 79 rfl) rfl
theorem q1857 : (Jvm.Cond.selects "FireSaleModel" ({ cls := "FireSaleModel", name := "close", desc := "(I)I" } : Jvm.MethodName) ({ cls := "FireSaleModel", name := "close", desc := "(I)I" } : Jvm.MethodName)) ∈ lw_all := lw_g (lw_at lw_m8 80 rfl) rfl
theorem q1858 : (Jvm.Cond.code ({ cls := "FireSaleModel", name := "close", desc := "(I)I" } : Jvm.MethodName) prog_11_method_60_code (2 : Nat) (Option.some Jvm.ClassFile.FieldType.int)) ∈ lw_all := lw_g (lw_at lw_m8 81 rfl) rfl
theorem q1860 : (Jvm.Cond.instanceMethod ({ cls := "FireSaleModel", name := "live", desc := "()I" } : Jvm.MethodName)) ∈ lw_all := lw_g (lw_at lw_m8 83 rfl) rfl
theorem q1861 : (Jvm.Cond.selects "FireSaleModel" ({ cls := "FireSaleModel", name := "live", desc := "()I" } : Jvm.MethodName) ({ cls := "FireSaleModel", name := "live", desc := "()I" } : Jvm.MethodName)) ∈ lw_all := lw_g (lw_at lw_m8 84 rfl) rfl
theorem q1862 : (Jvm.Cond.code ({ cls := "FireSaleModel", name := "live", desc := "()I" } : Jvm.MethodName) prog_11_method_61_code (5 : Nat) (Option.some Jvm.ClassFile.FieldType.int)) ∈ lw_all := lw_g (lw_at lw_m8 85 rfl) rfl
theorem q1863 : (Jvm.Cond.methodLink "FireSaleModel" (252 : Nat) ({ cls := "FireSaleModel", name := "plain", desc := "()V" } : Jvm.MethodName)) ∈ lw_all := lw_g (lw_at lw_m8 86 rfl) rfl
theorem q1864 : (Jvm.Cond.privateMethod ({ cls := "FireSaleModel", name := "plain", desc := "()V" } : Jvm.MethodName)) ∈ lw_tbl := lw_at lw_m8 87 rfl
theorem q1865 : (Jvm.Cond.instanceMethod ({ cls := "FireSaleModel", name := "plain", desc := "()V" } : Jvm.MethodName)) ∈ lw_all := lw_g (lw_at lw_m8 88 rfl) rfl
theorem q1866 : (Jvm.Cond.code ({ cls := "FireSaleModel", name := "plain", desc := "()V" } : Jvm.MethodName) prog_11_method_29_code (2 : Nat) (Option.none : Option Jvm.ClassFile.FieldType)) ∈ lw_all := lw_g (lw_at lw_m8 89 rfl) rfl
theorem q1867 : (Jvm.Cond.methodLink "FireSaleModel" (255 : Nat) ({ cls := "FireSaleModel", name := "least", desc := "()V" } : Jvm.MethodName)) ∈ lw_all := lw_g (lw_at lw_m8 90 rfl) rfl
theorem q1868 : (Jvm.Cond.privateMethod ({ cls := "FireSaleModel", name := "least", desc := "()V" } : Jvm.MethodName)) ∈ lw_tbl := lw_at lw_m8 91 rfl
theorem q1869 : (Jvm.Cond.instanceMethod ({ cls := "FireSaleModel", name := "least", desc := "()V" } : Jvm.MethodName)) ∈ lw_all := lw_g (lw_at lw_m8 92 rfl) rfl
theorem q1870 : (Jvm.Cond.code ({ cls := "FireSaleModel", name := "least", desc := "()V" } : Jvm.MethodName) prog_11_method_40_code (1 : Nat) (Option.none : Option Jvm.ClassFile.FieldType)) ∈ lw_all := lw_g (lw_at lw_m8 93 rfl) rfl
theorem q1871 : (Jvm.Cond.methodLink "FireSaleModel" (215 : Nat) ({ cls := "FireSaleModel", name := "calm", desc := "()V" } : Jvm.MethodName)) ∈ lw_all := lw_g (lw_at lw_m8 94 rfl) rfl
theorem q1872 : (Jvm.Cond.privateMethod ({ cls := "FireSaleModel", name := "calm", desc := "()V" } : Jvm.MethodName)) ∈ lw_tbl := lw_at lw_m8 95 rfl
theorem q1873 : (Jvm.Cond.instanceMethod ({ cls := "FireSaleModel", name := "calm", desc := "()V" } : Jvm.MethodName)) ∈ lw_all := lw_g (lw_at lw_m8 96 rfl) rfl
theorem q1874 : (Jvm.Cond.code ({ cls := "FireSaleModel", name := "calm", desc := "()V" } : Jvm.MethodName) prog_11_method_37_code (2 : Nat) (Option.none : Option Jvm.ClassFile.FieldType)) ∈ lw_all := lw_g (lw_at lw_m8 97 rfl) rfl
theorem q1875 : (Jvm.Cond.methodLink "FireSaleModel" (218 : Nat) ({ cls := "FireSaleModel", name := "settles", desc := "()V" } : Jvm.MethodName)) ∈ lw_all := lw_g (lw_at lw_m8 98 rfl) rfl
theorem q1876 : (Jvm.Cond.privateMethod ({ cls := "FireSaleModel", name := "settles", desc := "()V" } : Jvm.MethodName)) ∈ lw_tbl := lw_at lw_m8 99 rfl
theorem q1877 : (Jvm.Cond.instanceMethod ({ cls := "FireSaleModel", name := "settles", desc := "()V" } : Jvm.MethodName)) ∈ lw_all := lw_g (lw_at lw_m8 100 rfl) rfl
theorem q1878 : (Jvm.Cond.code ({ cls := "FireSaleModel", name := "settles", desc := "()V" } : Jvm.MethodName) prog_11_method_39_code (1 : Nat) (Option.none : Option Jvm.ClassFile.FieldType)) ∈ lw_all := lw_g (lw_at lw_m8 101 rfl) rfl
theorem q1879 : (Jvm.Cond.methodLink "FireSaleModel" (211 : Nat) ({ cls := "FireSaleModel", name := "goesOn", desc := "()Z" } : Jvm.MethodName)) ∈ lw_all := lw_g (lw_at lw_m8 102 rfl) rfl
theorem q1880 : (Jvm.Cond.privateMethod ({ cls := "FireSaleModel", name := "goesOn", desc := "()Z" } : Jvm.MethodName)) ∈ lw_tbl := lw_at lw_m8 103 rfl
theorem q1881 : (Jvm.Cond.instanceMethod ({ cls := "FireSaleModel", name := "goesOn", desc := "()Z" } : Jvm.MethodName)) ∈ lw_all := lw_g (lw_at lw_m8 104 rfl) rfl
theorem q1882 : (Jvm.Cond.code ({ cls := "FireSaleModel", name := "goesOn", desc := "()Z" } : Jvm.MethodName) prog_11_method_36_code (4 : Nat) (Option.some Jvm.ClassFile.FieldType.boolean)) ∈ lw_all := lw_g (lw_at lw_m8 105 rfl) rfl
theorem q1883 : (Jvm.Cond.methodLink "FireSaleModel" (187 : Nat) ({ cls := "FireSaleModel", name := "worthNow", desc := "(I)I" } : Jvm.MethodName)) ∈ lw_all := lw_g (lw_at lw_m8 106 rfl) rfl
theorem q1884 : (Jvm.Cond.privateMethod ({ cls := "FireSaleModel", name := "worthNow", desc := "(I)I" } : Jvm.MethodName)) ∈ lw_tbl := lw_at lw_m8 107 rfl
theorem q1885 : (Jvm.Cond.instanceMethod ({ cls := "FireSaleModel", name := "worthNow", desc := "(I)I" } : Jvm.MethodName)) ∈ lw_all := lw_g (lw_at lw_m8 108 rfl) rfl
theorem q1886 : (Jvm.Cond.code ({ cls := "FireSaleModel", name := "worthNow", desc := "(I)I" } : Jvm.MethodName) prog_11_method_32_code (4 : Nat) (Option.some Jvm.ClassFile.FieldType.int)) ∈ lw_all := lw_g (lw_at lw_m8 109 rfl) rfl
theorem q1887 : (Jvm.Cond.methodLink "FireSaleModel" (178 : Nat) ({ cls := "FireSaleModel", name := "priceBy", desc := "(II)I" } : Jvm.MethodName)) ∈ lw_all := lw_g (lw_at lw_m8 110 rfl) rfl
theorem q1888 : (Jvm.Cond.privateMethod ({ cls := "FireSaleModel", name := "priceBy", desc := "(II)I" } : Jvm.MethodName)) ∈ lw_tbl := lw_at lw_m8 111 rfl
theorem q1889 : (Jvm.Cond.instanceMethod ({ cls := "FireSaleModel", name := "priceBy", desc := "(II)I" } : Jvm.MethodName)) ∈ lw_all := lw_g (lw_at lw_m8 112 rfl) rfl
theorem q1890 : (Jvm.Cond.code ({ cls := "FireSaleModel", name := "priceBy", desc := "(II)I" } : Jvm.MethodName) prog_11_method_31_code (6 : Nat) (Option.some Jvm.ClassFile.FieldType.int)) ∈ lw_all := lw_g (lw_at lw_m8 113 rfl) rfl
theorem q1891 : (Jvm.Cond.methodLink "FireSaleModel" (172 : Nat) ({ cls := "FireSaleModel", name := "shockNow", desc := "(I)I" } : Jvm.MethodName)) ∈ lw_all := lw_g (lw_at lw_m8 114 rfl) rfl
theorem q1892 : (Jvm.Cond.privateMethod ({ cls := "FireSaleModel", name := "shockNow", desc := "(I)I" } : Jvm.MethodName)) ∈ lw_tbl := lw_at lw_m8 115 rfl
theorem q1893 : (Jvm.Cond.instanceMethod ({ cls := "FireSaleModel", name := "shockNow", desc := "(I)I" } : Jvm.MethodName)) ∈ lw_all := lw_g (lw_at lw_m8 116 rfl) rfl
theorem q1894 : (Jvm.Cond.code ({ cls := "FireSaleModel", name := "shockNow", desc := "(I)I" } : Jvm.MethodName) prog_11_method_28_code (5 : Nat) (Option.some Jvm.ClassFile.FieldType.int)) ∈ lw_all := lw_g (lw_at lw_m8 117 rfl) rfl
theorem q1895 : (Jvm.Cond.methodLink "FireSaleModel" (155 : Nat) ({ cls := "FireSaleModel", name := "laidOf", desc := "(III)I" } : Jvm.MethodName)) ∈ lw_all := lw_g (lw_at lw_m8 118 rfl) rfl
theorem q1896 : (Jvm.Cond.privateMethod ({ cls := "FireSaleModel", name := "laidOf", desc := "(III)I" } : Jvm.MethodName)) ∈ lw_tbl := lw_at lw_m8 119 rfl
theorem q1897 : (Jvm.Cond.instanceMethod ({ cls := "FireSaleModel", name := "laidOf", desc := "(III)I" } : Jvm.MethodName)) ∈ lw_all := lw_g (lw_at lw_m8 120 rfl) rfl
theorem q1898 : (Jvm.Cond.code ({ cls := "FireSaleModel", name := "laidOf", desc := "(III)I" } : Jvm.MethodName) prog_11_method_26_code (4 : Nat) (Option.some Jvm.ClassFile.FieldType.int)) ∈ lw_all := lw_g (lw_at lw_m8 121 rfl) rfl
theorem q1899 : (Jvm.Cond.methodLink "FireSaleModel" (196 : Nat) ({ cls := "FireSaleModel", name := "must", desc := "(I)I" } : Jvm.MethodName)) ∈ lw_all := lw_g (lw_at lw_m8 122 rfl) rfl
theorem q1900 : (Jvm.Cond.privateMethod ({ cls := "FireSaleModel", name := "must", desc := "(I)I" } : Jvm.MethodName)) ∈ lw_tbl := lw_at lw_m8 123 rfl
theorem q1901 : (Jvm.Cond.instanceMethod ({ cls := "FireSaleModel", name := "must", desc := "(I)I" } : Jvm.MethodName)) ∈ lw_all := lw_g (lw_at lw_m8 124 rfl) rfl
theorem q1902 : (Jvm.Cond.code ({ cls := "FireSaleModel", name := "must", desc := "(I)I" } : Jvm.MethodName) prog_11_method_34_code (6 : Nat) (Option.some Jvm.ClassFile.FieldType.int)) ∈ lw_all := lw_g (lw_at lw_m8 125 rfl) rfl
theorem q1903 : (Jvm.Cond.methodLink "FireSaleModel" (190 : Nat) ({ cls := "FireSaleModel", name := "piecesOf", desc := "(I)I" } : Jvm.MethodName)) ∈ lw_all := lw_g (lw_at lw_m8 126 rfl) rfl
theorem q1904 : (Jvm.Cond.privateMethod ({ cls := "FireSaleModel", name := "piecesOf", desc := "(I)I" } : Jvm.MethodName)) ∈ lw_tbl := lw_at lw_m8 127 rfl
theorem q1905 : (Jvm.Cond.instanceMethod ({ cls := "FireSaleModel", name := "piecesOf", desc := "(I)I" } : Jvm.MethodName)) ∈ lw_all := lw_g (lw_at lw_m8 128 rfl) rfl
theorem q1906 : (Jvm.Cond.code ({ cls := "FireSaleModel", name := "piecesOf", desc := "(I)I" } : Jvm.MethodName) prog_11_method_33_code (4 : Nat) (Option.some Jvm.ClassFile.FieldType.int)) ∈ lw_all := lw_g (lw_at lw_m8 129 rfl) rfl
theorem q1907 : (Jvm.Cond.methodLink "FireSaleModel" (199 : Nat) ({ cls := "FireSaleModel", name := "mustOf", desc := "(III)I" } : Jvm.MethodName)) ∈ lw_all := lw_g (lw_at lw_m8 130 rfl) rfl
theorem q1908 : (Jvm.Cond.privateMethod ({ cls := "FireSaleModel", name := "mustOf", desc := "(III)I" } : Jvm.MethodName)) ∈ lw_tbl := lw_at lw_m8 131 rfl
theorem q1909 : (Jvm.Cond.instanceMethod ({ cls := "FireSaleModel", name := "mustOf", desc := "(III)I" } : Jvm.MethodName)) ∈ lw_all := lw_g (lw_at lw_m8 132 rfl) rfl
theorem q1910 : (Jvm.Cond.code ({ cls := "FireSaleModel", name := "mustOf", desc := "(III)I" } : Jvm.MethodName) prog_11_method_35_code (8 : Nat) (Option.some Jvm.ClassFile.FieldType.int)) ∈ lw_all := lw_g (lw_at lw_m8 133 rfl) rfl
theorem q1911 : (Jvm.Cond.methodLink "FireSaleModel" (202 : Nat) ({ cls := "FireSaleModel", name := "capOf", desc := "(I)I" } : Jvm.MethodName)) ∈ lw_all := lw_g (lw_at lw_m8 134 rfl) rfl
theorem q1912 : (Jvm.Cond.privateMethod ({ cls := "FireSaleModel", name := "capOf", desc := "(I)I" } : Jvm.MethodName)) ∈ lw_tbl := lw_at lw_m8 135 rfl
theorem q1913 : (Jvm.Cond.instanceMethod ({ cls := "FireSaleModel", name := "capOf", desc := "(I)I" } : Jvm.MethodName)) ∈ lw_all := lw_g (lw_at lw_m8 136 rfl) rfl
theorem q1914 : (Jvm.Cond.code ({ cls := "FireSaleModel", name := "capOf", desc := "(I)I" } : Jvm.MethodName) prog_11_method_30_code (3 : Nat) (Option.some Jvm.ClassFile.FieldType.int)) ∈ lw_all := lw_g (lw_at lw_m8 137 rfl) rfl
theorem q1915 : (Jvm.Cond.methodLink "FireSaleModel" (168 : Nat) ({ cls := "FireSaleModel", name := "capNow", desc := "(I)I" } : Jvm.MethodName)) ∈ lw_all := lw_g (lw_at lw_m8 138 rfl) rfl
theorem q1916 : (Jvm.Cond.privateMethod ({ cls := "FireSaleModel", name := "capNow", desc := "(I)I" } : Jvm.MethodName)) ∈ lw_tbl := lw_at lw_m8 139 rfl
theorem q1917 : (Jvm.Cond.instanceMethod ({ cls := "FireSaleModel", name := "capNow", desc := "(I)I" } : Jvm.MethodName)) ∈ lw_all := lw_g (lw_at lw_m8 140 rfl) rfl
theorem q1918 : (Jvm.Cond.code ({ cls := "FireSaleModel", name := "capNow", desc := "(I)I" } : Jvm.MethodName) prog_11_method_27_code (5 : Nat) (Option.some Jvm.ClassFile.FieldType.int)) ∈ lw_all := lw_g (lw_at lw_m8 141 rfl) rfl
theorem q1919 : (Jvm.Cond.methodLink "FireSaleModel" (258 : Nat) ({ cls := "FireSaleModel", name := "told", desc := "(I)I" } : Jvm.MethodName)) ∈ lw_all := lw_g (lw_at lw_m8 142 rfl) rfl
theorem q1920 : (Jvm.Cond.privateMethod ({ cls := "FireSaleModel", name := "told", desc := "(I)I" } : Jvm.MethodName)) ∈ lw_tbl := lw_at lw_m8 143 rfl
theorem q1921 : (Jvm.Cond.instanceMethod ({ cls := "FireSaleModel", name := "told", desc := "(I)I" } : Jvm.MethodName)) ∈ lw_all := lw_g (lw_at lw_m8 144 rfl) rfl
theorem q1922 : (Jvm.Cond.code ({ cls := "FireSaleModel", name := "told", desc := "(I)I" } : Jvm.MethodName) prog_11_method_44_code (2 : Nat) (Option.some Jvm.ClassFile.FieldType.int)) ∈ lw_all := lw_g (lw_at lw_m8 145 rfl) rfl
theorem q1923 : (Jvm.Cond.methodLink "FireSaleModel" (227 : Nat) ({ cls := "FireSaleModel", name := "lost", desc := "()I" } : Jvm.MethodName)) ∈ lw_all := lw_g (lw_at lw_m8 146 rfl) rfl
theorem q1924 : (Jvm.Cond.privateMethod ({ cls := "FireSaleModel", name := "lost", desc := "()I" } : Jvm.MethodName)) ∈ lw_tbl := lw_at lw_m8 147 rfl
theorem q1925 : (Jvm.Cond.instanceMethod ({ cls := "FireSaleModel", name := "lost", desc := "()I" } : Jvm.MethodName)) ∈ lw_all := lw_g (lw_at lw_m8 148 rfl) rfl
theorem q1926 : (Jvm.Cond.code ({ cls := "FireSaleModel", name := "lost", desc := "()I" } : Jvm.MethodName) prog_11_method_42_code (3 : Nat) (Option.some Jvm.ClassFile.FieldType.int)) ∈ lw_all := lw_g (lw_at lw_m8 149 rfl) rfl
theorem q1927 : (Jvm.Cond.methodLink "FireSaleModel" (205 : Nat) ({ cls := "FireSaleModel", name := "heldOf", desc := "(I)I" } : Jvm.MethodName)) ∈ lw_all := lw_g (lw_at lw_m8 150 rfl) rfl
theorem q1928 : (Jvm.Cond.privateMethod ({ cls := "FireSaleModel", name := "heldOf", desc := "(I)I" } : Jvm.MethodName)) ∈ lw_tbl := lw_at lw_m8 151 rfl
theorem q1929 : (Jvm.Cond.instanceMethod ({ cls := "FireSaleModel", name := "heldOf", desc := "(I)I" } : Jvm.MethodName)) ∈ lw_all := lw_g (lw_at lw_m8 152 rfl) rfl
theorem q1930 : (Jvm.Cond.code ({ cls := "FireSaleModel", name := "heldOf", desc := "(I)I" } : Jvm.MethodName) prog_11_method_9_code (4 : Nat) (Option.some Jvm.ClassFile.FieldType.int)) ∈ lw_all := lw_g (lw_at lw_m8 153 rfl) rfl
theorem q1931 : (Jvm.Cond.methodLink "FireSaleModel" (231 : Nat) ({ cls := "FireSaleModel", name := "bits", desc := "(I)I" } : Jvm.MethodName)) ∈ lw_all := lw_g (lw_at lw_m8 154 rfl) rfl
theorem q1932 : (Jvm.Cond.static ({ cls := "FireSaleModel", name := "bits", desc := "(I)I" } : Jvm.MethodName)) ∈ lw_all := lw_g (lw_at lw_m8 155 rfl) rfl
theorem q1933 : (Jvm.Cond.code ({ cls := "FireSaleModel", name := "bits", desc := "(I)I" } : Jvm.MethodName) prog_11_method_10_code (3 : Nat) (Option.some Jvm.ClassFile.FieldType.int)) ∈ lw_all := lw_g (lw_at lw_m8 156 rfl) rfl
theorem q1934 : (Jvm.Cond.methodLink "FireSaleModel" (261 : Nat) ({ cls := "FireSaleModel", name := "sellsBy", desc := "(I)V" } : Jvm.MethodName)) ∈ lw_all := lw_g (lw_at lw_m8 157 rfl) rfl
theorem q1935 : (Jvm.Cond.privateMethod ({ cls := "FireSaleModel", name := "sellsBy", desc := "(I)V" } : Jvm.MethodName)) ∈ lw_tbl := lw_at lw_m8 158 rfl
theorem q1936 : (Jvm.Cond.instanceMethod ({ cls := "FireSaleModel", name := "sellsBy", desc := "(I)V" } : Jvm.MethodName)) ∈ lw_all := lw_g (lw_at lw_m8 159 rfl) rfl
theorem q1937 : (Jvm.Cond.code ({ cls := "FireSaleModel", name := "sellsBy", desc := "(I)V" } : Jvm.MethodName) prog_11_method_62_code (4 : Nat) (Option.none : Option Jvm.ClassFile.FieldType)) ∈ lw_all := lw_g (lw_at lw_m8 160 rfl) rfl
theorem q1938 : (Jvm.Cond.methodLink "FireSaleModel" (264 : Nat) ({ cls := "FireSaleModel", name := "shuts", desc := "(I)V" } : Jvm.MethodName)) ∈ lw_all := lw_g (lw_at lw_m8 161 rfl) rfl
theorem q1939 : (Jvm.Cond.privateMethod ({ cls := "FireSaleModel", name := "shuts", desc := "(I)V" } : Jvm.MethodName)) ∈ lw_tbl := lw_at lw_m8 162 rfl
theorem q1940 : (Jvm.Cond.instanceMethod ({ cls := "FireSaleModel", name := "shuts", desc := "(I)V" } : Jvm.MethodName)) ∈ lw_all := lw_g (lw_at lw_m8 163 rfl) rfl
theorem q1941 : (Jvm.Cond.code ({ cls := "FireSaleModel", name := "shuts", desc := "(I)V" } : Jvm.MethodName) prog_11_method_63_code (3 : Nat) (Option.none : Option Jvm.ClassFile.FieldType)) ∈ lw_all := lw_g (lw_at lw_m8 164 rfl) rfl
theorem q1943 : (Jvm.Cond.instanceMethod ({ cls := "FireSaleModel", name := "undo", desc := "()I" } : Jvm.MethodName)) ∈ lw_all := lw_g (lw_at lw_m8 166 rfl) rfl
theorem q1944 : (Jvm.Cond.selects "FireSaleModel" ({ cls := "FireSaleModel", name := "undo", desc := "()I" } : Jvm.MethodName) ({ cls := "FireSaleModel", name := "undo", desc := "()I" } : Jvm.MethodName)) ∈ lw_all := lw_g (lw_at lw_m8 167 rfl) rfl
theorem q1945 : (Jvm.Cond.code ({ cls := "FireSaleModel", name := "undo", desc := "()I" } : Jvm.MethodName) prog_11_method_64_code (2 : Nat) (Option.some Jvm.ClassFile.FieldType.int)) ∈ lw_all := lw_g (lw_at lw_m8 168 rfl) rfl
theorem q1947 : (Jvm.Cond.instanceMethod ({ cls := "FireSaleModel", name := "of", desc := "(II)I" } : Jvm.MethodName)) ∈ lw_all := lw_g (lw_at lw_m8 170 rfl) rfl
theorem q1948 : (Jvm.Cond.selects "FireSaleModel" ({ cls := "FireSaleModel", name := "of", desc := "(II)I" } : Jvm.MethodName) ({ cls := "FireSaleModel", name := "of", desc := "(II)I" } : Jvm.MethodName)) ∈ lw_all := lw_g (lw_at lw_m8 171 rfl) rfl
theorem q1949 : (Jvm.Cond.code ({ cls := "FireSaleModel", name := "of", desc := "(II)I" } : Jvm.MethodName) prog_11_method_65_code (5 : Nat) (Option.some Jvm.ClassFile.FieldType.int)) ∈ lw_all := lw_g (lw_at lw_m8 172 rfl) rfl
theorem q1951 : (Jvm.Cond.instanceMethod ({ cls := "FireSaleModel", name := "holding", desc := "(II)I" } : Jvm.MethodName)) ∈ lw_all := lw_g (lw_at lw_m8 174 rfl) rfl
theorem q1952 : (Jvm.Cond.selects "FireSaleModel" ({ cls := "FireSaleModel", name := "holding", desc := "(II)I" } : Jvm.MethodName) ({ cls := "FireSaleModel", name := "holding", desc := "(II)I" } : Jvm.MethodName)) ∈ lw_all := lw_g (lw_at lw_m8 175 rfl) rfl
theorem q1953 : (Jvm.Cond.code ({ cls := "FireSaleModel", name := "holding", desc := "(II)I" } : Jvm.MethodName) prog_11_method_66_code (3 : Nat) (Option.some Jvm.ClassFile.FieldType.int)) ∈ lw_all := lw_g (lw_at lw_m8 176 rfl) rfl
theorem q1955 : (Jvm.Cond.instanceMethod ({ cls := "FireSaleModel", name := "owes", desc := "(II)I" } : Jvm.MethodName)) ∈ lw_all := lw_g (lw_at lw_m8 178 rfl) rfl
theorem q1956 : (Jvm.Cond.selects "FireSaleModel" ({ cls := "FireSaleModel", name := "owes", desc := "(II)I" } : Jvm.MethodName) ({ cls := "FireSaleModel", name := "owes", desc := "(II)I" } : Jvm.MethodName)) ∈ lw_all := lw_g (lw_at lw_m8 179 rfl) rfl
theorem q1957 : (Jvm.Cond.code ({ cls := "FireSaleModel", name := "owes", desc := "(II)I" } : Jvm.MethodName) prog_11_method_67_code (3 : Nat) (Option.some Jvm.ClassFile.FieldType.int)) ∈ lw_all := lw_g (lw_at lw_m8 180 rfl) rfl
theorem q1959 : (Jvm.Cond.instanceMethod ({ cls := "FireSaleModel", name := "ofAsset", desc := "(II)I" } : Jvm.MethodName)) ∈ lw_all := lw_g (lw_at lw_m8 182 rfl) rfl
theorem q1960 : (Jvm.Cond.selects "FireSaleModel" ({ cls := "FireSaleModel", name := "ofAsset", desc := "(II)I" } : Jvm.MethodName) ({ cls := "FireSaleModel", name := "ofAsset", desc := "(II)I" } : Jvm.MethodName)) ∈ lw_all := lw_g (lw_at lw_m8 183 rfl) rfl
theorem q1961 : (Jvm.Cond.code ({ cls := "FireSaleModel", name := "ofAsset", desc := "(II)I" } : Jvm.MethodName) prog_11_method_68_code (3 : Nat) (Option.some Jvm.ClassFile.FieldType.int)) ∈ lw_all := lw_g (lw_at lw_m8 184 rfl) rfl
theorem q1963 : (Jvm.Cond.instanceMethod ({ cls := "FireSaleModel", name := "shelf", desc := "(III)I" } : Jvm.MethodName)) ∈ lw_all := lw_g (lw_at lw_m8 186 rfl) rfl
theorem q1964 : (Jvm.Cond.selects "FireSaleModel" ({ cls := "FireSaleModel", name := "shelf", desc := "(III)I" } : Jvm.MethodName) ({ cls := "FireSaleModel", name := "shelf", desc := "(III)I" } : Jvm.MethodName)) ∈ lw_all := lw_g (lw_at lw_m8 187 rfl) rfl
theorem q1965 : (Jvm.Cond.code ({ cls := "FireSaleModel", name := "shelf", desc := "(III)I" } : Jvm.MethodName) prog_11_method_69_code (4 : Nat) (Option.some Jvm.ClassFile.FieldType.int)) ∈ lw_all := lw_g (lw_at lw_m8 188 rfl) rfl
theorem q1967 : (Jvm.Cond.instanceMethod ({ cls := "FireSaleModel", name := "state", desc := "(II)I" } : Jvm.MethodName)) ∈ lw_all := lw_g (lw_at lw_m8 190 rfl) rfl
theorem q1968 : (Jvm.Cond.selects "FireSaleModel" ({ cls := "FireSaleModel", name := "state", desc := "(II)I" } : Jvm.MethodName) ({ cls := "FireSaleModel", name := "state", desc := "(II)I" } : Jvm.MethodName)) ∈ lw_all := lw_g (lw_at lw_m8 191 rfl) rfl
theorem q1969 : (Jvm.Cond.code ({ cls := "FireSaleModel", name := "state", desc := "(II)I" } : Jvm.MethodName) prog_11_method_70_code (3 : Nat) (Option.some Jvm.ClassFile.FieldType.int)) ∈ lw_all := lw_g (lw_at lw_m8 192 rfl) rfl
theorem q1970 : (Jvm.Cond.methodLink "FireSaleModel" (267 : Nat) ({ cls := "FireSaleModel", name := "isAsked", desc := "(I)Z" } : Jvm.MethodName)) ∈ lw_all := lw_g (lw_at lw_m8 193 rfl) rfl
theorem q1971 : (Jvm.Cond.privateMethod ({ cls := "FireSaleModel", name := "isAsked", desc := "(I)Z" } : Jvm.MethodName)) ∈ lw_tbl := lw_at lw_m8 194 rfl
theorem q1972 : (Jvm.Cond.instanceMethod ({ cls := "FireSaleModel", name := "isAsked", desc := "(I)Z" } : Jvm.MethodName)) ∈ lw_all := lw_g (lw_at lw_m8 195 rfl) rfl
theorem q1973 : (Jvm.Cond.code ({ cls := "FireSaleModel", name := "isAsked", desc := "(I)Z" } : Jvm.MethodName) prog_11_method_43_code (2 : Nat) (Option.some Jvm.ClassFile.FieldType.boolean)) ∈ lw_all := lw_g (lw_at lw_m8 196 rfl) rfl
theorem q1974 : (Jvm.Cond.methodLink "FireSaleModel" (270 : Nat) ({ cls := "FireSaleModel", name := "stands", desc := "(I)V" } : Jvm.MethodName)) ∈ lw_all := lw_g (lw_at lw_m8 197 rfl) rfl
theorem q1975 : (Jvm.Cond.privateMethod ({ cls := "FireSaleModel", name := "stands", desc := "(I)V" } : Jvm.MethodName)) ∈ lw_tbl := lw_at lw_m8 198 rfl
theorem q1976 : (Jvm.Cond.instanceMethod ({ cls := "FireSaleModel", name := "stands", desc := "(I)V" } : Jvm.MethodName)) ∈ lw_all := lw_g (lw_at lw_m8 199 rfl) rfl
theorem q1977 : (Jvm.Cond.code ({ cls := "FireSaleModel", name := "stands", desc := "(I)V" } : Jvm.MethodName) prog_11_method_41_code (2 : Nat) (Option.none : Option Jvm.ClassFile.FieldType)) ∈ lw_all := lw_g (lw_at lw_m8 200 rfl) rfl
theorem q1978 : (Jvm.Cond.methodLink "FireSaleModel" (221 : Nat) ({ cls := "FireSaleModel", name := "panic", desc := "()V" } : Jvm.MethodName)) ∈ lw_all := lw_g (lw_at lw_m8 201 rfl) rfl
theorem q1979 : (Jvm.Cond.privateMethod ({ cls := "FireSaleModel", name := "panic", desc := "()V" } : Jvm.MethodName)) ∈ lw_tbl := lw_at lw_m8 202 rfl
theorem q1980 : (Jvm.Cond.instanceMethod ({ cls := "FireSaleModel", name := "panic", desc := "()V" } : Jvm.MethodName)) ∈ lw_all := lw_g (lw_at lw_m8 203 rfl) rfl
theorem q1981 : (Jvm.Cond.code ({ cls := "FireSaleModel", name := "panic", desc := "()V" } : Jvm.MethodName) prog_11_method_38_code (3 : Nat) (Option.none : Option Jvm.ClassFile.FieldType)) ∈ lw_all := lw_g (lw_at lw_m8 204 rfl) rfl
theorem q1983 : (Jvm.Cond.instanceMethod ({ cls := "FireSaleModel", name := "rounds", desc := "(Z)I" } : Jvm.MethodName)) ∈ lw_all := lw_g (lw_at lw_m8 206 rfl) rfl
theorem q1984 : (Jvm.Cond.selects "FireSaleModel" ({ cls := "FireSaleModel", name := "rounds", desc := "(Z)I" } : Jvm.MethodName) ({ cls := "FireSaleModel", name := "rounds", desc := "(Z)I" } : Jvm.MethodName)) ∈ lw_all := lw_g (lw_at lw_m8 207 rfl) rfl
theorem q1985 : (Jvm.Cond.code ({ cls := "FireSaleModel", name := "rounds", desc := "(Z)I" } : Jvm.MethodName) prog_11_method_71_code (2 : Nat) (Option.some Jvm.ClassFile.FieldType.int)) ∈ lw_all := lw_g (lw_at lw_m8 208 rfl) rfl
theorem q1987 : (Jvm.Cond.instanceMethod ({ cls := "FireSaleModel", name := "price", desc := "(II)I" } : Jvm.MethodName)) ∈ lw_all := lw_g (lw_at lw_m8 210 rfl) rfl
theorem q1988 : (Jvm.Cond.selects "FireSaleModel" ({ cls := "FireSaleModel", name := "price", desc := "(II)I" } : Jvm.MethodName) ({ cls := "FireSaleModel", name := "price", desc := "(II)I" } : Jvm.MethodName)) ∈ lw_all := lw_g (lw_at lw_m8 211 rfl) rfl
theorem q1989 : (Jvm.Cond.code ({ cls := "FireSaleModel", name := "price", desc := "(II)I" } : Jvm.MethodName) prog_11_method_72_code (3 : Nat) (Option.some Jvm.ClassFile.FieldType.int)) ∈ lw_all := lw_g (lw_at lw_m8 212 rfl) rfl
theorem q1991 : (Jvm.Cond.instanceMethod ({ cls := "FireSaleModel", name := "worth", desc := "(II)I" } : Jvm.MethodName)) ∈ lw_all := lw_g (lw_at lw_m8 214 rfl) rfl
theorem q1992 : (Jvm.Cond.selects "FireSaleModel" ({ cls := "FireSaleModel", name := "worth", desc := "(II)I" } : Jvm.MethodName) ({ cls := "FireSaleModel", name := "worth", desc := "(II)I" } : Jvm.MethodName)) ∈ lw_all := lw_g (lw_at lw_m8 215 rfl) rfl
theorem q1993 : (Jvm.Cond.code ({ cls := "FireSaleModel", name := "worth", desc := "(II)I" } : Jvm.MethodName) prog_11_method_73_code (3 : Nat) (Option.some Jvm.ClassFile.FieldType.int)) ∈ lw_all := lw_g (lw_at lw_m8 216 rfl) rfl
theorem q1994 : (Jvm.Cond.constant "FireSaleModel" (273 : Nat) (-1000000 : Int32)) ∈ lw_all := lw_g (lw_at lw_m8 217 rfl) rfl
theorem q1996 : (Jvm.Cond.instanceMethod ({ cls := "FireSaleModel", name := "mustSell", desc := "(III)I" } : Jvm.MethodName)) ∈ lw_all := lw_g (lw_at lw_m8 219 rfl) rfl
theorem q1997 : (Jvm.Cond.selects "FireSaleModel" ({ cls := "FireSaleModel", name := "mustSell", desc := "(III)I" } : Jvm.MethodName) ({ cls := "FireSaleModel", name := "mustSell", desc := "(III)I" } : Jvm.MethodName)) ∈ lw_all := lw_g (lw_at lw_m8 220 rfl) rfl
theorem q1998 : (Jvm.Cond.code ({ cls := "FireSaleModel", name := "mustSell", desc := "(III)I" } : Jvm.MethodName) prog_11_method_74_code (5 : Nat) (Option.some Jvm.ClassFile.FieldType.int)) ∈ lw_all := lw_g (lw_at lw_m8 221 rfl) rfl
theorem q2000 : (Jvm.Cond.instanceMethod ({ cls := "FireSaleModel", name := "round", desc := "(II)I" } : Jvm.MethodName)) ∈ lw_all := lw_g (lw_at lw_m8 223 rfl) rfl
theorem q2001 : (Jvm.Cond.selects "FireSaleModel" ({ cls := "FireSaleModel", name := "round", desc := "(II)I" } : Jvm.MethodName) ({ cls := "FireSaleModel", name := "round", desc := "(II)I" } : Jvm.MethodName)) ∈ lw_all := lw_g (lw_at lw_m8 224 rfl) rfl
theorem q2002 : (Jvm.Cond.code ({ cls := "FireSaleModel", name := "round", desc := "(II)I" } : Jvm.MethodName) prog_11_method_76_code (3 : Nat) (Option.some Jvm.ClassFile.FieldType.int)) ∈ lw_all := lw_g (lw_at lw_m8 225 rfl) rfl
theorem q2003 : (Jvm.Cond.methodLink "FireSaleModel" (274 : Nat) ({ cls := "FireSaleModel", name := "goesTo", desc := "(I)V" } : Jvm.MethodName)) ∈ lw_all := lw_g (lw_at lw_m8 226 rfl) rfl
theorem q2004 : (Jvm.Cond.privateMethod ({ cls := "FireSaleModel", name := "goesTo", desc := "(I)V" } : Jvm.MethodName)) ∈ lw_tbl := lw_at lw_m8 227 rfl
theorem q2005 : (Jvm.Cond.instanceMethod ({ cls := "FireSaleModel", name := "goesTo", desc := "(I)V" } : Jvm.MethodName)) ∈ lw_all := lw_g (lw_at lw_m8 228 rfl) rfl
theorem q2006 : (Jvm.Cond.code ({ cls := "FireSaleModel", name := "goesTo", desc := "(I)V" } : Jvm.MethodName) prog_11_method_75_code (4 : Nat) (Option.none : Option Jvm.ClassFile.FieldType)) ∈ lw_all := lw_g (lw_at lw_m8 229 rfl) rfl
theorem q2008 : (Jvm.Cond.instanceMethod ({ cls := "FireSaleModel", name := "worthIn", desc := "(II)I" } : Jvm.MethodName)) ∈ lw_all := lw_g (lw_at lw_m8 231 rfl) rfl
theorem q2009 : (Jvm.Cond.selects "FireSaleModel" ({ cls := "FireSaleModel", name := "worthIn", desc := "(II)I" } : Jvm.MethodName) ({ cls := "FireSaleModel", name := "worthIn", desc := "(II)I" } : Jvm.MethodName)) ∈ lw_all := lw_g (lw_at lw_m8 232 rfl) rfl
theorem q2010 : (Jvm.Cond.code ({ cls := "FireSaleModel", name := "worthIn", desc := "(II)I" } : Jvm.MethodName) prog_11_method_77_code (3 : Nat) (Option.some Jvm.ClassFile.FieldType.int)) ∈ lw_all := lw_g (lw_at lw_m8 233 rfl) rfl
theorem q2012 : (Jvm.Cond.instanceMethod ({ cls := "FireSaleModel", name := "sharpest", desc := "()I" } : Jvm.MethodName)) ∈ lw_all := lw_g (lw_at lw_m8 235 rfl) rfl
theorem q2013 : (Jvm.Cond.selects "FireSaleModel" ({ cls := "FireSaleModel", name := "sharpest", desc := "()I" } : Jvm.MethodName) ({ cls := "FireSaleModel", name := "sharpest", desc := "()I" } : Jvm.MethodName)) ∈ lw_all := lw_g (lw_at lw_m8 236 rfl) rfl
theorem q2014 : (Jvm.Cond.code ({ cls := "FireSaleModel", name := "sharpest", desc := "()I" } : Jvm.MethodName) prog_11_method_78_code (6 : Nat) (Option.some Jvm.ClassFile.FieldType.int)) ∈ lw_all := lw_g (lw_at lw_m8 237 rfl) rfl
theorem q2016 : (Jvm.Cond.instanceMethod ({ cls := "FireSaleModel", name := "ranked", desc := "(I)I" } : Jvm.MethodName)) ∈ lw_all := lw_g (lw_at lw_m8 239 rfl) rfl
theorem q2017 : (Jvm.Cond.selects "FireSaleModel" ({ cls := "FireSaleModel", name := "ranked", desc := "(I)I" } : Jvm.MethodName) ({ cls := "FireSaleModel", name := "ranked", desc := "(I)I" } : Jvm.MethodName)) ∈ lw_all := lw_g (lw_at lw_m9 0 rfl) rfl
theorem q2018 : (Jvm.Cond.code ({ cls := "FireSaleModel", name := "ranked", desc := "(I)I" } : Jvm.MethodName) prog_11_method_80_code (7 : Nat) (Option.some Jvm.ClassFile.FieldType.int)) ∈ lw_all := lw_g (lw_at lw_m9 1 rfl) rfl
theorem q2019 : (Jvm.Cond.methodLink "FireSaleModel" (277 : Nat) ({ cls := "FireSaleModel", name := "layFell", desc := "()V" } : Jvm.MethodName)) ∈ lw_all := lw_g (lw_at lw_m9 2 rfl) rfl
theorem q2020 : (Jvm.Cond.privateMethod ({ cls := "FireSaleModel", name := "layFell", desc := "()V" } : Jvm.MethodName)) ∈ lw_tbl := lw_at lw_m9 3 rfl
theorem q2021 : (Jvm.Cond.instanceMethod ({ cls := "FireSaleModel", name := "layFell", desc := "()V" } : Jvm.MethodName)) ∈ lw_all := lw_g (lw_at lw_m9 4 rfl) rfl
theorem q2022 : (Jvm.Cond.code ({ cls := "FireSaleModel", name := "layFell", desc := "()V" } : Jvm.MethodName) prog_11_method_79_code (3 : Nat) (Option.none : Option Jvm.ClassFile.FieldType)) ∈ lw_all := lw_g (lw_at lw_m9 5 rfl) rfl
theorem q2024 : (Jvm.Cond.instanceMethod ({ cls := "FireSaleModel", name := "fellIn", desc := "(I)I" } : Jvm.MethodName)) ∈ lw_all := lw_g (lw_at lw_m9 7 rfl) rfl
theorem q2025 : (Jvm.Cond.selects "FireSaleModel" ({ cls := "FireSaleModel", name := "fellIn", desc := "(I)I" } : Jvm.MethodName) ({ cls := "FireSaleModel", name := "fellIn", desc := "(I)I" } : Jvm.MethodName)) ∈ lw_all := lw_g (lw_at lw_m9 8 rfl) rfl
theorem q2026 : (Jvm.Cond.code ({ cls := "FireSaleModel", name := "fellIn", desc := "(I)I" } : Jvm.MethodName) prog_11_method_81_code (2 : Nat) (Option.some Jvm.ClassFile.FieldType.int)) ∈ lw_all := lw_g (lw_at lw_m9 9 rfl) rfl
theorem q2028 : (Jvm.Cond.instanceMethod ({ cls := "FireSaleModel", name := "next", desc := "(IIII)I" } : Jvm.MethodName)) ∈ lw_all := lw_g (lw_at lw_m9 11 rfl) rfl
theorem q2029 : (Jvm.Cond.selects "FireSaleModel" ({ cls := "FireSaleModel", name := "next", desc := "(IIII)I" } : Jvm.MethodName) ({ cls := "FireSaleModel", name := "next", desc := "(IIII)I" } : Jvm.MethodName)) ∈ lw_all := lw_g (lw_at lw_m9 12 rfl) rfl
theorem q2030 : (Jvm.Cond.code ({ cls := "FireSaleModel", name := "next", desc := "(IIII)I" } : Jvm.MethodName) prog_11_method_83_code (6 : Nat) (Option.some Jvm.ClassFile.FieldType.int)) ∈ lw_all := lw_g (lw_at lw_m9 13 rfl) rfl
theorem q2031 : (Jvm.Cond.methodLink "FireSaleModel" (280 : Nat) ({ cls := "FireSaleModel", name := "isLaid", desc := "(III)Z" } : Jvm.MethodName)) ∈ lw_all := lw_g (lw_at lw_m9 14 rfl) rfl
theorem q2032 : (Jvm.Cond.privateMethod ({ cls := "FireSaleModel", name := "isLaid", desc := "(III)Z" } : Jvm.MethodName)) ∈ lw_tbl := lw_at lw_m9 15 rfl
theorem q2033 : (Jvm.Cond.instanceMethod ({ cls := "FireSaleModel", name := "isLaid", desc := "(III)Z" } : Jvm.MethodName)) ∈ lw_all := lw_g (lw_at lw_m9 16 rfl) rfl
theorem q2034 : (Jvm.Cond.code ({ cls := "FireSaleModel", name := "isLaid", desc := "(III)Z" } : Jvm.MethodName) prog_11_method_82_code (6 : Nat) (Option.some Jvm.ClassFile.FieldType.boolean)) ∈ lw_all := lw_g (lw_at lw_m9 17 rfl) rfl
theorem q2036 : (Jvm.Cond.instanceMethod ({ cls := "FireSaleModel", name := "isSteady", desc := "(III)I" } : Jvm.MethodName)) ∈ lw_all := lw_g (lw_at lw_m9 19 rfl) rfl
theorem q2037 : (Jvm.Cond.selects "FireSaleModel" ({ cls := "FireSaleModel", name := "isSteady", desc := "(III)I" } : Jvm.MethodName) ({ cls := "FireSaleModel", name := "isSteady", desc := "(III)I" } : Jvm.MethodName)) ∈ lw_all := lw_g (lw_at lw_m9 20 rfl) rfl
theorem q2038 : (Jvm.Cond.code ({ cls := "FireSaleModel", name := "isSteady", desc := "(III)I" } : Jvm.MethodName) prog_11_method_84_code (4 : Nat) (Option.some Jvm.ClassFile.FieldType.int)) ∈ lw_all := lw_g (lw_at lw_m9 21 rfl) rfl
theorem q2040 : (Jvm.Cond.instanceMethod ({ cls := "FireSaleModel", name := "index", desc := "(I)I" } : Jvm.MethodName)) ∈ lw_all := lw_g (lw_at lw_m9 23 rfl) rfl
theorem q2041 : (Jvm.Cond.selects "FireSaleModel" ({ cls := "FireSaleModel", name := "index", desc := "(I)I" } : Jvm.MethodName) ({ cls := "FireSaleModel", name := "index", desc := "(I)I" } : Jvm.MethodName)) ∈ lw_all := lw_g (lw_at lw_m9 24 rfl) rfl
theorem q2042 : (Jvm.Cond.code ({ cls := "FireSaleModel", name := "index", desc := "(I)I" } : Jvm.MethodName) prog_11_method_87_code (2 : Nat) (Option.some Jvm.ClassFile.FieldType.int)) ∈ lw_all := lw_g (lw_at lw_m9 25 rfl) rfl
theorem q2043 : (Jvm.Cond.methodLink "FireSaleModel" (287 : Nat) ({ cls := "FireSaleModel", name := "indexNow", desc := "()F" } : Jvm.MethodName)) ∈ lw_all := lw_g (lw_at lw_m9 26 rfl) rfl
theorem q2044 : (Jvm.Cond.privateMethod ({ cls := "FireSaleModel", name := "indexNow", desc := "()F" } : Jvm.MethodName)) ∈ lw_tbl := lw_at lw_m9 27 rfl
theorem q2045 : (Jvm.Cond.instanceMethod ({ cls := "FireSaleModel", name := "indexNow", desc := "()F" } : Jvm.MethodName)) ∈ lw_all := lw_g (lw_at lw_m9 28 rfl) rfl
theorem q2046 : (Jvm.Cond.code ({ cls := "FireSaleModel", name := "indexNow", desc := "()F" } : Jvm.MethodName) prog_11_method_86_code (4 : Nat) (Option.some Jvm.ClassFile.FieldType.float)) ∈ lw_all := lw_g (lw_at lw_m9 29 rfl) rfl
theorem q2047 : (Jvm.Cond.methodLink "FireSaleModel" (283 : Nat) ({ cls := "FireSaleModel", name := "ratioOf", desc := "(I)F" } : Jvm.MethodName)) ∈ lw_all := lw_g (lw_at lw_m9 30 rfl) rfl
theorem q2048 : (Jvm.Cond.privateMethod ({ cls := "FireSaleModel", name := "ratioOf", desc := "(I)F" } : Jvm.MethodName)) ∈ lw_tbl := lw_at lw_m9 31 rfl
theorem q2049 : (Jvm.Cond.instanceMethod ({ cls := "FireSaleModel", name := "ratioOf", desc := "(I)F" } : Jvm.MethodName)) ∈ lw_all := lw_g (lw_at lw_m9 32 rfl) rfl
theorem q2050 : (Jvm.Cond.code ({ cls := "FireSaleModel", name := "ratioOf", desc := "(I)F" } : Jvm.MethodName) prog_11_method_85_code (3 : Nat) (Option.some Jvm.ClassFile.FieldType.float)) ∈ lw_all := lw_g (lw_at lw_m9 33 rfl) rfl
theorem q2051 : (Jvm.Cond.methodLink "FireSaleModel" (291 : Nat) ({ cls := "java/lang/Float", name := "floatToIntBits", desc := "(F)I" } : Jvm.MethodName)) ∈ lw_all := lw_g (lw_at lw_m9 34 rfl) rfl
theorem q2053 : (Jvm.Cond.instanceMethod ({ cls := "FireSaleModel", name := "drop", desc := "(I)I" } : Jvm.MethodName)) ∈ lw_all := lw_g (lw_at lw_m9 36 rfl) rfl
theorem q2054 : (Jvm.Cond.selects "FireSaleModel" ({ cls := "FireSaleModel", name := "drop", desc := "(I)I" } : Jvm.MethodName) ({ cls := "FireSaleModel", name := "drop", desc := "(I)I" } : Jvm.MethodName)) ∈ lw_all := lw_g (lw_at lw_m9 37 rfl) rfl
theorem q2055 : (Jvm.Cond.code ({ cls := "FireSaleModel", name := "drop", desc := "(I)I" } : Jvm.MethodName) prog_11_method_88_code (2 : Nat) (Option.some Jvm.ClassFile.FieldType.int)) ∈ lw_all := lw_g (lw_at lw_m9 38 rfl) rfl
theorem q2056 : (Jvm.Cond.constantFloat "FireSaleModel" (297 : Nat) (1148846080 : UInt32)) ∈ lw_all := lw_g (lw_at lw_m9 39 rfl) rfl
theorem q2058 : (Jvm.Cond.instanceMethod ({ cls := "FireSaleModel", name := "ratio", desc := "(II)I" } : Jvm.MethodName)) ∈ lw_all := lw_g (lw_at lw_m9 41 rfl) rfl
theorem q2059 : (Jvm.Cond.selects "FireSaleModel" ({ cls := "FireSaleModel", name := "ratio", desc := "(II)I" } : Jvm.MethodName) ({ cls := "FireSaleModel", name := "ratio", desc := "(II)I" } : Jvm.MethodName)) ∈ lw_all := lw_g (lw_at lw_m9 42 rfl) rfl
theorem q2060 : (Jvm.Cond.code ({ cls := "FireSaleModel", name := "ratio", desc := "(II)I" } : Jvm.MethodName) prog_11_method_89_code (3 : Nat) (Option.some Jvm.ClassFile.FieldType.int)) ∈ lw_all := lw_g (lw_at lw_m9 43 rfl) rfl
theorem q2062 : (Jvm.Cond.instanceMethod ({ cls := "FireSaleModel", name := "mood", desc := "()J" } : Jvm.MethodName)) ∈ lw_all := lw_g (lw_at lw_m9 45 rfl) rfl
theorem q2063 : (Jvm.Cond.selects "FireSaleModel" ({ cls := "FireSaleModel", name := "mood", desc := "()J" } : Jvm.MethodName) ({ cls := "FireSaleModel", name := "mood", desc := "()J" } : Jvm.MethodName)) ∈ lw_all := lw_g (lw_at lw_m9 46 rfl) rfl
theorem q2064 : (Jvm.Cond.code ({ cls := "FireSaleModel", name := "mood", desc := "()J" } : Jvm.MethodName) prog_11_method_91_code (1 : Nat) (Option.some Jvm.ClassFile.FieldType.long)) ∈ lw_all := lw_g (lw_at lw_m9 47 rfl) rfl
theorem q2065 : (Jvm.Cond.methodLink "FireSaleModel" (300 : Nat) ({ cls := "FireSaleModel", name := "moodNow", desc := "()D" } : Jvm.MethodName)) ∈ lw_all := lw_g (lw_at lw_m9 48 rfl) rfl
theorem q2066 : (Jvm.Cond.privateMethod ({ cls := "FireSaleModel", name := "moodNow", desc := "()D" } : Jvm.MethodName)) ∈ lw_tbl := lw_at lw_m9 49 rfl
theorem q2067 : (Jvm.Cond.instanceMethod ({ cls := "FireSaleModel", name := "moodNow", desc := "()D" } : Jvm.MethodName)) ∈ lw_all := lw_g (lw_at lw_m9 50 rfl) rfl
theorem q2068 : (Jvm.Cond.code ({ cls := "FireSaleModel", name := "moodNow", desc := "()D" } : Jvm.MethodName) prog_11_method_90_code (3 : Nat) (Option.some Jvm.ClassFile.FieldType.double)) ∈ lw_all := lw_g (lw_at lw_m9 51 rfl) rfl
theorem q2069 : (Jvm.Cond.constantDouble "FireSaleModel" (298 : Nat) (4611686018427387904 : UInt64)) ∈ lw_all := lw_g (lw_at lw_m9 52 rfl) rfl
theorem q2070 : (Jvm.Cond.methodLink "FireSaleModel" (304 : Nat) ({ cls := "java/lang/Double", name := "doubleToLongBits", desc := "(D)J" } : Jvm.MethodName)) ∈ lw_all := lw_g (lw_at lw_m9 53 rfl) rfl
theorem q2072 : (Jvm.Cond.instanceMethod ({ cls := "FireSaleModel", name := "hundredths", desc := "()I" } : Jvm.MethodName)) ∈ lw_all := lw_g (lw_at lw_m9 55 rfl) rfl
theorem q2073 : (Jvm.Cond.selects "FireSaleModel" ({ cls := "FireSaleModel", name := "hundredths", desc := "()I" } : Jvm.MethodName) ({ cls := "FireSaleModel", name := "hundredths", desc := "()I" } : Jvm.MethodName)) ∈ lw_all := lw_g (lw_at lw_m9 56 rfl) rfl
theorem q2074 : (Jvm.Cond.code ({ cls := "FireSaleModel", name := "hundredths", desc := "()I" } : Jvm.MethodName) prog_11_method_92_code (1 : Nat) (Option.some Jvm.ClassFile.FieldType.int)) ∈ lw_all := lw_g (lw_at lw_m9 57 rfl) rfl
theorem q2075 : (Jvm.Cond.constantDouble "FireSaleModel" (310 : Nat) (4636737291354636288 : UInt64)) ∈ lw_all := lw_g (lw_at lw_m9 58 rfl) rfl
theorem q2077 : (Jvm.Cond.instanceMethod ({ cls := "FireSaleModel", name := "rescue", desc := "(III)I" } : Jvm.MethodName)) ∈ lw_all := lw_g (lw_at lw_m9 60 rfl) rfl
theorem q2078 : (Jvm.Cond.selects "FireSaleModel" ({ cls := "FireSaleModel", name := "rescue", desc := "(III)I" } : Jvm.MethodName) ({ cls := "FireSaleModel", name := "rescue", desc := "(III)I" } : Jvm.MethodName)) ∈ lw_all := lw_g (lw_at lw_m9 61 rfl) rfl
theorem q2079 : (Jvm.Cond.code ({ cls := "FireSaleModel", name := "rescue", desc := "(III)I" } : Jvm.MethodName) prog_11_method_93_code (4 : Nat) (Option.some Jvm.ClassFile.FieldType.int)) ∈ lw_all := lw_g (lw_at lw_m9 62 rfl) rfl
theorem q2081 : (Jvm.Cond.instanceMethod ({ cls := "FireSaleModel", name := "helper", desc := "(II)I" } : Jvm.MethodName)) ∈ lw_all := lw_g (lw_at lw_m9 64 rfl) rfl
theorem q2082 : (Jvm.Cond.selects "FireSaleModel" ({ cls := "FireSaleModel", name := "helper", desc := "(II)I" } : Jvm.MethodName) ({ cls := "FireSaleModel", name := "helper", desc := "(II)I" } : Jvm.MethodName)) ∈ lw_all := lw_g (lw_at lw_m9 65 rfl) rfl
theorem q2083 : (Jvm.Cond.code ({ cls := "FireSaleModel", name := "helper", desc := "(II)I" } : Jvm.MethodName) prog_11_method_96_code (4 : Nat) (Option.some Jvm.ClassFile.FieldType.int)) ∈ lw_all := lw_g (lw_at lw_m9 66 rfl) rfl
theorem q2084 : (Jvm.Cond.methodLink "FireSaleModel" (318 : Nat) ({ cls := "FireSaleModel", name := "helped", desc := "(I)I" } : Jvm.MethodName)) ∈ lw_all := lw_g (lw_at lw_m9 67 rfl) rfl
theorem q2085 : (Jvm.Cond.privateMethod ({ cls := "FireSaleModel", name := "helped", desc := "(I)I" } : Jvm.MethodName)) ∈ lw_tbl := lw_at lw_m9 68 rfl
theorem q2086 : (Jvm.Cond.instanceMethod ({ cls := "FireSaleModel", name := "helped", desc := "(I)I" } : Jvm.MethodName)) ∈ lw_all := lw_g (lw_at lw_m9 69 rfl) rfl
theorem q2087 : (Jvm.Cond.code ({ cls := "FireSaleModel", name := "helped", desc := "(I)I" } : Jvm.MethodName) prog_11_method_95_code (5 : Nat) (Option.some Jvm.ClassFile.FieldType.int)) ∈ lw_all := lw_g (lw_at lw_m9 70 rfl) rfl
theorem q2088 : (Jvm.Cond.methodLink "FireSaleModel" (312 : Nat) ({ cls := "FireSaleModel", name := "lostNow", desc := "()I" } : Jvm.MethodName)) ∈ lw_all := lw_g (lw_at lw_m9 71 rfl) rfl
theorem q2089 : (Jvm.Cond.privateMethod ({ cls := "FireSaleModel", name := "lostNow", desc := "()I" } : Jvm.MethodName)) ∈ lw_tbl := lw_at lw_m9 72 rfl
theorem q2090 : (Jvm.Cond.instanceMethod ({ cls := "FireSaleModel", name := "lostNow", desc := "()I" } : Jvm.MethodName)) ∈ lw_all := lw_g (lw_at lw_m9 73 rfl) rfl
theorem q2091 : (Jvm.Cond.code ({ cls := "FireSaleModel", name := "lostNow", desc := "()I" } : Jvm.MethodName) prog_11_method_94_code (1 : Nat) (Option.some Jvm.ClassFile.FieldType.int)) ∈ lw_all := lw_g (lw_at lw_m9 74 rfl) rfl
theorem q2093 : (Jvm.Cond.instanceMethod ({ cls := "FireSaleModel", name := "coinsFor", desc := "(I)I" } : Jvm.MethodName)) ∈ lw_all := lw_g (lw_at lw_m9 76 rfl) rfl
theorem q2094 : (Jvm.Cond.selects "FireSaleModel" ({ cls := "FireSaleModel", name := "coinsFor", desc := "(I)I" } : Jvm.MethodName) ({ cls := "FireSaleModel", name := "coinsFor", desc := "(I)I" } : Jvm.MethodName)) ∈ lw_all := lw_g (lw_at lw_m9 77 rfl) rfl
theorem q2095 : (Jvm.Cond.code ({ cls := "FireSaleModel", name := "coinsFor", desc := "(I)I" } : Jvm.MethodName) prog_11_method_98_code (5 : Nat) (Option.some Jvm.ClassFile.FieldType.int)) ∈ lw_all := lw_g (lw_at lw_m9 78 rfl) rfl
theorem q2096 : (Jvm.Cond.methodLink "FireSaleModel" (321 : Nat) ({ cls := "FireSaleModel", name := "noneFalls", desc := "()Z" } : Jvm.MethodName)) ∈ lw_all := lw_g (lw_at lw_m9 79 rfl) rfl
theorem q2097 : (Jvm.Cond.privateMethod ({ cls := "FireSaleModel", name := "noneFalls", desc := "()Z" } : Jvm.MethodName)) ∈ lw_tbl := lw_at lw_m9 80 rfl
theorem q2098 : (Jvm.Cond.instanceMethod ({ cls := "FireSaleModel", name := "noneFalls", desc := "()Z" } : Jvm.MethodName)) ∈ lw_all := lw_g (lw_at lw_m9 81 rfl) rfl
theorem q2099 : (Jvm.Cond.code ({ cls := "FireSaleModel", name := "noneFalls", desc := "()Z" } : Jvm.MethodName) prog_11_method_97_code (1 : Nat) (Option.some Jvm.ClassFile.FieldType.boolean)) ∈ lw_all := lw_g (lw_at lw_m9 82 rfl) rfl
theorem q2101 : (Jvm.Cond.instanceMethod ({ cls := "FireSaleModel", name := "aid", desc := "(III)I" } : Jvm.MethodName)) ∈ lw_all := lw_g (lw_at lw_m9 84 rfl) rfl
theorem q2102 : (Jvm.Cond.selects "FireSaleModel" ({ cls := "FireSaleModel", name := "aid", desc := "(III)I" } : Jvm.MethodName) ({ cls := "FireSaleModel", name := "aid", desc := "(III)I" } : Jvm.MethodName)) ∈ lw_all := lw_g (lw_at lw_m9 85 rfl) rfl
theorem q2103 : (Jvm.Cond.code ({ cls := "FireSaleModel", name := "aid", desc := "(III)I" } : Jvm.MethodName) prog_11_method_99_code (6 : Nat) (Option.some Jvm.ClassFile.FieldType.int)) ∈ lw_all := lw_g (lw_at lw_m9 86 rfl) rfl
theorem q2105 : (Jvm.Cond.instanceMethod ({ cls := "FireSaleModel", name := "bestAid", desc := "(III)I" } : Jvm.MethodName)) ∈ lw_all := lw_g (lw_at lw_m9 88 rfl) rfl
theorem q2106 : (Jvm.Cond.selects "FireSaleModel" ({ cls := "FireSaleModel", name := "bestAid", desc := "(III)I" } : Jvm.MethodName) ({ cls := "FireSaleModel", name := "bestAid", desc := "(III)I" } : Jvm.MethodName)) ∈ lw_all := lw_g (lw_at lw_m9 89 rfl) rfl
theorem q2107 : (Jvm.Cond.code ({ cls := "FireSaleModel", name := "bestAid", desc := "(III)I" } : Jvm.MethodName) prog_11_method_102_code (5 : Nat) (Option.some Jvm.ClassFile.FieldType.int)) ∈ lw_all := lw_g (lw_at lw_m9 90 rfl) rfl
theorem q2108 : (Jvm.Cond.methodLink "FireSaleModel" (327 : Nat) ({ cls := "FireSaleModel", name := "ways", desc := "(II)V" } : Jvm.MethodName)) ∈ lw_all := lw_g (lw_at lw_m9 91 rfl) rfl
theorem q2109 : (Jvm.Cond.privateMethod ({ cls := "FireSaleModel", name := "ways", desc := "(II)V" } : Jvm.MethodName)) ∈ lw_tbl := lw_at lw_m9 92 rfl
theorem q2110 : (Jvm.Cond.instanceMethod ({ cls := "FireSaleModel", name := "ways", desc := "(II)V" } : Jvm.MethodName)) ∈ lw_all := lw_g (lw_at lw_m9 93 rfl) rfl
theorem q2111 : (Jvm.Cond.code ({ cls := "FireSaleModel", name := "ways", desc := "(II)V" } : Jvm.MethodName) prog_11_method_101_code (7 : Nat) (Option.none : Option Jvm.ClassFile.FieldType)) ∈ lw_all := lw_g (lw_at lw_m9 94 rfl) rfl
theorem q2112 : (Jvm.Cond.methodLink "FireSaleModel" (324 : Nat) ({ cls := "FireSaleModel", name := "isRow", desc := "(III)Z" } : Jvm.MethodName)) ∈ lw_all := lw_g (lw_at lw_m9 95 rfl) rfl
theorem q2113 : (Jvm.Cond.privateMethod ({ cls := "FireSaleModel", name := "isRow", desc := "(III)Z" } : Jvm.MethodName)) ∈ lw_tbl := lw_at lw_m9 96 rfl
theorem q2114 : (Jvm.Cond.instanceMethod ({ cls := "FireSaleModel", name := "isRow", desc := "(III)Z" } : Jvm.MethodName)) ∈ lw_all := lw_g (lw_at lw_m9 97 rfl) rfl
theorem q2115 : (Jvm.Cond.code ({ cls := "FireSaleModel", name := "isRow", desc := "(III)Z" } : Jvm.MethodName) prog_11_method_100_code (7 : Nat) (Option.some Jvm.ClassFile.FieldType.boolean)) ∈ lw_all := lw_g (lw_at lw_m9 98 rfl) rfl
theorem q2117 : (Jvm.Cond.instanceMethod ({ cls := "FireSaleModel", name := "buyer", desc := "(III)I" } : Jvm.MethodName)) ∈ lw_all := lw_g (lw_at lw_m9 100 rfl) rfl
theorem q2118 : (Jvm.Cond.selects "FireSaleModel" ({ cls := "FireSaleModel", name := "buyer", desc := "(III)I" } : Jvm.MethodName) ({ cls := "FireSaleModel", name := "buyer", desc := "(III)I" } : Jvm.MethodName)) ∈ lw_all := lw_g (lw_at lw_m9 101 rfl) rfl
theorem q2119 : (Jvm.Cond.code ({ cls := "FireSaleModel", name := "buyer", desc := "(III)I" } : Jvm.MethodName) prog_11_method_103_code (4 : Nat) (Option.some Jvm.ClassFile.FieldType.int)) ∈ lw_all := lw_g (lw_at lw_m9 102 rfl) rfl
theorem q2121 : (Jvm.Cond.instanceMethod ({ cls := "FireSaleModel", name := "capFor", desc := "(I)I" } : Jvm.MethodName)) ∈ lw_all := lw_g (lw_at lw_m9 104 rfl) rfl
theorem q2122 : (Jvm.Cond.selects "FireSaleModel" ({ cls := "FireSaleModel", name := "capFor", desc := "(I)I" } : Jvm.MethodName) ({ cls := "FireSaleModel", name := "capFor", desc := "(I)I" } : Jvm.MethodName)) ∈ lw_all := lw_g (lw_at lw_m9 105 rfl) rfl
theorem q2123 : (Jvm.Cond.code ({ cls := "FireSaleModel", name := "capFor", desc := "(I)I" } : Jvm.MethodName) prog_11_method_106_code (2 : Nat) (Option.some Jvm.ClassFile.FieldType.int)) ∈ lw_all := lw_g (lw_at lw_m9 106 rfl) rfl
theorem q2124 : (Jvm.Cond.methodLink "FireSaleModel" (335 : Nat) ({ cls := "FireSaleModel", name := "greatestFor", desc := "(IZI)I" } : Jvm.MethodName)) ∈ lw_all := lw_g (lw_at lw_m9 107 rfl) rfl
theorem q2125 : (Jvm.Cond.privateMethod ({ cls := "FireSaleModel", name := "greatestFor", desc := "(IZI)I" } : Jvm.MethodName)) ∈ lw_tbl := lw_at lw_m9 108 rfl
theorem q2126 : (Jvm.Cond.instanceMethod ({ cls := "FireSaleModel", name := "greatestFor", desc := "(IZI)I" } : Jvm.MethodName)) ∈ lw_all := lw_g (lw_at lw_m9 109 rfl) rfl
theorem q2127 : (Jvm.Cond.code ({ cls := "FireSaleModel", name := "greatestFor", desc := "(IZI)I" } : Jvm.MethodName) prog_11_method_105_code (7 : Nat) (Option.some Jvm.ClassFile.FieldType.int)) ∈ lw_all := lw_g (lw_at lw_m9 110 rfl) rfl
theorem q2128 : (Jvm.Cond.methodLink "FireSaleModel" (331 : Nat) ({ cls := "FireSaleModel", name := "isSafe", desc := "(IZI)Z" } : Jvm.MethodName)) ∈ lw_all := lw_g (lw_at lw_m9 111 rfl) rfl
theorem q2129 : (Jvm.Cond.privateMethod ({ cls := "FireSaleModel", name := "isSafe", desc := "(IZI)Z" } : Jvm.MethodName)) ∈ lw_tbl := lw_at lw_m9 112 rfl
theorem q2130 : (Jvm.Cond.instanceMethod ({ cls := "FireSaleModel", name := "isSafe", desc := "(IZI)Z" } : Jvm.MethodName)) ∈ lw_all := lw_g (lw_at lw_m9 113 rfl) rfl
theorem q2131 : (Jvm.Cond.code ({ cls := "FireSaleModel", name := "isSafe", desc := "(IZI)Z" } : Jvm.MethodName) prog_11_method_104_code (4 : Nat) (Option.some Jvm.ClassFile.FieldType.boolean)) ∈ lw_all := lw_g (lw_at lw_m9 114 rfl) rfl
theorem q2133 : (Jvm.Cond.instanceMethod ({ cls := "FireSaleModel", name := "shockFor", desc := "(I)I" } : Jvm.MethodName)) ∈ lw_all := lw_g (lw_at lw_m9 116 rfl) rfl
theorem q2134 : (Jvm.Cond.selects "FireSaleModel" ({ cls := "FireSaleModel", name := "shockFor", desc := "(I)I" } : Jvm.MethodName) ({ cls := "FireSaleModel", name := "shockFor", desc := "(I)I" } : Jvm.MethodName)) ∈ lw_all := lw_g (lw_at lw_m9 117 rfl) rfl
theorem q2135 : (Jvm.Cond.code ({ cls := "FireSaleModel", name := "shockFor", desc := "(I)I" } : Jvm.MethodName) prog_11_method_107_code (2 : Nat) (Option.some Jvm.ClassFile.FieldType.int)) ∈ lw_all := lw_g (lw_at lw_m9 118 rfl) rfl
theorem q2137 : (Jvm.Cond.instanceMethod ({ cls := "FireSaleModel", name := "domino", desc := "(II)I" } : Jvm.MethodName)) ∈ lw_all := lw_g (lw_at lw_m9 120 rfl) rfl
theorem q2138 : (Jvm.Cond.selects "FireSaleModel" ({ cls := "FireSaleModel", name := "domino", desc := "(II)I" } : Jvm.MethodName) ({ cls := "FireSaleModel", name := "domino", desc := "(II)I" } : Jvm.MethodName)) ∈ lw_all := lw_g (lw_at lw_m9 121 rfl) rfl
theorem q2139 : (Jvm.Cond.code ({ cls := "FireSaleModel", name := "domino", desc := "(II)I" } : Jvm.MethodName) prog_11_method_109_code (3 : Nat) (Option.some Jvm.ClassFile.FieldType.int)) ∈ lw_all := lw_g (lw_at lw_m9 122 rfl) rfl
theorem q2140 : (Jvm.Cond.methodLink "FireSaleModel" (339 : Nat) ({ cls := "FireSaleModel", name := "leastWith", desc := "(I)V" } : Jvm.MethodName)) ∈ lw_all := lw_g (lw_at lw_m9 123 rfl) rfl
theorem q2141 : (Jvm.Cond.privateMethod ({ cls := "FireSaleModel", name := "leastWith", desc := "(I)V" } : Jvm.MethodName)) ∈ lw_tbl := lw_at lw_m9 124 rfl
theorem q2142 : (Jvm.Cond.instanceMethod ({ cls := "FireSaleModel", name := "leastWith", desc := "(I)V" } : Jvm.MethodName)) ∈ lw_all := lw_g (lw_at lw_m9 125 rfl) rfl
theorem q2143 : (Jvm.Cond.code ({ cls := "FireSaleModel", name := "leastWith", desc := "(I)V" } : Jvm.MethodName) prog_11_method_108_code (2 : Nat) (Option.none : Option Jvm.ClassFile.FieldType)) ∈ lw_all := lw_g (lw_at lw_m9 126 rfl) rfl
theorem q2145 : (Jvm.Cond.instanceMethod ({ cls := "FireSaleModel", name := "keystone", desc := "()I" } : Jvm.MethodName)) ∈ lw_all := lw_g (lw_at lw_m9 128 rfl) rfl
theorem q2146 : (Jvm.Cond.selects "FireSaleModel" ({ cls := "FireSaleModel", name := "keystone", desc := "()I" } : Jvm.MethodName) ({ cls := "FireSaleModel", name := "keystone", desc := "()I" } : Jvm.MethodName)) ∈ lw_all := lw_g (lw_at lw_m9 129 rfl) rfl
theorem q2147 : (Jvm.Cond.code ({ cls := "FireSaleModel", name := "keystone", desc := "()I" } : Jvm.MethodName) prog_11_method_110_code (4 : Nat) (Option.some Jvm.ClassFile.FieldType.int)) ∈ lw_all := lw_g (lw_at lw_m9 130 rfl) rfl
theorem q2149 : (Jvm.Cond.instanceMethod ({ cls := "FireSaleModel", name := "pulls", desc := "(I)I" } : Jvm.MethodName)) ∈ lw_all := lw_g (lw_at lw_m9 132 rfl) rfl
theorem q2150 : (Jvm.Cond.selects "FireSaleModel" ({ cls := "FireSaleModel", name := "pulls", desc := "(I)I" } : Jvm.MethodName) ({ cls := "FireSaleModel", name := "pulls", desc := "(I)I" } : Jvm.MethodName)) ∈ lw_all := lw_g (lw_at lw_m9 133 rfl) rfl
theorem q2151 : (Jvm.Cond.code ({ cls := "FireSaleModel", name := "pulls", desc := "(I)I" } : Jvm.MethodName) prog_11_method_111_code (3 : Nat) (Option.some Jvm.ClassFile.FieldType.int)) ∈ lw_all := lw_g (lw_at lw_m9 134 rfl) rfl
theorem q2153 : (Jvm.Cond.instanceMethod ({ cls := "FireSaleModel", name := "room", desc := "(I)I" } : Jvm.MethodName)) ∈ lw_all := lw_g (lw_at lw_m9 136 rfl) rfl
theorem q2154 : (Jvm.Cond.selects "FireSaleModel" ({ cls := "FireSaleModel", name := "room", desc := "(I)I" } : Jvm.MethodName) ({ cls := "FireSaleModel", name := "room", desc := "(I)I" } : Jvm.MethodName)) ∈ lw_all := lw_g (lw_at lw_m9 137 rfl) rfl
theorem q2155 : (Jvm.Cond.code ({ cls := "FireSaleModel", name := "room", desc := "(I)I" } : Jvm.MethodName) prog_11_method_112_code (5 : Nat) (Option.some Jvm.ClassFile.FieldType.int)) ∈ lw_all := lw_g (lw_at lw_m9 138 rfl) rfl
theorem q2157 : (Jvm.Cond.instanceMethod ({ cls := "FireSaleModel", name := "stress", desc := "(II)I" } : Jvm.MethodName)) ∈ lw_all := lw_g (lw_at lw_m9 140 rfl) rfl
theorem q2158 : (Jvm.Cond.selects "FireSaleModel" ({ cls := "FireSaleModel", name := "stress", desc := "(II)I" } : Jvm.MethodName) ({ cls := "FireSaleModel", name := "stress", desc := "(II)I" } : Jvm.MethodName)) ∈ lw_all := lw_g (lw_at lw_m9 141 rfl) rfl
theorem q2159 : (Jvm.Cond.code ({ cls := "FireSaleModel", name := "stress", desc := "(II)I" } : Jvm.MethodName) prog_11_method_113_code (3 : Nat) (Option.some Jvm.ClassFile.FieldType.int)) ∈ lw_all := lw_g (lw_at lw_m9 142 rfl) rfl
theorem q2161 : (Jvm.Cond.instanceMethod ({ cls := "FireSaleModel", name := "fewest", desc := "()I" } : Jvm.MethodName)) ∈ lw_all := lw_g (lw_at lw_m9 144 rfl) rfl
theorem q2162 : (Jvm.Cond.selects "FireSaleModel" ({ cls := "FireSaleModel", name := "fewest", desc := "()I" } : Jvm.MethodName) ({ cls := "FireSaleModel", name := "fewest", desc := "()I" } : Jvm.MethodName)) ∈ lw_all := lw_g (lw_at lw_m9 145 rfl) rfl
theorem q2163 : (Jvm.Cond.code ({ cls := "FireSaleModel", name := "fewest", desc := "()I" } : Jvm.MethodName) prog_11_method_114_code (3 : Nat) (Option.some Jvm.ClassFile.FieldType.int)) ∈ lw_all := lw_g (lw_at lw_m9 146 rfl) rfl
theorem q2165 : (Jvm.Cond.instanceMethod ({ cls := "FireSaleModel", name := "doubtful", desc := "()I" } : Jvm.MethodName)) ∈ lw_all := lw_g (lw_at lw_m9 148 rfl) rfl
theorem q2166 : (Jvm.Cond.selects "FireSaleModel" ({ cls := "FireSaleModel", name := "doubtful", desc := "()I" } : Jvm.MethodName) ({ cls := "FireSaleModel", name := "doubtful", desc := "()I" } : Jvm.MethodName)) ∈ lw_all := lw_g (lw_at lw_m9 149 rfl) rfl
theorem q2167 : (Jvm.Cond.code ({ cls := "FireSaleModel", name := "doubtful", desc := "()I" } : Jvm.MethodName) prog_11_method_115_code (2 : Nat) (Option.some Jvm.ClassFile.FieldType.int)) ∈ lw_all := lw_g (lw_at lw_m9 150 rfl) rfl
theorem q2169 : (Jvm.Cond.instanceMethod ({ cls := "FireSaleModel", name := "spell", desc := "(I)I" } : Jvm.MethodName)) ∈ lw_all := lw_g (lw_at lw_m9 152 rfl) rfl
theorem q2170 : (Jvm.Cond.selects "FireSaleModel" ({ cls := "FireSaleModel", name := "spell", desc := "(I)I" } : Jvm.MethodName) ({ cls := "FireSaleModel", name := "spell", desc := "(I)I" } : Jvm.MethodName)) ∈ lw_all := lw_g (lw_at lw_m9 153 rfl) rfl
theorem q2171 : (Jvm.Cond.code ({ cls := "FireSaleModel", name := "spell", desc := "(I)I" } : Jvm.MethodName) prog_11_method_120_code (4 : Nat) (Option.some Jvm.ClassFile.FieldType.int)) ∈ lw_all := lw_g (lw_at lw_m9 154 rfl) rfl
theorem q2172 : (Jvm.Cond.methodLink "FireSaleModel" (348 : Nat) ({ cls := "FireSaleModel", name := "spells", desc := "(J)V" } : Jvm.MethodName)) ∈ lw_all := lw_g (lw_at lw_m9 155 rfl) rfl
theorem q2173 : (Jvm.Cond.privateMethod ({ cls := "FireSaleModel", name := "spells", desc := "(J)V" } : Jvm.MethodName)) ∈ lw_tbl := lw_at lw_m9 156 rfl
theorem q2174 : (Jvm.Cond.instanceMethod ({ cls := "FireSaleModel", name := "spells", desc := "(J)V" } : Jvm.MethodName)) ∈ lw_all := lw_g (lw_at lw_m9 157 rfl) rfl
theorem q2175 : (Jvm.Cond.code ({ cls := "FireSaleModel", name := "spells", desc := "(J)V" } : Jvm.MethodName) prog_11_method_117_code (7 : Nat) (Option.none : Option Jvm.ClassFile.FieldType)) ∈ lw_all := lw_g (lw_at lw_m9 158 rfl) rfl
theorem q2176 : (Jvm.Cond.methodLink "FireSaleModel" (345 : Nat) ({ cls := "FireSaleModel", name := "spellsByte", desc := "(I)V" } : Jvm.MethodName)) ∈ lw_all := lw_g (lw_at lw_m9 159 rfl) rfl
theorem q2177 : (Jvm.Cond.privateMethod ({ cls := "FireSaleModel", name := "spellsByte", desc := "(I)V" } : Jvm.MethodName)) ∈ lw_tbl := lw_at lw_m9 160 rfl
theorem q2178 : (Jvm.Cond.instanceMethod ({ cls := "FireSaleModel", name := "spellsByte", desc := "(I)V" } : Jvm.MethodName)) ∈ lw_all := lw_g (lw_at lw_m9 161 rfl) rfl
theorem q2179 : (Jvm.Cond.code ({ cls := "FireSaleModel", name := "spellsByte", desc := "(I)V" } : Jvm.MethodName) prog_11_method_116_code (2 : Nat) (Option.none : Option Jvm.ClassFile.FieldType)) ∈ lw_all := lw_g (lw_at lw_m9 162 rfl) rfl
theorem q2180 : (Jvm.Cond.methodLink "FireSaleModel" (352 : Nat) ({ cls := "FireSaleModel", name := "spellsNumber", desc := "(I)V" } : Jvm.MethodName)) ∈ lw_all := lw_g (lw_at lw_m9 163 rfl) rfl
theorem q2181 : (Jvm.Cond.privateMethod ({ cls := "FireSaleModel", name := "spellsNumber", desc := "(I)V" } : Jvm.MethodName)) ∈ lw_tbl := lw_at lw_m9 164 rfl
theorem q2182 : (Jvm.Cond.instanceMethod ({ cls := "FireSaleModel", name := "spellsNumber", desc := "(I)V" } : Jvm.MethodName)) ∈ lw_all := lw_g (lw_at lw_m9 165 rfl) rfl
theorem q2183 : (Jvm.Cond.code ({ cls := "FireSaleModel", name := "spellsNumber", desc := "(I)V" } : Jvm.MethodName) prog_11_method_118_code (3 : Nat) (Option.none : Option Jvm.ClassFile.FieldType)) ∈ lw_all := lw_g (lw_at lw_m9 166 rfl) rfl
theorem q2184 : (Jvm.Cond.methodLink "FireSaleModel" (355 : Nat) ({ cls := "FireSaleModel", name := "spellsHouses", desc := "()V" } : Jvm.MethodName)) ∈ lw_all := lw_g (lw_at lw_m9 167 rfl) rfl
theorem q2185 : (Jvm.Cond.privateMethod ({ cls := "FireSaleModel", name := "spellsHouses", desc := "()V" } : Jvm.MethodName)) ∈ lw_tbl := lw_at lw_m9 168 rfl
theorem q2186 : (Jvm.Cond.instanceMethod ({ cls := "FireSaleModel", name := "spellsHouses", desc := "()V" } : Jvm.MethodName)) ∈ lw_all := lw_g (lw_at lw_m9 169 rfl) rfl
theorem q2187 : (Jvm.Cond.code ({ cls := "FireSaleModel", name := "spellsHouses", desc := "()V" } : Jvm.MethodName) prog_11_method_119_code (3 : Nat) (Option.none : Option Jvm.ClassFile.FieldType)) ∈ lw_all := lw_g (lw_at lw_m9 170 rfl) rfl
theorem q2189 : (Jvm.Cond.instanceMethod ({ cls := "FireSaleModel", name := "count", desc := "(I)I" } : Jvm.MethodName)) ∈ lw_all := lw_g (lw_at lw_m9 172 rfl) rfl
theorem q2190 : (Jvm.Cond.selects "FireSaleModel" ({ cls := "FireSaleModel", name := "count", desc := "(I)I" } : Jvm.MethodName) ({ cls := "FireSaleModel", name := "count", desc := "(I)I" } : Jvm.MethodName)) ∈ lw_all := lw_g (lw_at lw_m9 173 rfl) rfl
theorem q2191 : (Jvm.Cond.code ({ cls := "FireSaleModel", name := "count", desc := "(I)I" } : Jvm.MethodName) prog_11_method_121_code (2 : Nat) (Option.some Jvm.ClassFile.FieldType.int)) ∈ lw_all := lw_g (lw_at lw_m9 174 rfl) rfl
theorem q2192 : (Jvm.Cond.methodLink "FireSaleModel" (358 : Nat) ({ cls := "FireSaleModel", name := "loans", desc := "()I" } : Jvm.MethodName)) ∈ lw_all := lw_g (lw_at lw_m9 175 rfl) rfl
theorem q2193 : (Jvm.Cond.privateMethod ({ cls := "FireSaleModel", name := "loans", desc := "()I" } : Jvm.MethodName)) ∈ lw_tbl := lw_at lw_m9 176 rfl
theorem q2194 : (Jvm.Cond.instanceMethod ({ cls := "FireSaleModel", name := "loans", desc := "()I" } : Jvm.MethodName)) ∈ lw_all := lw_g (lw_at lw_m9 177 rfl) rfl
theorem q2195 : (Jvm.Cond.code ({ cls := "FireSaleModel", name := "loans", desc := "()I" } : Jvm.MethodName) prog_11_method_122_code (3 : Nat) (Option.some Jvm.ClassFile.FieldType.int)) ∈ lw_all := lw_g (lw_at lw_m9 178 rfl) rfl
theorem q2223 : (Jvm.Cond.castable "FireSaleModel" "java/lang/Object") ∈ lw_tbl := lw_at lw_m9 206 rfl
abbrev cX5_init : ByteArray := prog_3_method_1_code
def yX5_init : MethodName := ⟨RX5, "<init>", "(LFireSale;)V"⟩
abbrev cX5_whole : ByteArray := prog_3_method_13_code
def yX5_whole : MethodName := ⟨RX5, "whole", "()LFireSale$Town;"⟩
abbrev cX5_next : ByteArray := prog_3_method_3_code
def yX5_next : MethodName := ⟨RX5, "next", "()I"⟩
abbrev cX5_byteAt : ByteArray := prog_3_method_2_code
def yX5_byteAt : MethodName := ⟨RX5, "byteAt", "(I)I"⟩
abbrev cX5_takesWord : ByteArray := prog_3_method_5_code
def yX5_takesWord : MethodName := ⟨RX5, "takesWord", "(Ljava/lang/String;)Z"⟩
abbrev cX5_asset : ByteArray := prog_3_method_9_code
def yX5_asset : MethodName := ⟨RX5, "asset", "()V"⟩
abbrev cX5_need : ByteArray := prog_3_method_4_code
def yX5_need : MethodName := ⟨RX5, "need", "(Z)V"⟩
abbrev cX5_number : ByteArray := prog_3_method_7_code
def yX5_number : MethodName := ⟨RX5, "number", "(II)I"⟩
abbrev cX5_isNumber : ByteArray := prog_3_method_6_code
def yX5_isNumber : MethodName := ⟨RX5, "isNumber", "()Z"⟩
abbrev cX5_house : ByteArray := prog_3_method_10_code
def yX5_house : MethodName := ⟨RX5, "house", "()V"⟩
abbrev cX5_loan : ByteArray := prog_3_method_11_code
def yX5_loan : MethodName := ⟨RX5, "loan", "()V"⟩
abbrev cX5_rule : ByteArray := prog_3_method_12_code
def yX5_rule : MethodName := ⟨RX5, "rule", "(I)V"⟩
abbrev cX5_ends : ByteArray := prog_3_method_8_code
def yX5_ends : MethodName := ⟨RX5, "ends", "()V"⟩
theorem q105 : (Jvm.Cond.initialized "FireSale$Reader") ∈ lw_all := lw_g (lw_at lw_m1 8 rfl) rfl
theorem q161 : (Jvm.Cond.fieldLinkNest "FireSale$Reader" (119 : Nat) "FireSale$Shelf" "many" "I" "FireSale") ∈ lw_tbl := lw_at lw_m1 64 rfl
theorem q192 : (Jvm.Cond.fieldLinkNest "FireSale$Reader" (89 : Nat) "FireSale$Town" "assets" "I" "FireSale") ∈ lw_tbl := lw_at lw_m1 95 rfl
theorem q195 : (Jvm.Cond.fieldLinkNest "FireSale$Reader" (99 : Nat) "FireSale$Town" "houses" "I" "FireSale") ∈ lw_tbl := lw_at lw_m1 98 rfl
theorem q198 : (Jvm.Cond.fieldLinkNest "FireSale$Reader" (92 : Nat) "FireSale$Town" "curve" "[[I" "FireSale") ∈ lw_tbl := lw_at lw_m1 101 rfl
theorem q201 : (Jvm.Cond.fieldLinkNest "FireSale$Reader" (102 : Nat) "FireSale$Town" "of" "[[I" "FireSale") ∈ lw_tbl := lw_at lw_m1 104 rfl
theorem q204 : (Jvm.Cond.fieldLinkNest "FireSale$Reader" (109 : Nat) "FireSale$Town" "hold" "[[I" "FireSale") ∈ lw_tbl := lw_at lw_m1 107 rfl
theorem q207 : (Jvm.Cond.fieldLinkNest "FireSale$Reader" (112 : Nat) "FireSale$Town" "loan" "[[I" "FireSale") ∈ lw_tbl := lw_at lw_m1 110 rfl
theorem q209 : (Jvm.Cond.fieldLinkNest "FireSale$Reader" (115 : Nat) "FireSale$Town" "shelves" "[LFireSale$Shelf;" "FireSale") ∈ lw_tbl := lw_at lw_m1 112 rfl
theorem q279 : (Jvm.Cond.fieldLinkNest "FireSale$Reader" (30 : Nat) "FireSale" "tape" "[B" "FireSale") ∈ lw_tbl := lw_at lw_m1 182 rfl
theorem q281 : (Jvm.Cond.fieldLinkNest "FireSale$Reader" (26 : Nat) "FireSale" "taped" "I" "FireSale") ∈ lw_tbl := lw_at lw_m1 184 rfl
theorem q389 : (Jvm.Cond.selects "FireSale$Reader" ({ cls := "java/lang/Object", name := "getClass", desc := "()Ljava/lang/Class;" } : Jvm.MethodName) ({ cls := "java/lang/Object", name := "getClass", desc := "()Ljava/lang/Class;" } : Jvm.MethodName)) ∈ lw_all := lw_g (lw_at lw_m2 52 rfl) rfl
theorem q1472 : (Jvm.Cond.instantiable "FireSale$Reader" (5 : Nat)) ∈ lw_all := lw_g (lw_at lw_m6 175 rfl) rfl
theorem q1474 : (Jvm.Cond.instanceMethod ({ cls := "FireSale$Reader", name := "<init>", desc := "(LFireSale;)V" } : Jvm.MethodName)) ∈ lw_all := lw_g (lw_at lw_m6 177 rfl) rfl
theorem q1475 : (Jvm.Cond.code ({ cls := "FireSale$Reader", name := "<init>", desc := "(LFireSale;)V" } : Jvm.MethodName) prog_3_method_1_code (2 : Nat) (Option.none : Option Jvm.ClassFile.FieldType)) ∈ lw_all := lw_g (lw_at lw_m6 178 rfl) rfl
theorem q1476 : (Jvm.Cond.methodLink "FireSale$Reader" (9 : Nat) ({ cls := "java/lang/Object", name := "<init>", desc := "()V" } : Jvm.MethodName)) ∈ lw_all := lw_g (lw_at lw_m6 179 rfl) rfl
theorem q1477 : (Jvm.Cond.classLink "FireSale$Reader" (15 : Nat) "FireSale$Town") ∈ lw_all := lw_g (lw_at lw_m6 180 rfl) rfl
theorem q1478 : (Jvm.Cond.methodLinkNest "FireSale$Reader" (17 : Nat) ({ cls := "FireSale$Town", name := "<init>", desc := "()V" } : Jvm.MethodName) "FireSale") ∈ lw_tbl := lw_at lw_m6 181 rfl
theorem q1479 : (Jvm.Cond.fieldLink "FireSale$Reader" (18 : Nat) "FireSale$Reader" "made" "LFireSale$Town;") ∈ lw_all := lw_g (lw_at lw_m6 182 rfl) rfl
theorem q1480 : (Jvm.Cond.fieldLink "FireSale$Reader" (34 : Nat) "FireSale$Reader" "at" "I") ∈ lw_all := lw_g (lw_at lw_m6 183 rfl) rfl
theorem q1481 : (Jvm.Cond.fieldLink "FireSale$Reader" (41 : Nat) "FireSale$Reader" "begin" "I") ∈ lw_all := lw_g (lw_at lw_m6 184 rfl) rfl
theorem q1482 : (Jvm.Cond.fieldLink "FireSale$Reader" (22 : Nat) "FireSale$Reader" "isLoose" "Z") ∈ lw_all := lw_g (lw_at lw_m6 185 rfl) rfl
theorem q1483 : (Jvm.Cond.fieldLink "FireSale$Reader" (3 : Nat) "FireSale$Reader" "this$0" "LFireSale;") ∈ lw_all := lw_g (lw_at lw_m6 186 rfl) rfl
theorem q1484 : (Jvm.Cond.laysFinal "FireSale$Reader" "FireSale$Reader" "made" "LFireSale$Town;") ∈ lw_all := lw_g (lw_at lw_m6 187 rfl) rfl
theorem q1485 : (Jvm.Cond.soleField "FireSale$Reader" "made") ∈ lw_all := lw_g (lw_at lw_m6 188 rfl) rfl
theorem q1486 : (Jvm.Cond.lays "FireSale$Reader" "FireSale$Reader" "at" "I") ∈ lw_all := lw_g (lw_at lw_m6 189 rfl) rfl
theorem q1487 : (Jvm.Cond.soleField "FireSale$Reader" "at") ∈ lw_all := lw_g (lw_at lw_m6 190 rfl) rfl
theorem q1488 : (Jvm.Cond.lays "FireSale$Reader" "FireSale$Reader" "begin" "I") ∈ lw_all := lw_g (lw_at lw_m6 191 rfl) rfl
theorem q1489 : (Jvm.Cond.soleField "FireSale$Reader" "begin") ∈ lw_all := lw_g (lw_at lw_m6 192 rfl) rfl
theorem q1490 : (Jvm.Cond.lays "FireSale$Reader" "FireSale$Reader" "isLoose" "Z") ∈ lw_all := lw_g (lw_at lw_m6 193 rfl) rfl
theorem q1491 : (Jvm.Cond.soleField "FireSale$Reader" "isLoose") ∈ lw_all := lw_g (lw_at lw_m6 194 rfl) rfl
theorem q1492 : (Jvm.Cond.laysFinal "FireSale$Reader" "FireSale$Reader" "this$0" "LFireSale;") ∈ lw_all := lw_g (lw_at lw_m6 195 rfl) rfl
theorem q1493 : (Jvm.Cond.soleField "FireSale$Reader" "this$0") ∈ lw_all := lw_g (lw_at lw_m6 196 rfl) rfl
theorem q1494 : (Jvm.Cond.superclass "FireSale$Reader" "java/lang/Object") ∈ lw_all := lw_g (lw_at lw_m6 197 rfl) rfl
theorem q1496 : (Jvm.Cond.instanceMethod ({ cls := "FireSale$Reader", name := "whole", desc := "()LFireSale$Town;" } : Jvm.MethodName)) ∈ lw_all := lw_g (lw_at lw_m6 199 rfl) rfl
theorem q1497 : (Jvm.Cond.selects "FireSale$Reader" ({ cls := "FireSale$Reader", name := "whole", desc := "()LFireSale$Town;" } : Jvm.MethodName) ({ cls := "FireSale$Reader", name := "whole", desc := "()LFireSale$Town;" } : Jvm.MethodName)) ∈ lw_all := lw_g (lw_at lw_m6 200 rfl) rfl
theorem q1498 : (Jvm.Cond.code ({ cls := "FireSale$Reader", name := "whole", desc := "()LFireSale$Town;" } : Jvm.MethodName) prog_3_method_13_code (1 : Nat) (Option.some (Jvm.ClassFile.FieldType.object "FireSale$Town"))) ∈ lw_all := lw_g (lw_at lw_m6 201 rfl) rfl
theorem q1499 : (Jvm.Cond.methodLink "FireSale$Reader" (49 : Nat) ({ cls := "FireSale$Reader", name := "next", desc := "()I" } : Jvm.MethodName)) ∈ lw_all := lw_g (lw_at lw_m6 202 rfl) rfl
theorem q1500 : (Jvm.Cond.privateMethod ({ cls := "FireSale$Reader", name := "next", desc := "()I" } : Jvm.MethodName)) ∈ lw_tbl := lw_at lw_m6 203 rfl
theorem q1501 : (Jvm.Cond.instanceMethod ({ cls := "FireSale$Reader", name := "next", desc := "()I" } : Jvm.MethodName)) ∈ lw_all := lw_g (lw_at lw_m6 204 rfl) rfl
theorem q1502 : (Jvm.Cond.code ({ cls := "FireSale$Reader", name := "next", desc := "()I" } : Jvm.MethodName) prog_3_method_3_code (1 : Nat) (Option.some Jvm.ClassFile.FieldType.int)) ∈ lw_all := lw_g (lw_at lw_m6 205 rfl) rfl
theorem q1503 : (Jvm.Cond.methodLink "FireSale$Reader" (37 : Nat) ({ cls := "FireSale$Reader", name := "byteAt", desc := "(I)I" } : Jvm.MethodName)) ∈ lw_all := lw_g (lw_at lw_m6 206 rfl) rfl
theorem q1504 : (Jvm.Cond.privateMethod ({ cls := "FireSale$Reader", name := "byteAt", desc := "(I)I" } : Jvm.MethodName)) ∈ lw_tbl := lw_at lw_m6 207 rfl
theorem q1505 : (Jvm.Cond.instanceMethod ({ cls := "FireSale$Reader", name := "byteAt", desc := "(I)I" } : Jvm.MethodName)) ∈ lw_all := lw_g (lw_at lw_m6 208 rfl) rfl
theorem q1506 : (Jvm.Cond.code ({ cls := "FireSale$Reader", name := "byteAt", desc := "(I)I" } : Jvm.MethodName) prog_3_method_2_code (2 : Nat) (Option.some Jvm.ClassFile.FieldType.int)) ∈ lw_all := lw_g (lw_at lw_m6 209 rfl) rfl
theorem q1507 : (Jvm.Cond.stringRef "FireSale$Reader" (136 : Nat) "asset") ∈ lw_tbl := lw_at lw_m6 210 rfl
theorem q1508 : (Jvm.Cond.methodLink "FireSale$Reader" (138 : Nat) ({ cls := "FireSale$Reader", name := "takesWord", desc := "(Ljava/lang/String;)Z" } : Jvm.MethodName)) ∈ lw_all := lw_g (lw_at lw_m6 211 rfl) rfl
theorem q1509 : (Jvm.Cond.privateMethod ({ cls := "FireSale$Reader", name := "takesWord", desc := "(Ljava/lang/String;)Z" } : Jvm.MethodName)) ∈ lw_tbl := lw_at lw_m6 212 rfl
theorem q1510 : (Jvm.Cond.instanceMethod ({ cls := "FireSale$Reader", name := "takesWord", desc := "(Ljava/lang/String;)Z" } : Jvm.MethodName)) ∈ lw_all := lw_g (lw_at lw_m6 213 rfl) rfl
theorem q1511 : (Jvm.Cond.code ({ cls := "FireSale$Reader", name := "takesWord", desc := "(Ljava/lang/String;)Z" } : Jvm.MethodName) prog_3_method_5_code (3 : Nat) (Option.some Jvm.ClassFile.FieldType.boolean)) ∈ lw_all := lw_g (lw_at lw_m6 214 rfl) rfl
theorem q1512 : (Jvm.Cond.methodLink "FireSale$Reader" (53 : Nat) ({ cls := "java/lang/String", name := "length", desc := "()I" } : Jvm.MethodName)) ∈ lw_all := lw_g (lw_at lw_m6 215 rfl) rfl
theorem q1513 : (Jvm.Cond.methodLink "FireSale$Reader" (58 : Nat) ({ cls := "java/lang/String", name := "charAt", desc := "(I)C" } : Jvm.MethodName)) ∈ lw_all := lw_g (lw_at lw_m6 216 rfl) rfl
theorem q1514 : (Jvm.Cond.constantLong "FireSale$Reader" (62 : Nat) (97 : Int64)) ∈ lw_all := lw_g (lw_at lw_m6 217 rfl) rfl
theorem q1515 : (Jvm.Cond.constantLong "FireSale$Reader" (64 : Nat) (122 : Int64)) ∈ lw_all := lw_g (lw_at lw_m6 218 rfl) rfl
theorem q1516 : (Jvm.Cond.methodLinkNest "FireSale$Reader" (66 : Nat) ({ cls := "FireSale", name := "in", desc := "(JJJ)Z" } : Jvm.MethodName) "FireSale") ∈ lw_tbl := lw_at lw_m6 219 rfl
theorem q1517 : (Jvm.Cond.methodLink "FireSale$Reader" (142 : Nat) ({ cls := "FireSale$Reader", name := "asset", desc := "()V" } : Jvm.MethodName)) ∈ lw_all := lw_g (lw_at lw_m6 220 rfl) rfl
theorem q1518 : (Jvm.Cond.privateMethod ({ cls := "FireSale$Reader", name := "asset", desc := "()V" } : Jvm.MethodName)) ∈ lw_tbl := lw_at lw_m6 221 rfl
theorem q1519 : (Jvm.Cond.instanceMethod ({ cls := "FireSale$Reader", name := "asset", desc := "()V" } : Jvm.MethodName)) ∈ lw_all := lw_g (lw_at lw_m6 222 rfl) rfl
theorem q1520 : (Jvm.Cond.code ({ cls := "FireSale$Reader", name := "asset", desc := "()V" } : Jvm.MethodName) prog_3_method_9_code (1 : Nat) (Option.none : Option Jvm.ClassFile.FieldType)) ∈ lw_all := lw_g (lw_at lw_m6 223 rfl) rfl
theorem q1521 : (Jvm.Cond.methodLink "FireSale$Reader" (78 : Nat) ({ cls := "FireSale$Reader", name := "need", desc := "(Z)V" } : Jvm.MethodName)) ∈ lw_all := lw_g (lw_at lw_m6 224 rfl) rfl
theorem q1522 : (Jvm.Cond.privateMethod ({ cls := "FireSale$Reader", name := "need", desc := "(Z)V" } : Jvm.MethodName)) ∈ lw_tbl := lw_at lw_m6 225 rfl
theorem q1523 : (Jvm.Cond.instanceMethod ({ cls := "FireSale$Reader", name := "need", desc := "(Z)V" } : Jvm.MethodName)) ∈ lw_all := lw_g (lw_at lw_m6 226 rfl) rfl
theorem q1524 : (Jvm.Cond.code ({ cls := "FireSale$Reader", name := "need", desc := "(Z)V" } : Jvm.MethodName) prog_3_method_4_code (2 : Nat) (Option.none : Option Jvm.ClassFile.FieldType)) ∈ lw_all := lw_g (lw_at lw_m6 227 rfl) rfl
theorem q1525 : (Jvm.Cond.classLink "FireSale$Reader" (44 : Nat) "FireSale$Wrong") ∈ lw_all := lw_g (lw_at lw_m6 228 rfl) rfl
theorem q1534 : (Jvm.Cond.methodLink "FireSale$Reader" (46 : Nat) ({ cls := "FireSale$Wrong", name := "<init>", desc := "(I)V" } : Jvm.MethodName)) ∈ lw_all := lw_g (lw_at lw_m6 237 rfl) rfl
theorem q1549 : (Jvm.Cond.methodLink "FireSale$Reader" (96 : Nat) ({ cls := "FireSale$Reader", name := "number", desc := "(II)I" } : Jvm.MethodName)) ∈ lw_all := lw_g (lw_at lw_m7 12 rfl) rfl
theorem q1550 : (Jvm.Cond.privateMethod ({ cls := "FireSale$Reader", name := "number", desc := "(II)I" } : Jvm.MethodName)) ∈ lw_tbl := lw_at lw_m7 13 rfl
theorem q1551 : (Jvm.Cond.instanceMethod ({ cls := "FireSale$Reader", name := "number", desc := "(II)I" } : Jvm.MethodName)) ∈ lw_all := lw_g (lw_at lw_m7 14 rfl) rfl
theorem q1552 : (Jvm.Cond.code ({ cls := "FireSale$Reader", name := "number", desc := "(II)I" } : Jvm.MethodName) prog_3_method_7_code (5 : Nat) (Option.some Jvm.ClassFile.FieldType.int)) ∈ lw_all := lw_g (lw_at lw_m7 15 rfl) rfl
theorem q1553 : (Jvm.Cond.methodLink "FireSale$Reader" (74 : Nat) ({ cls := "FireSale$Reader", name := "isNumber", desc := "()Z" } : Jvm.MethodName)) ∈ lw_all := lw_g (lw_at lw_m7 16 rfl) rfl
theorem q1554 : (Jvm.Cond.privateMethod ({ cls := "FireSale$Reader", name := "isNumber", desc := "()Z" } : Jvm.MethodName)) ∈ lw_tbl := lw_at lw_m7 17 rfl
theorem q1555 : (Jvm.Cond.instanceMethod ({ cls := "FireSale$Reader", name := "isNumber", desc := "()Z" } : Jvm.MethodName)) ∈ lw_all := lw_g (lw_at lw_m7 18 rfl) rfl
theorem q1556 : (Jvm.Cond.code ({ cls := "FireSale$Reader", name := "isNumber", desc := "()Z" } : Jvm.MethodName) prog_3_method_6_code (1 : Nat) (Option.some Jvm.ClassFile.FieldType.boolean)) ∈ lw_all := lw_g (lw_at lw_m7 19 rfl) rfl
theorem q1557 : (Jvm.Cond.constantLong "FireSale$Reader" (70 : Nat) (48 : Int64)) ∈ lw_all := lw_g (lw_at lw_m7 20 rfl) rfl
theorem q1558 : (Jvm.Cond.constantLong "FireSale$Reader" (72 : Nat) (57 : Int64)) ∈ lw_all := lw_g (lw_at lw_m7 21 rfl) rfl
theorem q1559 : (Jvm.Cond.constant "FireSale$Reader" (82 : Nat) (99999 : Int32)) ∈ lw_all := lw_g (lw_at lw_m7 22 rfl) rfl
theorem q1560 : (Jvm.Cond.methodLink "FireSale$Reader" (83 : Nat) ({ cls := "java/lang/Math", name := "min", desc := "(II)I" } : Jvm.MethodName)) ∈ lw_all := lw_g (lw_at lw_m7 23 rfl) rfl
theorem q1561 : (Jvm.Cond.stringRef "FireSale$Reader" (144 : Nat) "house") ∈ lw_tbl := lw_at lw_m7 24 rfl
theorem q1562 : (Jvm.Cond.methodLink "FireSale$Reader" (146 : Nat) ({ cls := "FireSale$Reader", name := "house", desc := "()V" } : Jvm.MethodName)) ∈ lw_all := lw_g (lw_at lw_m7 25 rfl) rfl
theorem q1563 : (Jvm.Cond.privateMethod ({ cls := "FireSale$Reader", name := "house", desc := "()V" } : Jvm.MethodName)) ∈ lw_tbl := lw_at lw_m7 26 rfl
theorem q1564 : (Jvm.Cond.instanceMethod ({ cls := "FireSale$Reader", name := "house", desc := "()V" } : Jvm.MethodName)) ∈ lw_all := lw_g (lw_at lw_m7 27 rfl) rfl
theorem q1565 : (Jvm.Cond.code ({ cls := "FireSale$Reader", name := "house", desc := "()V" } : Jvm.MethodName) prog_3_method_10_code (3 : Nat) (Option.none : Option Jvm.ClassFile.FieldType)) ∈ lw_all := lw_g (lw_at lw_m7 28 rfl) rfl
theorem q1566 : (Jvm.Cond.methodLink "FireSale$Reader" (105 : Nat) ({ cls := "FireSale$Town", name := "isAsset", desc := "(I)Z" } : Jvm.MethodName)) ∈ lw_all := lw_g (lw_at lw_m7 29 rfl) rfl
theorem q1567 : (Jvm.Cond.stringRef "FireSale$Reader" (148 : Nat) "loan") ∈ lw_tbl := lw_at lw_m7 30 rfl
theorem q1568 : (Jvm.Cond.methodLink "FireSale$Reader" (149 : Nat) ({ cls := "FireSale$Reader", name := "loan", desc := "()V" } : Jvm.MethodName)) ∈ lw_all := lw_g (lw_at lw_m7 31 rfl) rfl
theorem q1569 : (Jvm.Cond.privateMethod ({ cls := "FireSale$Reader", name := "loan", desc := "()V" } : Jvm.MethodName)) ∈ lw_tbl := lw_at lw_m7 32 rfl
theorem q1570 : (Jvm.Cond.instanceMethod ({ cls := "FireSale$Reader", name := "loan", desc := "()V" } : Jvm.MethodName)) ∈ lw_all := lw_g (lw_at lw_m7 33 rfl) rfl
theorem q1571 : (Jvm.Cond.code ({ cls := "FireSale$Reader", name := "loan", desc := "()V" } : Jvm.MethodName) prog_3_method_11_code (4 : Nat) (Option.none : Option Jvm.ClassFile.FieldType)) ∈ lw_all := lw_g (lw_at lw_m7 34 rfl) rfl
theorem q1572 : (Jvm.Cond.stringRef "FireSale$Reader" (151 : Nat) "cap") ∈ lw_tbl := lw_at lw_m7 35 rfl
theorem q1573 : (Jvm.Cond.methodLink "FireSale$Reader" (153 : Nat) ({ cls := "FireSale$Reader", name := "rule", desc := "(I)V" } : Jvm.MethodName)) ∈ lw_all := lw_g (lw_at lw_m7 36 rfl) rfl
theorem q1574 : (Jvm.Cond.privateMethod ({ cls := "FireSale$Reader", name := "rule", desc := "(I)V" } : Jvm.MethodName)) ∈ lw_tbl := lw_at lw_m7 37 rfl
theorem q1575 : (Jvm.Cond.instanceMethod ({ cls := "FireSale$Reader", name := "rule", desc := "(I)V" } : Jvm.MethodName)) ∈ lw_all := lw_g (lw_at lw_m7 38 rfl) rfl
theorem q1576 : (Jvm.Cond.code ({ cls := "FireSale$Reader", name := "rule", desc := "(I)V" } : Jvm.MethodName) prog_3_method_12_code (4 : Nat) (Option.none : Option Jvm.ClassFile.FieldType)) ∈ lw_all := lw_g (lw_at lw_m7 39 rfl) rfl
theorem q1577 : (Jvm.Cond.classLink "FireSale$Reader" (124 : Nat) "FireSale$Cap") ∈ lw_all := lw_g (lw_at lw_m7 40 rfl) rfl
theorem q1578 : (Jvm.Cond.methodLink "FireSale$Reader" (126 : Nat) ({ cls := "FireSale$Cap", name := "<init>", desc := "(II)V" } : Jvm.MethodName)) ∈ lw_all := lw_g (lw_at lw_m7 41 rfl) rfl
theorem q1579 : (Jvm.Cond.classLink "FireSale$Reader" (129 : Nat) "FireSale$Shock") ∈ lw_all := lw_g (lw_at lw_m7 42 rfl) rfl
theorem q1580 : (Jvm.Cond.methodLink "FireSale$Reader" (131 : Nat) ({ cls := "FireSale$Shock", name := "<init>", desc := "(II)V" } : Jvm.MethodName)) ∈ lw_all := lw_g (lw_at lw_m7 43 rfl) rfl
theorem q1581 : (Jvm.Cond.methodLink "FireSale$Reader" (132 : Nat) ({ cls := "FireSale$Shelf", name := "lays", desc := "(LFireSale$Rule;)I" } : Jvm.MethodName)) ∈ lw_all := lw_g (lw_at lw_m7 44 rfl) rfl
theorem q1582 : (Jvm.Cond.stringRef "FireSale$Reader" (156 : Nat) "shock") ∈ lw_tbl := lw_at lw_m7 45 rfl
theorem q1583 : (Jvm.Cond.methodLink "FireSale$Reader" (158 : Nat) ({ cls := "FireSale$Reader", name := "ends", desc := "()V" } : Jvm.MethodName)) ∈ lw_all := lw_g (lw_at lw_m7 46 rfl) rfl
theorem q1584 : (Jvm.Cond.privateMethod ({ cls := "FireSale$Reader", name := "ends", desc := "()V" } : Jvm.MethodName)) ∈ lw_tbl := lw_at lw_m7 47 rfl
theorem q1585 : (Jvm.Cond.instanceMethod ({ cls := "FireSale$Reader", name := "ends", desc := "()V" } : Jvm.MethodName)) ∈ lw_all := lw_g (lw_at lw_m7 48 rfl) rfl
theorem q1586 : (Jvm.Cond.code ({ cls := "FireSale$Reader", name := "ends", desc := "()V" } : Jvm.MethodName) prog_3_method_8_code (1 : Nat) (Option.none : Option Jvm.ClassFile.FieldType)) ∈ lw_all := lw_g (lw_at lw_m7 49 rfl) rfl
theorem q2224 : (Jvm.Cond.castable "FireSale$Reader" "java/lang/Object") ∈ lw_tbl := lw_at lw_m9 207 rfl
abbrev cX6_init : ByteArray := prog_9_method_1_code
def yX6_init : MethodName := ⟨RX6, "<init>", "(I)V"⟩
theorem q112 : (Jvm.Cond.initialized "FireSale$Wrong") ∈ lw_all := lw_g (lw_at lw_m1 15 rfl) rfl
theorem q394 : (Jvm.Cond.selects "FireSale$Wrong" ({ cls := "java/lang/Object", name := "getClass", desc := "()Ljava/lang/Class;" } : Jvm.MethodName) ({ cls := "java/lang/Object", name := "getClass", desc := "()Ljava/lang/Class;" } : Jvm.MethodName)) ∈ lw_all := lw_g (lw_at lw_m2 57 rfl) rfl
theorem q515 : (Jvm.Cond.selects "FireSale$Wrong" ({ cls := "java/lang/Throwable", name := "fillInStackTrace", desc := "()Ljava/lang/Throwable;" } : Jvm.MethodName) ({ cls := "java/lang/Throwable", name := "fillInStackTrace", desc := "()Ljava/lang/Throwable;" } : Jvm.MethodName)) ∈ lw_all := lw_g (lw_at lw_m2 178 rfl) rfl
theorem q1526 : (Jvm.Cond.instantiable "FireSale$Wrong" (7 : Nat)) ∈ lw_all := lw_g (lw_at lw_m6 229 rfl) rfl
theorem q1527 : (Jvm.Cond.castable "FireSale$Wrong" "FireSale$Wrong") ∈ lw_tbl := lw_at lw_m6 230 rfl
theorem q1528 : (Jvm.Cond.selects "FireSale$Wrong" ({ cls := "java/lang/Throwable", name := "fillInStackTrace", desc := "(I)Ljava/lang/Throwable;" } : Jvm.MethodName) ({ cls := "java/lang/Throwable", name := "fillInStackTrace", desc := "(I)Ljava/lang/Throwable;" } : Jvm.MethodName)) ∈ lw_all := lw_g (lw_at lw_m6 231 rfl) rfl
theorem q1529 : (Jvm.Cond.lays "FireSale$Wrong" "java/lang/Throwable" "cause" "Ljava/lang/Throwable;") ∈ lw_all := lw_g (lw_at lw_m6 232 rfl) rfl
theorem q1530 : (Jvm.Cond.lays "FireSale$Wrong" "java/lang/Throwable" "stackTrace" "[Ljava/lang/StackTraceElement;") ∈ lw_all := lw_g (lw_at lw_m6 233 rfl) rfl
theorem q1531 : (Jvm.Cond.lays "FireSale$Wrong" "java/lang/Throwable" "suppressedExceptions" "Ljava/util/List;") ∈ lw_all := lw_g (lw_at lw_m6 234 rfl) rfl
theorem q1532 : (Jvm.Cond.lays "FireSale$Wrong" "java/lang/Throwable" "detailMessage" "Ljava/lang/String;") ∈ lw_all := lw_g (lw_at lw_m6 235 rfl) rfl
theorem q1533 : (Jvm.Cond.lays "FireSale$Wrong" "java/lang/Throwable" "backtrace" "Ljava/lang/Object;") ∈ lw_all := lw_g (lw_at lw_m6 236 rfl) rfl
theorem q1535 : (Jvm.Cond.instanceMethod ({ cls := "FireSale$Wrong", name := "<init>", desc := "(I)V" } : Jvm.MethodName)) ∈ lw_all := lw_g (lw_at lw_m6 238 rfl) rfl
theorem q1536 : (Jvm.Cond.code ({ cls := "FireSale$Wrong", name := "<init>", desc := "(I)V" } : Jvm.MethodName) prog_9_method_1_code (2 : Nat) (Option.none : Option Jvm.ClassFile.FieldType)) ∈ lw_all := lw_g (lw_at lw_m6 239 rfl) rfl
theorem q1537 : (Jvm.Cond.methodLink "FireSale$Wrong" (1 : Nat) ({ cls := "java/lang/Exception", name := "<init>", desc := "(Ljava/lang/String;Ljava/lang/Throwable;ZZ)V" } : Jvm.MethodName)) ∈ lw_all := lw_g (lw_at lw_m7 0 rfl) rfl
theorem q1543 : (Jvm.Cond.fieldLink "FireSale$Wrong" (7 : Nat) "FireSale$Wrong" "place" "I") ∈ lw_all := lw_g (lw_at lw_m7 6 rfl) rfl
theorem q1545 : (Jvm.Cond.laysFinal "FireSale$Wrong" "FireSale$Wrong" "place" "I") ∈ lw_all := lw_g (lw_at lw_m7 8 rfl) rfl
theorem q1546 : (Jvm.Cond.soleField "FireSale$Wrong" "place") ∈ lw_all := lw_g (lw_at lw_m7 9 rfl) rfl
theorem q1547 : (Jvm.Cond.lays "FireSale$Wrong" "java/lang/Throwable" "depth" "I") ∈ lw_all := lw_g (lw_at lw_m7 10 rfl) rfl
theorem q1548 : (Jvm.Cond.superclass "FireSale$Wrong" "java/lang/Exception") ∈ lw_all := lw_g (lw_at lw_m7 11 rfl) rfl
theorem q2225 : (Jvm.Cond.castable "FireSale$Wrong" "java/lang/Object") ∈ lw_tbl := lw_at lw_m9 208 rfl
abbrev cX7_init : ByteArray := prog_4_method_1_code
def yX7_init : MethodName := ⟨RX7, "<init>", "(II)V"⟩
abbrev cX7_shock : ByteArray := prog_4_method_4_code
def yX7_shock : MethodName := ⟨RX7, "shock", "()I"⟩
abbrev cX7_cap : ByteArray := prog_4_method_3_code
def yX7_cap : MethodName := ⟨RX7, "cap", "()I"⟩
theorem q114 : (Jvm.Cond.initialized "FireSale$Rule") ∈ lw_all := lw_g (lw_at lw_m1 17 rfl) rfl
theorem q463 : (Jvm.Cond.instanceMethod ({ cls := "FireSale$Rule", name := "<init>", desc := "(II)V" } : Jvm.MethodName)) ∈ lw_all := lw_g (lw_at lw_m2 126 rfl) rfl
theorem q464 : (Jvm.Cond.code ({ cls := "FireSale$Rule", name := "<init>", desc := "(II)V" } : Jvm.MethodName) prog_4_method_1_code (3 : Nat) (Option.none : Option Jvm.ClassFile.FieldType)) ∈ lw_all := lw_g (lw_at lw_m2 127 rfl) rfl
theorem q465 : (Jvm.Cond.methodLink "FireSale$Rule" (3 : Nat) ({ cls := "java/lang/Object", name := "<init>", desc := "()V" } : Jvm.MethodName)) ∈ lw_all := lw_g (lw_at lw_m2 128 rfl) rfl
theorem q466 : (Jvm.Cond.fieldLink "FireSale$Rule" (9 : Nat) "FireSale$Rule" "asset" "I") ∈ lw_all := lw_g (lw_at lw_m2 129 rfl) rfl
theorem q469 : (Jvm.Cond.fieldLink "FireSale$Rule" (15 : Nat) "FireSale$Rule" "much" "I") ∈ lw_all := lw_g (lw_at lw_m2 132 rfl) rfl
theorem q477 : (Jvm.Cond.soleField "FireSale$Rule" "asset") ∈ lw_all := lw_g (lw_at lw_m2 140 rfl) rfl
theorem q479 : (Jvm.Cond.soleField "FireSale$Rule" "much") ∈ lw_all := lw_g (lw_at lw_m2 142 rfl) rfl
theorem q644 : (Jvm.Cond.instanceMethod ({ cls := "FireSale$Rule", name := "shock", desc := "()I" } : Jvm.MethodName)) ∈ lw_all := lw_g (lw_at lw_m3 67 rfl) rfl
theorem q645 : (Jvm.Cond.sameMethod "FireSale$Rule" "FireSale$Rule" "shock" "()I") ∈ lw_all := lw_g (lw_at lw_m3 68 rfl) rfl
theorem q651 : (Jvm.Cond.code ({ cls := "FireSale$Rule", name := "shock", desc := "()I" } : Jvm.MethodName) prog_4_method_4_code (1 : Nat) (Option.some Jvm.ClassFile.FieldType.int)) ∈ lw_all := lw_g (lw_at lw_m3 74 rfl) rfl
theorem q676 : (Jvm.Cond.instanceMethod ({ cls := "FireSale$Rule", name := "cap", desc := "()I" } : Jvm.MethodName)) ∈ lw_all := lw_g (lw_at lw_m3 99 rfl) rfl
theorem q677 : (Jvm.Cond.sameMethod "FireSale$Rule" "FireSale$Rule" "cap" "()I") ∈ lw_all := lw_g (lw_at lw_m3 100 rfl) rfl
theorem q682 : (Jvm.Cond.code ({ cls := "FireSale$Rule", name := "cap", desc := "()I" } : Jvm.MethodName) prog_4_method_3_code (1 : Nat) (Option.some Jvm.ClassFile.FieldType.int)) ∈ lw_all := lw_g (lw_at lw_m3 105 rfl) rfl
theorem q883 : (Jvm.Cond.declares ({ cls := "FireSale$Rule", name := "kind", desc := "()I" } : Jvm.MethodName)) ∈ lw_tbl := lw_at lw_m4 66 rfl
theorem q884 : (Jvm.Cond.sameMethod "FireSale$Rule" "FireSale$Rule" "kind" "()I") ∈ lw_all := lw_g (lw_at lw_m4 67 rfl) rfl
theorem q2218 : (Jvm.Cond.castable "FireSale$Rule" "java/lang/Object") ∈ lw_tbl := lw_at lw_m9 201 rfl
abbrev cX8_init : ByteArray := prog_2_method_1_code
def yX8_init : MethodName := ⟨RX8, "<init>", "(II)V"⟩
abbrev cX8_cap : ByteArray := prog_2_method_3_code
def yX8_cap : MethodName := ⟨RX8, "cap", "()I"⟩
abbrev cX8_kind : ByteArray := prog_2_method_2_code
def yX8_kind : MethodName := ⟨RX8, "kind", "()I"⟩
theorem q115 : (Jvm.Cond.initialized "FireSale$Cap") ∈ lw_all := lw_g (lw_at lw_m1 18 rfl) rfl
theorem q388 : (Jvm.Cond.selects "FireSale$Cap" ({ cls := "java/lang/Object", name := "getClass", desc := "()Ljava/lang/Class;" } : Jvm.MethodName) ({ cls := "java/lang/Object", name := "getClass", desc := "()Ljava/lang/Class;" } : Jvm.MethodName)) ∈ lw_all := lw_g (lw_at lw_m2 51 rfl) rfl
theorem q458 : (Jvm.Cond.instantiable "FireSale$Cap" (2 : Nat)) ∈ lw_all := lw_g (lw_at lw_m2 121 rfl) rfl
theorem q460 : (Jvm.Cond.instanceMethod ({ cls := "FireSale$Cap", name := "<init>", desc := "(II)V" } : Jvm.MethodName)) ∈ lw_all := lw_g (lw_at lw_m2 123 rfl) rfl
theorem q461 : (Jvm.Cond.code ({ cls := "FireSale$Cap", name := "<init>", desc := "(II)V" } : Jvm.MethodName) prog_2_method_1_code (3 : Nat) (Option.none : Option Jvm.ClassFile.FieldType)) ∈ lw_all := lw_g (lw_at lw_m2 124 rfl) rfl
theorem q462 : (Jvm.Cond.methodLink "FireSale$Cap" (1 : Nat) ({ cls := "FireSale$Rule", name := "<init>", desc := "(II)V" } : Jvm.MethodName)) ∈ lw_all := lw_g (lw_at lw_m2 125 rfl) rfl
theorem q472 : (Jvm.Cond.fieldLink "FireSale$Cap" (11 : Nat) "FireSale$Cap" "much" "I") ∈ lw_all := lw_g (lw_at lw_m2 135 rfl) rfl
theorem q473 : (Jvm.Cond.sameField "FireSale$Cap" "FireSale$Rule" "much" "I") ∈ lw_all := lw_g (lw_at lw_m2 136 rfl) rfl
theorem q476 : (Jvm.Cond.laysFinal "FireSale$Cap" "FireSale$Rule" "asset" "I") ∈ lw_all := lw_g (lw_at lw_m2 139 rfl) rfl
theorem q478 : (Jvm.Cond.laysFinal "FireSale$Cap" "FireSale$Rule" "much" "I") ∈ lw_all := lw_g (lw_at lw_m2 141 rfl) rfl
theorem q480 : (Jvm.Cond.superclass "FireSale$Cap" "FireSale$Rule") ∈ lw_all := lw_g (lw_at lw_m2 143 rfl) rfl
theorem q646 : (Jvm.Cond.selects "FireSale$Cap" ({ cls := "FireSale$Rule", name := "shock", desc := "()I" } : Jvm.MethodName) ({ cls := "FireSale$Rule", name := "shock", desc := "()I" } : Jvm.MethodName)) ∈ lw_all := lw_g (lw_at lw_m3 69 rfl) rfl
theorem q678 : (Jvm.Cond.selects "FireSale$Cap" ({ cls := "FireSale$Rule", name := "cap", desc := "()I" } : Jvm.MethodName) ({ cls := "FireSale$Cap", name := "cap", desc := "()I" } : Jvm.MethodName)) ∈ lw_all := lw_g (lw_at lw_m3 101 rfl) rfl
theorem q679 : (Jvm.Cond.instanceMethod ({ cls := "FireSale$Cap", name := "cap", desc := "()I" } : Jvm.MethodName)) ∈ lw_all := lw_g (lw_at lw_m3 102 rfl) rfl
theorem q680 : (Jvm.Cond.code ({ cls := "FireSale$Cap", name := "cap", desc := "()I" } : Jvm.MethodName) prog_2_method_3_code (1 : Nat) (Option.some Jvm.ClassFile.FieldType.int)) ∈ lw_all := lw_g (lw_at lw_m3 103 rfl) rfl
theorem q681 : (Jvm.Cond.methodLink "FireSale$Cap" (7 : Nat) ({ cls := "FireSale$Rule", name := "cap", desc := "()I" } : Jvm.MethodName)) ∈ lw_all := lw_g (lw_at lw_m3 104 rfl) rfl
theorem q683 : (Jvm.Cond.methodLink "FireSale$Cap" (17 : Nat) ({ cls := "java/lang/Math", name := "min", desc := "(II)I" } : Jvm.MethodName)) ∈ lw_all := lw_g (lw_at lw_m3 106 rfl) rfl
theorem q885 : (Jvm.Cond.selects "FireSale$Cap" ({ cls := "FireSale$Rule", name := "kind", desc := "()I" } : Jvm.MethodName) ({ cls := "FireSale$Cap", name := "kind", desc := "()I" } : Jvm.MethodName)) ∈ lw_all := lw_g (lw_at lw_m4 68 rfl) rfl
theorem q886 : (Jvm.Cond.instanceMethod ({ cls := "FireSale$Cap", name := "kind", desc := "()I" } : Jvm.MethodName)) ∈ lw_all := lw_g (lw_at lw_m4 69 rfl) rfl
theorem q887 : (Jvm.Cond.code ({ cls := "FireSale$Cap", name := "kind", desc := "()I" } : Jvm.MethodName) prog_2_method_2_code (1 : Nat) (Option.some Jvm.ClassFile.FieldType.int)) ∈ lw_all := lw_g (lw_at lw_m4 70 rfl) rfl
theorem q2213 : (Jvm.Cond.castable "FireSale$Cap" "FireSale$Rule") ∈ lw_tbl := lw_at lw_m9 196 rfl
theorem q2216 : (Jvm.Cond.castable "FireSale$Cap" "java/lang/Object") ∈ lw_tbl := lw_at lw_m9 199 rfl
abbrev cX9_init : ByteArray := prog_6_method_1_code
def yX9_init : MethodName := ⟨RX9, "<init>", "(II)V"⟩
abbrev cX9_shock : ByteArray := prog_6_method_3_code
def yX9_shock : MethodName := ⟨RX9, "shock", "()I"⟩
abbrev cX9_kind : ByteArray := prog_6_method_2_code
def yX9_kind : MethodName := ⟨RX9, "kind", "()I"⟩
theorem q116 : (Jvm.Cond.initialized "FireSale$Shock") ∈ lw_all := lw_g (lw_at lw_m1 19 rfl) rfl
theorem q391 : (Jvm.Cond.selects "FireSale$Shock" ({ cls := "java/lang/Object", name := "getClass", desc := "()Ljava/lang/Class;" } : Jvm.MethodName) ({ cls := "java/lang/Object", name := "getClass", desc := "()Ljava/lang/Class;" } : Jvm.MethodName)) ∈ lw_all := lw_g (lw_at lw_m2 54 rfl) rfl
theorem q470 : (Jvm.Cond.fieldLink "FireSale$Shock" (11 : Nat) "FireSale$Shock" "much" "I") ∈ lw_all := lw_g (lw_at lw_m2 133 rfl) rfl
theorem q471 : (Jvm.Cond.sameField "FireSale$Shock" "FireSale$Rule" "much" "I") ∈ lw_all := lw_g (lw_at lw_m2 134 rfl) rfl
theorem q482 : (Jvm.Cond.instantiable "FireSale$Shock" (2 : Nat)) ∈ lw_all := lw_g (lw_at lw_m2 145 rfl) rfl
theorem q484 : (Jvm.Cond.instanceMethod ({ cls := "FireSale$Shock", name := "<init>", desc := "(II)V" } : Jvm.MethodName)) ∈ lw_all := lw_g (lw_at lw_m2 147 rfl) rfl
theorem q485 : (Jvm.Cond.code ({ cls := "FireSale$Shock", name := "<init>", desc := "(II)V" } : Jvm.MethodName) prog_6_method_1_code (3 : Nat) (Option.none : Option Jvm.ClassFile.FieldType)) ∈ lw_all := lw_g (lw_at lw_m2 148 rfl) rfl
theorem q486 : (Jvm.Cond.methodLink "FireSale$Shock" (1 : Nat) ({ cls := "FireSale$Rule", name := "<init>", desc := "(II)V" } : Jvm.MethodName)) ∈ lw_all := lw_g (lw_at lw_m2 149 rfl) rfl
theorem q487 : (Jvm.Cond.laysFinal "FireSale$Shock" "FireSale$Rule" "asset" "I") ∈ lw_all := lw_g (lw_at lw_m2 150 rfl) rfl
theorem q488 : (Jvm.Cond.laysFinal "FireSale$Shock" "FireSale$Rule" "much" "I") ∈ lw_all := lw_g (lw_at lw_m2 151 rfl) rfl
theorem q489 : (Jvm.Cond.superclass "FireSale$Shock" "FireSale$Rule") ∈ lw_all := lw_g (lw_at lw_m2 152 rfl) rfl
theorem q647 : (Jvm.Cond.selects "FireSale$Shock" ({ cls := "FireSale$Rule", name := "shock", desc := "()I" } : Jvm.MethodName) ({ cls := "FireSale$Shock", name := "shock", desc := "()I" } : Jvm.MethodName)) ∈ lw_all := lw_g (lw_at lw_m3 70 rfl) rfl
theorem q648 : (Jvm.Cond.instanceMethod ({ cls := "FireSale$Shock", name := "shock", desc := "()I" } : Jvm.MethodName)) ∈ lw_all := lw_g (lw_at lw_m3 71 rfl) rfl
theorem q649 : (Jvm.Cond.code ({ cls := "FireSale$Shock", name := "shock", desc := "()I" } : Jvm.MethodName) prog_6_method_3_code (1 : Nat) (Option.some Jvm.ClassFile.FieldType.int)) ∈ lw_all := lw_g (lw_at lw_m3 72 rfl) rfl
theorem q650 : (Jvm.Cond.methodLink "FireSale$Shock" (7 : Nat) ({ cls := "FireSale$Rule", name := "shock", desc := "()I" } : Jvm.MethodName)) ∈ lw_all := lw_g (lw_at lw_m3 73 rfl) rfl
theorem q684 : (Jvm.Cond.selects "FireSale$Shock" ({ cls := "FireSale$Rule", name := "cap", desc := "()I" } : Jvm.MethodName) ({ cls := "FireSale$Rule", name := "cap", desc := "()I" } : Jvm.MethodName)) ∈ lw_all := lw_g (lw_at lw_m3 107 rfl) rfl
theorem q888 : (Jvm.Cond.selects "FireSale$Shock" ({ cls := "FireSale$Rule", name := "kind", desc := "()I" } : Jvm.MethodName) ({ cls := "FireSale$Shock", name := "kind", desc := "()I" } : Jvm.MethodName)) ∈ lw_all := lw_g (lw_at lw_m4 71 rfl) rfl
theorem q889 : (Jvm.Cond.instanceMethod ({ cls := "FireSale$Shock", name := "kind", desc := "()I" } : Jvm.MethodName)) ∈ lw_all := lw_g (lw_at lw_m4 72 rfl) rfl
theorem q890 : (Jvm.Cond.code ({ cls := "FireSale$Shock", name := "kind", desc := "()I" } : Jvm.MethodName) prog_6_method_2_code (1 : Nat) (Option.some Jvm.ClassFile.FieldType.int)) ∈ lw_all := lw_g (lw_at lw_m4 73 rfl) rfl
theorem q2214 : (Jvm.Cond.castable "FireSale$Shock" "FireSale$Rule") ∈ lw_tbl := lw_at lw_m9 197 rfl
theorem q2217 : (Jvm.Cond.castable "FireSale$Shock" "java/lang/Object") ∈ lw_tbl := lw_at lw_m9 200 rfl
theorem q97 : (Jvm.Cond.initialized "FireSaleLaw") ∈ lw_all := lw_g (lw_at lw_m1 0 rfl) rfl
theorem q131 : (Jvm.Cond.classLink "FireSaleLaw" (7 : Nat) "FireSale") ∈ lw_all := lw_g (lw_at lw_m1 34 rfl) rfl
theorem q133 : (Jvm.Cond.methodLink "FireSaleLaw" (9 : Nat) ({ cls := "FireSale", name := "<init>", desc := "()V" } : Jvm.MethodName)) ∈ lw_all := lw_g (lw_at lw_m1 36 rfl) rfl
theorem q297 : (Jvm.Cond.methodLink "FireSaleLaw" (28 : Nat) ({ cls := "FireSale", name := "asset", desc := "(II)I" } : Jvm.MethodName)) ∈ lw_all := lw_g (lw_at lw_m1 200 rfl) rfl
theorem q414 : (Jvm.Cond.methodLink "FireSaleLaw" (33 : Nat) ({ cls := "FireSale", name := "house", desc := "(II)I" } : Jvm.MethodName)) ∈ lw_all := lw_g (lw_at lw_m2 77 rfl) rfl
theorem q419 : (Jvm.Cond.methodLink "FireSaleLaw" (37 : Nat) ({ cls := "FireSale", name := "set", desc := "(III)I" } : Jvm.MethodName)) ∈ lw_all := lw_g (lw_at lw_m2 82 rfl) rfl
theorem q433 : (Jvm.Cond.methodLink "FireSaleLaw" (42 : Nat) ({ cls := "FireSale", name := "hold", desc := "(III)I" } : Jvm.MethodName)) ∈ lw_all := lw_g (lw_at lw_m2 96 rfl) rfl
theorem q442 : (Jvm.Cond.methodLink "FireSaleLaw" (46 : Nat) ({ cls := "FireSale", name := "loan", desc := "(III)I" } : Jvm.MethodName)) ∈ lw_all := lw_g (lw_at lw_m2 105 rfl) rfl
theorem q447 : (Jvm.Cond.methodLink "FireSaleLaw" (50 : Nat) ({ cls := "FireSale", name := "curve", desc := "(III)I" } : Jvm.MethodName)) ∈ lw_all := lw_g (lw_at lw_m2 110 rfl) rfl
theorem q451 : (Jvm.Cond.methodLink "FireSaleLaw" (54 : Nat) ({ cls := "FireSale", name := "lay", desc := "(IIII)I" } : Jvm.MethodName)) ∈ lw_all := lw_g (lw_at lw_m2 114 rfl) rfl
theorem q567 : (Jvm.Cond.methodLink "FireSaleLaw" (59 : Nat) ({ cls := "FireSale", name := "lift", desc := "(II)I" } : Jvm.MethodName)) ∈ lw_all := lw_g (lw_at lw_m2 230 rfl) rfl
theorem q576 : (Jvm.Cond.methodLink "FireSaleLaw" (63 : Nat) ({ cls := "FireSale", name := "net", desc := "(II)I" } : Jvm.MethodName)) ∈ lw_all := lw_g (lw_at lw_m2 239 rfl) rfl
theorem q581 : (Jvm.Cond.methodLink "FireSaleLaw" (67 : Nat) ({ cls := "FireSale", name := "merge", desc := "(II)I" } : Jvm.MethodName)) ∈ lw_all := lw_g (lw_at lw_m3 4 rfl) rfl
theorem q594 : (Jvm.Cond.methodLink "FireSaleLaw" (71 : Nat) ({ cls := "FireSale", name := "close", desc := "(I)I" } : Jvm.MethodName)) ∈ lw_all := lw_g (lw_at lw_m3 17 rfl) rfl
theorem q599 : (Jvm.Cond.methodLink "FireSaleLaw" (75 : Nat) ({ cls := "FireSale", name := "live", desc := "()I" } : Jvm.MethodName)) ∈ lw_all := lw_g (lw_at lw_m3 22 rfl) rfl
theorem q832 : (Jvm.Cond.methodLink "FireSaleLaw" (79 : Nat) ({ cls := "FireSale", name := "undo", desc := "()I" } : Jvm.MethodName)) ∈ lw_all := lw_g (lw_at lw_m4 15 rfl) rfl
theorem q851 : (Jvm.Cond.methodLink "FireSaleLaw" (83 : Nat) ({ cls := "FireSale", name := "of", desc := "(II)I" } : Jvm.MethodName)) ∈ lw_all := lw_g (lw_at lw_m4 34 rfl) rfl
theorem q860 : (Jvm.Cond.methodLink "FireSaleLaw" (87 : Nat) ({ cls := "FireSale", name := "holding", desc := "(II)I" } : Jvm.MethodName)) ∈ lw_all := lw_g (lw_at lw_m4 43 rfl) rfl
theorem q864 : (Jvm.Cond.methodLink "FireSaleLaw" (91 : Nat) ({ cls := "FireSale", name := "owes", desc := "(II)I" } : Jvm.MethodName)) ∈ lw_all := lw_g (lw_at lw_m4 47 rfl) rfl
theorem q868 : (Jvm.Cond.methodLink "FireSaleLaw" (95 : Nat) ({ cls := "FireSale", name := "ofAsset", desc := "(II)I" } : Jvm.MethodName)) ∈ lw_all := lw_g (lw_at lw_m4 51 rfl) rfl
theorem q878 : (Jvm.Cond.methodLink "FireSaleLaw" (99 : Nat) ({ cls := "FireSale", name := "shelf", desc := "(III)I" } : Jvm.MethodName)) ∈ lw_all := lw_g (lw_at lw_m4 61 rfl) rfl
theorem q891 : (Jvm.Cond.methodLink "FireSaleLaw" (103 : Nat) ({ cls := "FireSale", name := "state", desc := "(II)I" } : Jvm.MethodName)) ∈ lw_all := lw_g (lw_at lw_m4 74 rfl) rfl
theorem q928 : (Jvm.Cond.methodLink "FireSaleLaw" (107 : Nat) ({ cls := "FireSale", name := "rounds", desc := "(Z)I" } : Jvm.MethodName)) ∈ lw_all := lw_g (lw_at lw_m4 111 rfl) rfl
theorem q938 : (Jvm.Cond.methodLink "FireSaleLaw" (112 : Nat) ({ cls := "FireSale", name := "price", desc := "(II)I" } : Jvm.MethodName)) ∈ lw_all := lw_g (lw_at lw_m4 121 rfl) rfl
theorem q943 : (Jvm.Cond.methodLink "FireSaleLaw" (116 : Nat) ({ cls := "FireSale", name := "worth", desc := "(II)I" } : Jvm.MethodName)) ∈ lw_all := lw_g (lw_at lw_m4 126 rfl) rfl
theorem q949 : (Jvm.Cond.methodLink "FireSaleLaw" (120 : Nat) ({ cls := "FireSale", name := "mustSell", desc := "(III)I" } : Jvm.MethodName)) ∈ lw_all := lw_g (lw_at lw_m4 132 rfl) rfl
theorem q955 : (Jvm.Cond.methodLink "FireSaleLaw" (124 : Nat) ({ cls := "FireSale", name := "round", desc := "(II)I" } : Jvm.MethodName)) ∈ lw_all := lw_g (lw_at lw_m4 138 rfl) rfl
theorem q964 : (Jvm.Cond.methodLink "FireSaleLaw" (128 : Nat) ({ cls := "FireSale", name := "worthIn", desc := "(II)I" } : Jvm.MethodName)) ∈ lw_all := lw_g (lw_at lw_m4 147 rfl) rfl
theorem q968 : (Jvm.Cond.methodLink "FireSaleLaw" (132 : Nat) ({ cls := "FireSale", name := "sharpest", desc := "()I" } : Jvm.MethodName)) ∈ lw_all := lw_g (lw_at lw_m4 151 rfl) rfl
theorem q975 : (Jvm.Cond.methodLink "FireSaleLaw" (136 : Nat) ({ cls := "FireSale", name := "ranked", desc := "(I)I" } : Jvm.MethodName)) ∈ lw_all := lw_g (lw_at lw_m4 158 rfl) rfl
theorem q984 : (Jvm.Cond.methodLink "FireSaleLaw" (140 : Nat) ({ cls := "FireSale", name := "fellIn", desc := "(I)I" } : Jvm.MethodName)) ∈ lw_all := lw_g (lw_at lw_m4 167 rfl) rfl
theorem q988 : (Jvm.Cond.methodLink "FireSaleLaw" (144 : Nat) ({ cls := "FireSale", name := "next", desc := "(IIII)I" } : Jvm.MethodName)) ∈ lw_all := lw_g (lw_at lw_m4 171 rfl) rfl
theorem q1002 : (Jvm.Cond.methodLink "FireSaleLaw" (148 : Nat) ({ cls := "FireSale", name := "isSteady", desc := "(III)I" } : Jvm.MethodName)) ∈ lw_all := lw_g (lw_at lw_m4 185 rfl) rfl
theorem q1007 : (Jvm.Cond.methodLink "FireSaleLaw" (152 : Nat) ({ cls := "FireSale", name := "index", desc := "(I)I" } : Jvm.MethodName)) ∈ lw_all := lw_g (lw_at lw_m4 190 rfl) rfl
theorem q1033 : (Jvm.Cond.methodLink "FireSaleLaw" (156 : Nat) ({ cls := "FireSale", name := "drop", desc := "(I)I" } : Jvm.MethodName)) ∈ lw_all := lw_g (lw_at lw_m4 216 rfl) rfl
theorem q1043 : (Jvm.Cond.methodLink "FireSaleLaw" (160 : Nat) ({ cls := "FireSale", name := "ratio", desc := "(II)I" } : Jvm.MethodName)) ∈ lw_all := lw_g (lw_at lw_m4 226 rfl) rfl
theorem q1048 : (Jvm.Cond.methodLink "FireSaleLaw" (164 : Nat) ({ cls := "FireSale", name := "mood", desc := "()J" } : Jvm.MethodName)) ∈ lw_all := lw_g (lw_at lw_m4 231 rfl) rfl
theorem q1067 : (Jvm.Cond.methodLink "FireSaleLaw" (169 : Nat) ({ cls := "FireSale", name := "hundredths", desc := "()I" } : Jvm.MethodName)) ∈ lw_all := lw_g (lw_at lw_m5 10 rfl) rfl
theorem q1072 : (Jvm.Cond.methodLink "FireSaleLaw" (173 : Nat) ({ cls := "FireSale", name := "rescue", desc := "(III)I" } : Jvm.MethodName)) ∈ lw_all := lw_g (lw_at lw_m5 15 rfl) rfl
theorem q1080 : (Jvm.Cond.methodLink "FireSaleLaw" (177 : Nat) ({ cls := "FireSale", name := "helper", desc := "(II)I" } : Jvm.MethodName)) ∈ lw_all := lw_g (lw_at lw_m5 23 rfl) rfl
theorem q1088 : (Jvm.Cond.methodLink "FireSaleLaw" (181 : Nat) ({ cls := "FireSale", name := "coinsFor", desc := "(I)I" } : Jvm.MethodName)) ∈ lw_all := lw_g (lw_at lw_m5 31 rfl) rfl
theorem q1096 : (Jvm.Cond.methodLink "FireSaleLaw" (185 : Nat) ({ cls := "FireSale", name := "aid", desc := "(III)I" } : Jvm.MethodName)) ∈ lw_all := lw_g (lw_at lw_m5 39 rfl) rfl
theorem q1102 : (Jvm.Cond.methodLink "FireSaleLaw" (189 : Nat) ({ cls := "FireSale", name := "bestAid", desc := "(III)I" } : Jvm.MethodName)) ∈ lw_all := lw_g (lw_at lw_m5 45 rfl) rfl
theorem q1112 : (Jvm.Cond.methodLink "FireSaleLaw" (193 : Nat) ({ cls := "FireSale", name := "buyer", desc := "(III)I" } : Jvm.MethodName)) ∈ lw_all := lw_g (lw_at lw_m5 55 rfl) rfl
theorem q1116 : (Jvm.Cond.methodLink "FireSaleLaw" (197 : Nat) ({ cls := "FireSale", name := "capFor", desc := "(I)I" } : Jvm.MethodName)) ∈ lw_all := lw_g (lw_at lw_m5 59 rfl) rfl
theorem q1120 : (Jvm.Cond.methodLink "FireSaleLaw" (201 : Nat) ({ cls := "FireSale", name := "shockFor", desc := "(I)I" } : Jvm.MethodName)) ∈ lw_all := lw_g (lw_at lw_m5 63 rfl) rfl
theorem q1124 : (Jvm.Cond.methodLink "FireSaleLaw" (205 : Nat) ({ cls := "FireSale", name := "domino", desc := "(II)I" } : Jvm.MethodName)) ∈ lw_all := lw_g (lw_at lw_m5 67 rfl) rfl
theorem q1132 : (Jvm.Cond.methodLink "FireSaleLaw" (209 : Nat) ({ cls := "FireSale", name := "keystone", desc := "()I" } : Jvm.MethodName)) ∈ lw_all := lw_g (lw_at lw_m5 75 rfl) rfl
theorem q1137 : (Jvm.Cond.methodLink "FireSaleLaw" (213 : Nat) ({ cls := "FireSale", name := "pulls", desc := "(I)I" } : Jvm.MethodName)) ∈ lw_all := lw_g (lw_at lw_m5 80 rfl) rfl
theorem q1141 : (Jvm.Cond.methodLink "FireSaleLaw" (217 : Nat) ({ cls := "FireSale", name := "room", desc := "(I)I" } : Jvm.MethodName)) ∈ lw_all := lw_g (lw_at lw_m5 84 rfl) rfl
theorem q1145 : (Jvm.Cond.methodLink "FireSaleLaw" (221 : Nat) ({ cls := "FireSale", name := "stress", desc := "(II)I" } : Jvm.MethodName)) ∈ lw_all := lw_g (lw_at lw_m5 88 rfl) rfl
theorem q1154 : (Jvm.Cond.methodLink "FireSaleLaw" (225 : Nat) ({ cls := "FireSale", name := "fewest", desc := "()I" } : Jvm.MethodName)) ∈ lw_all := lw_g (lw_at lw_m5 97 rfl) rfl
theorem q1158 : (Jvm.Cond.methodLink "FireSaleLaw" (229 : Nat) ({ cls := "FireSale", name := "doubtful", desc := "()I" } : Jvm.MethodName)) ∈ lw_all := lw_g (lw_at lw_m5 101 rfl) rfl
theorem q1162 : (Jvm.Cond.methodLink "FireSaleLaw" (233 : Nat) ({ cls := "FireSale", name := "spell", desc := "(I)I" } : Jvm.MethodName)) ∈ lw_all := lw_g (lw_at lw_m5 105 rfl) rfl
theorem q1445 : (Jvm.Cond.methodLink "FireSaleLaw" (237 : Nat) ({ cls := "FireSale", name := "count", desc := "(I)I" } : Jvm.MethodName)) ∈ lw_all := lw_g (lw_at lw_m6 148 rfl) rfl
theorem q1454 : (Jvm.Cond.methodLink "FireSaleLaw" (13 : Nat) ({ cls := "FireSale", name := "feed", desc := "(IIIII)I" } : Jvm.MethodName)) ∈ lw_all := lw_g (lw_at lw_m6 157 rfl) rfl
theorem q1462 : (Jvm.Cond.methodLink "FireSaleLaw" (18 : Nat) ({ cls := "FireSale", name := "back", desc := "(I)I" } : Jvm.MethodName)) ∈ lw_all := lw_g (lw_at lw_m6 165 rfl) rfl
theorem q1466 : (Jvm.Cond.methodLink "FireSaleLaw" (23 : Nat) ({ cls := "FireSale", name := "text", desc := "()I" } : Jvm.MethodName)) ∈ lw_all := lw_g (lw_at lw_m6 169 rfl) rfl
theorem q1594 : (Jvm.Cond.classLink "FireSaleLaw" (10 : Nat) "FireSaleModel") ∈ lw_all := lw_g (lw_at lw_m7 57 rfl) rfl
theorem q1596 : (Jvm.Cond.methodLink "FireSaleLaw" (12 : Nat) ({ cls := "FireSaleModel", name := "<init>", desc := "()V" } : Jvm.MethodName)) ∈ lw_all := lw_g (lw_at lw_m7 59 rfl) rfl
theorem q1705 : (Jvm.Cond.methodLink "FireSaleLaw" (17 : Nat) ({ cls := "FireSaleModel", name := "feed", desc := "(IIIII)I" } : Jvm.MethodName)) ∈ lw_all := lw_g (lw_at lw_m7 168 rfl) rfl
theorem q1709 : (Jvm.Cond.methodLink "FireSaleLaw" (22 : Nat) ({ cls := "FireSaleModel", name := "back", desc := "(I)I" } : Jvm.MethodName)) ∈ lw_all := lw_g (lw_at lw_m7 172 rfl) rfl
theorem q1716 : (Jvm.Cond.methodLink "FireSaleLaw" (27 : Nat) ({ cls := "FireSaleModel", name := "text", desc := "()I" } : Jvm.MethodName)) ∈ lw_all := lw_g (lw_at lw_m7 179 rfl) rfl
theorem q1776 : (Jvm.Cond.methodLink "FireSaleLaw" (32 : Nat) ({ cls := "FireSaleModel", name := "asset", desc := "(II)I" } : Jvm.MethodName)) ∈ lw_all := lw_g (lw_at lw_m7 239 rfl) rfl
theorem q1784 : (Jvm.Cond.methodLink "FireSaleLaw" (36 : Nat) ({ cls := "FireSaleModel", name := "house", desc := "(II)I" } : Jvm.MethodName)) ∈ lw_all := lw_g (lw_at lw_m8 7 rfl) rfl
theorem q1788 : (Jvm.Cond.methodLink "FireSaleLaw" (41 : Nat) ({ cls := "FireSaleModel", name := "set", desc := "(III)I" } : Jvm.MethodName)) ∈ lw_all := lw_g (lw_at lw_m8 11 rfl) rfl
theorem q1804 : (Jvm.Cond.methodLink "FireSaleLaw" (45 : Nat) ({ cls := "FireSaleModel", name := "hold", desc := "(III)I" } : Jvm.MethodName)) ∈ lw_all := lw_g (lw_at lw_m8 27 rfl) rfl
theorem q1816 : (Jvm.Cond.methodLink "FireSaleLaw" (49 : Nat) ({ cls := "FireSaleModel", name := "loan", desc := "(III)I" } : Jvm.MethodName)) ∈ lw_all := lw_g (lw_at lw_m8 39 rfl) rfl
theorem q1824 : (Jvm.Cond.methodLink "FireSaleLaw" (53 : Nat) ({ cls := "FireSaleModel", name := "curve", desc := "(III)I" } : Jvm.MethodName)) ∈ lw_all := lw_g (lw_at lw_m8 47 rfl) rfl
theorem q1828 : (Jvm.Cond.methodLink "FireSaleLaw" (58 : Nat) ({ cls := "FireSaleModel", name := "lay", desc := "(IIII)I" } : Jvm.MethodName)) ∈ lw_all := lw_g (lw_at lw_m8 51 rfl) rfl
theorem q1832 : (Jvm.Cond.methodLink "FireSaleLaw" (62 : Nat) ({ cls := "FireSaleModel", name := "lift", desc := "(II)I" } : Jvm.MethodName)) ∈ lw_all := lw_g (lw_at lw_m8 55 rfl) rfl
theorem q1836 : (Jvm.Cond.methodLink "FireSaleLaw" (66 : Nat) ({ cls := "FireSaleModel", name := "net", desc := "(II)I" } : Jvm.MethodName)) ∈ lw_all := lw_g (lw_at lw_m8 59 rfl) rfl
theorem q1840 : (Jvm.Cond.methodLink "FireSaleLaw" (70 : Nat) ({ cls := "FireSaleModel", name := "merge", desc := "(II)I" } : Jvm.MethodName)) ∈ lw_all := lw_g (lw_at lw_m8 63 rfl) rfl
theorem q1855 : (Jvm.Cond.methodLink "FireSaleLaw" (74 : Nat) ({ cls := "FireSaleModel", name := "close", desc := "(I)I" } : Jvm.MethodName)) ∈ lw_all := lw_g (lw_at lw_m8 78 rfl) rfl
theorem q1859 : (Jvm.Cond.methodLink "FireSaleLaw" (78 : Nat) ({ cls := "FireSaleModel", name := "live", desc := "()I" } : Jvm.MethodName)) ∈ lw_all := lw_g (lw_at lw_m8 82 rfl) rfl
theorem q1942 : (Jvm.Cond.methodLink "FireSaleLaw" (82 : Nat) ({ cls := "FireSaleModel", name := "undo", desc := "()I" } : Jvm.MethodName)) ∈ lw_all := lw_g (lw_at lw_m8 165 rfl) rfl
theorem q1946 : (Jvm.Cond.methodLink "FireSaleLaw" (86 : Nat) ({ cls := "FireSaleModel", name := "of", desc := "(II)I" } : Jvm.MethodName)) ∈ lw_all := lw_g (lw_at lw_m8 169 rfl) rfl
theorem q1950 : (Jvm.Cond.methodLink "FireSaleLaw" (90 : Nat) ({ cls := "FireSaleModel", name := "holding", desc := "(II)I" } : Jvm.MethodName)) ∈ lw_all := lw_g (lw_at lw_m8 173 rfl) rfl
theorem q1954 : (Jvm.Cond.methodLink "FireSaleLaw" (94 : Nat) ({ cls := "FireSaleModel", name := "owes", desc := "(II)I" } : Jvm.MethodName)) ∈ lw_all := lw_g (lw_at lw_m8 177 rfl) rfl
theorem q1958 : (Jvm.Cond.methodLink "FireSaleLaw" (98 : Nat) ({ cls := "FireSaleModel", name := "ofAsset", desc := "(II)I" } : Jvm.MethodName)) ∈ lw_all := lw_g (lw_at lw_m8 181 rfl) rfl
theorem q1962 : (Jvm.Cond.methodLink "FireSaleLaw" (102 : Nat) ({ cls := "FireSaleModel", name := "shelf", desc := "(III)I" } : Jvm.MethodName)) ∈ lw_all := lw_g (lw_at lw_m8 185 rfl) rfl
theorem q1966 : (Jvm.Cond.methodLink "FireSaleLaw" (106 : Nat) ({ cls := "FireSaleModel", name := "state", desc := "(II)I" } : Jvm.MethodName)) ∈ lw_all := lw_g (lw_at lw_m8 189 rfl) rfl
theorem q1982 : (Jvm.Cond.methodLink "FireSaleLaw" (111 : Nat) ({ cls := "FireSaleModel", name := "rounds", desc := "(Z)I" } : Jvm.MethodName)) ∈ lw_all := lw_g (lw_at lw_m8 205 rfl) rfl
theorem q1986 : (Jvm.Cond.methodLink "FireSaleLaw" (115 : Nat) ({ cls := "FireSaleModel", name := "price", desc := "(II)I" } : Jvm.MethodName)) ∈ lw_all := lw_g (lw_at lw_m8 209 rfl) rfl
theorem q1990 : (Jvm.Cond.methodLink "FireSaleLaw" (119 : Nat) ({ cls := "FireSaleModel", name := "worth", desc := "(II)I" } : Jvm.MethodName)) ∈ lw_all := lw_g (lw_at lw_m8 213 rfl) rfl
theorem q1995 : (Jvm.Cond.methodLink "FireSaleLaw" (123 : Nat) ({ cls := "FireSaleModel", name := "mustSell", desc := "(III)I" } : Jvm.MethodName)) ∈ lw_all := lw_g (lw_at lw_m8 218 rfl) rfl
theorem q1999 : (Jvm.Cond.methodLink "FireSaleLaw" (127 : Nat) ({ cls := "FireSaleModel", name := "round", desc := "(II)I" } : Jvm.MethodName)) ∈ lw_all := lw_g (lw_at lw_m8 222 rfl) rfl
theorem q2007 : (Jvm.Cond.methodLink "FireSaleLaw" (131 : Nat) ({ cls := "FireSaleModel", name := "worthIn", desc := "(II)I" } : Jvm.MethodName)) ∈ lw_all := lw_g (lw_at lw_m8 230 rfl) rfl
theorem q2011 : (Jvm.Cond.methodLink "FireSaleLaw" (135 : Nat) ({ cls := "FireSaleModel", name := "sharpest", desc := "()I" } : Jvm.MethodName)) ∈ lw_all := lw_g (lw_at lw_m8 234 rfl) rfl
theorem q2015 : (Jvm.Cond.methodLink "FireSaleLaw" (139 : Nat) ({ cls := "FireSaleModel", name := "ranked", desc := "(I)I" } : Jvm.MethodName)) ∈ lw_all := lw_g (lw_at lw_m8 238 rfl) rfl
theorem q2023 : (Jvm.Cond.methodLink "FireSaleLaw" (143 : Nat) ({ cls := "FireSaleModel", name := "fellIn", desc := "(I)I" } : Jvm.MethodName)) ∈ lw_all := lw_g (lw_at lw_m9 6 rfl) rfl
theorem q2027 : (Jvm.Cond.methodLink "FireSaleLaw" (147 : Nat) ({ cls := "FireSaleModel", name := "next", desc := "(IIII)I" } : Jvm.MethodName)) ∈ lw_all := lw_g (lw_at lw_m9 10 rfl) rfl
theorem q2035 : (Jvm.Cond.methodLink "FireSaleLaw" (151 : Nat) ({ cls := "FireSaleModel", name := "isSteady", desc := "(III)I" } : Jvm.MethodName)) ∈ lw_all := lw_g (lw_at lw_m9 18 rfl) rfl
theorem q2039 : (Jvm.Cond.methodLink "FireSaleLaw" (155 : Nat) ({ cls := "FireSaleModel", name := "index", desc := "(I)I" } : Jvm.MethodName)) ∈ lw_all := lw_g (lw_at lw_m9 22 rfl) rfl
theorem q2052 : (Jvm.Cond.methodLink "FireSaleLaw" (159 : Nat) ({ cls := "FireSaleModel", name := "drop", desc := "(I)I" } : Jvm.MethodName)) ∈ lw_all := lw_g (lw_at lw_m9 35 rfl) rfl
theorem q2057 : (Jvm.Cond.methodLink "FireSaleLaw" (163 : Nat) ({ cls := "FireSaleModel", name := "ratio", desc := "(II)I" } : Jvm.MethodName)) ∈ lw_all := lw_g (lw_at lw_m9 40 rfl) rfl
theorem q2061 : (Jvm.Cond.methodLink "FireSaleLaw" (168 : Nat) ({ cls := "FireSaleModel", name := "mood", desc := "()J" } : Jvm.MethodName)) ∈ lw_all := lw_g (lw_at lw_m9 44 rfl) rfl
theorem q2071 : (Jvm.Cond.methodLink "FireSaleLaw" (172 : Nat) ({ cls := "FireSaleModel", name := "hundredths", desc := "()I" } : Jvm.MethodName)) ∈ lw_all := lw_g (lw_at lw_m9 54 rfl) rfl
theorem q2076 : (Jvm.Cond.methodLink "FireSaleLaw" (176 : Nat) ({ cls := "FireSaleModel", name := "rescue", desc := "(III)I" } : Jvm.MethodName)) ∈ lw_all := lw_g (lw_at lw_m9 59 rfl) rfl
theorem q2080 : (Jvm.Cond.methodLink "FireSaleLaw" (180 : Nat) ({ cls := "FireSaleModel", name := "helper", desc := "(II)I" } : Jvm.MethodName)) ∈ lw_all := lw_g (lw_at lw_m9 63 rfl) rfl
theorem q2092 : (Jvm.Cond.methodLink "FireSaleLaw" (184 : Nat) ({ cls := "FireSaleModel", name := "coinsFor", desc := "(I)I" } : Jvm.MethodName)) ∈ lw_all := lw_g (lw_at lw_m9 75 rfl) rfl
theorem q2100 : (Jvm.Cond.methodLink "FireSaleLaw" (188 : Nat) ({ cls := "FireSaleModel", name := "aid", desc := "(III)I" } : Jvm.MethodName)) ∈ lw_all := lw_g (lw_at lw_m9 83 rfl) rfl
theorem q2104 : (Jvm.Cond.methodLink "FireSaleLaw" (192 : Nat) ({ cls := "FireSaleModel", name := "bestAid", desc := "(III)I" } : Jvm.MethodName)) ∈ lw_all := lw_g (lw_at lw_m9 87 rfl) rfl
theorem q2116 : (Jvm.Cond.methodLink "FireSaleLaw" (196 : Nat) ({ cls := "FireSaleModel", name := "buyer", desc := "(III)I" } : Jvm.MethodName)) ∈ lw_all := lw_g (lw_at lw_m9 99 rfl) rfl
theorem q2120 : (Jvm.Cond.methodLink "FireSaleLaw" (200 : Nat) ({ cls := "FireSaleModel", name := "capFor", desc := "(I)I" } : Jvm.MethodName)) ∈ lw_all := lw_g (lw_at lw_m9 103 rfl) rfl
theorem q2132 : (Jvm.Cond.methodLink "FireSaleLaw" (204 : Nat) ({ cls := "FireSaleModel", name := "shockFor", desc := "(I)I" } : Jvm.MethodName)) ∈ lw_all := lw_g (lw_at lw_m9 115 rfl) rfl
theorem q2136 : (Jvm.Cond.methodLink "FireSaleLaw" (208 : Nat) ({ cls := "FireSaleModel", name := "domino", desc := "(II)I" } : Jvm.MethodName)) ∈ lw_all := lw_g (lw_at lw_m9 119 rfl) rfl
theorem q2144 : (Jvm.Cond.methodLink "FireSaleLaw" (212 : Nat) ({ cls := "FireSaleModel", name := "keystone", desc := "()I" } : Jvm.MethodName)) ∈ lw_all := lw_g (lw_at lw_m9 127 rfl) rfl
theorem q2148 : (Jvm.Cond.methodLink "FireSaleLaw" (216 : Nat) ({ cls := "FireSaleModel", name := "pulls", desc := "(I)I" } : Jvm.MethodName)) ∈ lw_all := lw_g (lw_at lw_m9 131 rfl) rfl
theorem q2152 : (Jvm.Cond.methodLink "FireSaleLaw" (220 : Nat) ({ cls := "FireSaleModel", name := "room", desc := "(I)I" } : Jvm.MethodName)) ∈ lw_all := lw_g (lw_at lw_m9 135 rfl) rfl
theorem q2156 : (Jvm.Cond.methodLink "FireSaleLaw" (224 : Nat) ({ cls := "FireSaleModel", name := "stress", desc := "(II)I" } : Jvm.MethodName)) ∈ lw_all := lw_g (lw_at lw_m9 139 rfl) rfl
theorem q2160 : (Jvm.Cond.methodLink "FireSaleLaw" (228 : Nat) ({ cls := "FireSaleModel", name := "fewest", desc := "()I" } : Jvm.MethodName)) ∈ lw_all := lw_g (lw_at lw_m9 143 rfl) rfl
theorem q2164 : (Jvm.Cond.methodLink "FireSaleLaw" (232 : Nat) ({ cls := "FireSaleModel", name := "doubtful", desc := "()I" } : Jvm.MethodName)) ∈ lw_all := lw_g (lw_at lw_m9 147 rfl) rfl
theorem q2168 : (Jvm.Cond.methodLink "FireSaleLaw" (236 : Nat) ({ cls := "FireSaleModel", name := "spell", desc := "(I)I" } : Jvm.MethodName)) ∈ lw_all := lw_g (lw_at lw_m9 151 rfl) rfl
theorem q2188 : (Jvm.Cond.methodLink "FireSaleLaw" (240 : Nat) ({ cls := "FireSaleModel", name := "count", desc := "(I)I" } : Jvm.MethodName)) ∈ lw_all := lw_g (lw_at lw_m9 171 rfl) rfl
theorem q1237 : (Jvm.Cond.sameMethod "[B" "java/lang/Object" "clone" "()Ljava/lang/Object;") ∈ lw_all := lw_g (lw_at lw_m5 180 rfl) rfl
theorem q1238 : (Jvm.Cond.selects "[B" ({ cls := "[B", name := "clone", desc := "()Ljava/lang/Object;" } : Jvm.MethodName) ({ cls := "java/lang/Object", name := "clone", desc := "()Ljava/lang/Object;" } : Jvm.MethodName)) ∈ lw_all := lw_g (lw_at lw_m5 181 rfl) rfl
theorem q1239 : (Jvm.Cond.castable "[B" "java/lang/Cloneable") ∈ lw_tbl := lw_at lw_m5 182 rfl
theorem q2241 : (Jvm.Cond.castable "[B" "java/lang/Object") ∈ lw_tbl := lw_at lw_m9 224 rfl
theorem q347 : (Jvm.Cond.sameMethod "[I" "java/lang/Object" "clone" "()Ljava/lang/Object;") ∈ lw_all := lw_g (lw_at lw_m2 10 rfl) rfl
theorem q348 : (Jvm.Cond.selects "[I" ({ cls := "[I", name := "clone", desc := "()Ljava/lang/Object;" } : Jvm.MethodName) ({ cls := "java/lang/Object", name := "clone", desc := "()Ljava/lang/Object;" } : Jvm.MethodName)) ∈ lw_all := lw_g (lw_at lw_m2 11 rfl) rfl
theorem q349 : (Jvm.Cond.castable "[I" "java/lang/Cloneable") ∈ lw_tbl := lw_at lw_m2 12 rfl
theorem q2237 : (Jvm.Cond.castable "[I" "java/lang/Object") ∈ lw_tbl := lw_at lw_m9 220 rfl
theorem q2207 : (Jvm.Cond.sameMethod "[LFireSale$Cap;" "java/lang/Object" "clone" "()Ljava/lang/Object;") ∈ lw_all := lw_g (lw_at lw_m9 190 rfl) rfl
theorem q2208 : (Jvm.Cond.selects "[LFireSale$Cap;" ({ cls := "[LFireSale$Cap;", name := "clone", desc := "()Ljava/lang/Object;" } : Jvm.MethodName) ({ cls := "java/lang/Object", name := "clone", desc := "()Ljava/lang/Object;" } : Jvm.MethodName)) ∈ lw_all := lw_g (lw_at lw_m9 191 rfl) rfl
theorem q2209 : (Jvm.Cond.castable "[LFireSale$Cap;" "java/lang/Cloneable") ∈ lw_tbl := lw_at lw_m9 192 rfl
theorem q2236 : (Jvm.Cond.castable "[LFireSale$Cap;" "java/lang/Object") ∈ lw_tbl := lw_at lw_m9 219 rfl
theorem q362 : (Jvm.Cond.sameMethod "[LFireSale$Rule;" "java/lang/Object" "clone" "()Ljava/lang/Object;") ∈ lw_all := lw_g (lw_at lw_m2 25 rfl) rfl
theorem q363 : (Jvm.Cond.selects "[LFireSale$Rule;" ({ cls := "[LFireSale$Rule;", name := "clone", desc := "()Ljava/lang/Object;" } : Jvm.MethodName) ({ cls := "java/lang/Object", name := "clone", desc := "()Ljava/lang/Object;" } : Jvm.MethodName)) ∈ lw_all := lw_g (lw_at lw_m2 26 rfl) rfl
theorem q364 : (Jvm.Cond.castable "[LFireSale$Rule;" "java/lang/Cloneable") ∈ lw_tbl := lw_at lw_m2 27 rfl
theorem q2239 : (Jvm.Cond.castable "[LFireSale$Rule;" "java/lang/Object") ∈ lw_tbl := lw_at lw_m9 222 rfl
theorem q352 : (Jvm.Cond.sameMethod "[LFireSale$Shelf;" "java/lang/Object" "clone" "()Ljava/lang/Object;") ∈ lw_all := lw_g (lw_at lw_m2 15 rfl) rfl
theorem q353 : (Jvm.Cond.selects "[LFireSale$Shelf;" ({ cls := "[LFireSale$Shelf;", name := "clone", desc := "()Ljava/lang/Object;" } : Jvm.MethodName) ({ cls := "java/lang/Object", name := "clone", desc := "()Ljava/lang/Object;" } : Jvm.MethodName)) ∈ lw_all := lw_g (lw_at lw_m2 16 rfl) rfl
theorem q354 : (Jvm.Cond.castable "[LFireSale$Shelf;" "java/lang/Cloneable") ∈ lw_tbl := lw_at lw_m2 17 rfl
theorem q2235 : (Jvm.Cond.castable "[LFireSale$Shelf;" "java/lang/Object") ∈ lw_tbl := lw_at lw_m9 218 rfl
theorem q2210 : (Jvm.Cond.sameMethod "[LFireSale$Shock;" "java/lang/Object" "clone" "()Ljava/lang/Object;") ∈ lw_all := lw_g (lw_at lw_m9 193 rfl) rfl
theorem q2211 : (Jvm.Cond.selects "[LFireSale$Shock;" ({ cls := "[LFireSale$Shock;", name := "clone", desc := "()Ljava/lang/Object;" } : Jvm.MethodName) ({ cls := "java/lang/Object", name := "clone", desc := "()Ljava/lang/Object;" } : Jvm.MethodName)) ∈ lw_all := lw_g (lw_at lw_m9 194 rfl) rfl
theorem q2212 : (Jvm.Cond.castable "[LFireSale$Shock;" "java/lang/Cloneable") ∈ lw_tbl := lw_at lw_m9 195 rfl
theorem q2238 : (Jvm.Cond.castable "[LFireSale$Shock;" "java/lang/Object") ∈ lw_tbl := lw_at lw_m9 221 rfl
theorem q2231 : (Jvm.Cond.sameMethod "[Ljava/lang/Object;" "java/lang/Object" "getClass" "()Ljava/lang/Class;") ∈ lw_all := lw_g (lw_at lw_m9 214 rfl) rfl
theorem q2232 : (Jvm.Cond.selects "[Ljava/lang/Object;" ({ cls := "java/lang/Object", name := "getClass", desc := "()Ljava/lang/Class;" } : Jvm.MethodName) ({ cls := "java/lang/Object", name := "getClass", desc := "()Ljava/lang/Class;" } : Jvm.MethodName)) ∈ lw_all := lw_g (lw_at lw_m9 215 rfl) rfl
theorem q2240 : (Jvm.Cond.castable "[Ljava/lang/Object;" "java/lang/Object") ∈ lw_tbl := lw_at lw_m9 223 rfl
theorem q341 : (Jvm.Cond.sameMethod "[[I" "java/lang/Object" "clone" "()Ljava/lang/Object;") ∈ lw_all := lw_g (lw_at lw_m2 4 rfl) rfl
theorem q344 : (Jvm.Cond.selects "[[I" ({ cls := "[[I", name := "clone", desc := "()Ljava/lang/Object;" } : Jvm.MethodName) ({ cls := "java/lang/Object", name := "clone", desc := "()Ljava/lang/Object;" } : Jvm.MethodName)) ∈ lw_all := lw_g (lw_at lw_m2 7 rfl) rfl
theorem q345 : (Jvm.Cond.castable "[[I" "java/lang/Cloneable") ∈ lw_tbl := lw_at lw_m2 8 rfl
theorem q2234 : (Jvm.Cond.castable "[[I" "java/lang/Object") ∈ lw_tbl := lw_at lw_m9 217 rfl
theorem q124 : (Jvm.Cond.initialized "java/lang/Number") ∈ lw_all := lw_g (lw_at lw_m1 27 rfl) rfl
theorem q118 : (Jvm.Cond.initialized "java/lang/System") ∈ lw_all := lw_g (lw_at lw_m1 21 rfl) rfl
theorem q411 : (Jvm.Cond.static ({ cls := "java/lang/System", name := "arraycopy", desc := "(Ljava/lang/Object;ILjava/lang/Object;II)V" } : Jvm.MethodName)) ∈ lw_all := lw_g (lw_at lw_m2 74 rfl) rfl
theorem q412 : (Jvm.Cond.native ({ cls := "java/lang/System", name := "arraycopy", desc := "(Ljava/lang/Object;ILjava/lang/Object;II)V" } : Jvm.MethodName)) ∈ lw_all := lw_g (lw_at lw_m2 75 rfl) rfl
theorem q123 : (Jvm.Cond.initialized "jdk/internal/misc/UnsafeConstants") ∈ lw_all := lw_g (lw_at lw_m1 26 rfl) rfl
theorem q732 : (Jvm.Cond.laysStatic "jdk/internal/misc/UnsafeConstants" "BIG_ENDIAN" "Z") ∈ lw_tbl := lw_at lw_m3 155 rfl
theorem q146 : (Jvm.Cond.arrayOver (Jvm.ClassFile.FieldType.array Jvm.ClassFile.FieldType.int)) ∈ lw_tbl := lw_at lw_m1 49 rfl
theorem q148 : (Jvm.Cond.arrayOver (Jvm.ClassFile.FieldType.object "FireSale$Shelf")) ∈ lw_tbl := lw_at lw_m1 51 rfl
theorem q151 : (Jvm.Cond.arrayOver (Jvm.ClassFile.FieldType.object "FireSale$Cap")) ∈ lw_tbl := lw_at lw_m1 54 rfl
theorem q168 : (Jvm.Cond.arrayClass Jvm.ClassFile.FieldType.int) ∈ lw_all := lw_g (lw_at lw_m1 71 rfl) rfl
theorem q170 : (Jvm.Cond.arrayOver (Jvm.ClassFile.FieldType.object "FireSale$Shock")) ∈ lw_tbl := lw_at lw_m1 73 rfl
theorem q172 : (Jvm.Cond.arrayOver (Jvm.ClassFile.FieldType.object "FireSale$Rule")) ∈ lw_tbl := lw_at lw_m1 75 rfl
theorem q264 : (Jvm.Cond.arrayOver (Jvm.ClassFile.FieldType.object "java/lang/Object")) ∈ lw_tbl := lw_at lw_m1 167 rfl
theorem q296 : (Jvm.Cond.arrayClass Jvm.ClassFile.FieldType.byte) ∈ lw_all := lw_g (lw_at lw_m1 199 rfl) rfl
